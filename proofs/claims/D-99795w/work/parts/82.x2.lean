/-! ===== THE SYSTEM: nodes of a rule (walks by program) ===== -/
set_option maxRecDepth 100000

theorem aX10_0 : ev_AF "PepperTables$Not" 13 0 := ⟨_, yX14_of, cX14_of, 7, rfl, by decide +kernel, by decide +kernel, ⟨q1268, q1226, q1228, q1230⟩, ⟨dX14_of_0, dX14_of_1, dX14_of_4⟩, q218⟩

theorem aX10_1 : ev_AF "PepperTables$Not" 13 1 := ⟨_, yX15_of, cX15_of, 7, rfl, by decide +kernel, by decide +kernel, ⟨q1268, q1232, q1234, q1236⟩, ⟨dX15_of_0, dX15_of_1, dX15_of_4⟩, q220⟩

theorem aX10_2 : ev_AF "PepperTables$Not" 13 2 := ⟨_, yX16_of, cX16_of, 7, rfl, by decide +kernel, by decide +kernel, ⟨q1268, q1238, q1240, q1242⟩, ⟨dX16_of_0, dX16_of_1, dX16_of_4⟩, q222⟩

theorem aX10_3 : ev_AF "PepperTables$Not" 13 3 := ⟨_, yX17_of, cX17_of, 7, rfl, by decide +kernel, by decide +kernel, ⟨q1268, q1244, q1246, q1248⟩, ⟨dX17_of_0, dX17_of_1, dX17_of_4⟩, q224⟩

theorem aX10_4 : ev_AF "PepperTables$Not" 13 4 := ⟨_, yX18_of, cX18_of, 7, rfl, by decide +kernel, by decide +kernel, ⟨q1268, q1250, q1252, q1254⟩, ⟨dX18_of_0, dX18_of_1, dX18_of_4⟩, q226⟩

theorem aX10_5 : ev_AF "PepperTables$Not" 13 5 := ⟨_, yX19_of, cX19_of, 7, rfl, by decide +kernel, by decide +kernel, ⟨q1268, q1256, q1258, q1260⟩, ⟨dX19_of_0, dX19_of_1, dX19_of_4⟩, q228⟩

theorem aX12_0 : ev_AF "PepperTables$Pair" 20 0 := ⟨_, yX14_of, cX14_of, 7, rfl, by decide +kernel, by decide +kernel, ⟨q1276, q1226, q1228, q1230⟩, ⟨dX14_of_0, dX14_of_1, dX14_of_4⟩, q218⟩

theorem aX12_1 : ev_AF "PepperTables$Pair" 20 1 := ⟨_, yX15_of, cX15_of, 7, rfl, by decide +kernel, by decide +kernel, ⟨q1276, q1232, q1234, q1236⟩, ⟨dX15_of_0, dX15_of_1, dX15_of_4⟩, q220⟩

theorem aX12_2 : ev_AF "PepperTables$Pair" 20 2 := ⟨_, yX16_of, cX16_of, 7, rfl, by decide +kernel, by decide +kernel, ⟨q1276, q1238, q1240, q1242⟩, ⟨dX16_of_0, dX16_of_1, dX16_of_4⟩, q222⟩

theorem aX12_3 : ev_AF "PepperTables$Pair" 20 3 := ⟨_, yX17_of, cX17_of, 7, rfl, by decide +kernel, by decide +kernel, ⟨q1276, q1244, q1246, q1248⟩, ⟨dX17_of_0, dX17_of_1, dX17_of_4⟩, q224⟩

theorem aX12_4 : ev_AF "PepperTables$Pair" 20 4 := ⟨_, yX18_of, cX18_of, 7, rfl, by decide +kernel, by decide +kernel, ⟨q1276, q1250, q1252, q1254⟩, ⟨dX18_of_0, dX18_of_1, dX18_of_4⟩, q226⟩

theorem aX12_5 : ev_AF "PepperTables$Pair" 20 5 := ⟨_, yX19_of, cX19_of, 7, rfl, by decide +kernel, by decide +kernel, ⟨q1276, q1256, q1258, q1260⟩, ⟨dX19_of_0, dX19_of_1, dX19_of_4⟩, q228⟩

theorem aX3_0 : ev_AF "PepperTables$Table" 115 0 := ⟨_, yX14_of, cX14_of, 7, rfl, by decide +kernel, by decide +kernel, ⟨q1222, q1226, q1228, q1230⟩, ⟨dX14_of_0, dX14_of_1, dX14_of_4⟩, q218⟩

theorem aX3_1 : ev_AF "PepperTables$Table" 115 1 := ⟨_, yX15_of, cX15_of, 7, rfl, by decide +kernel, by decide +kernel, ⟨q1222, q1232, q1234, q1236⟩, ⟨dX15_of_0, dX15_of_1, dX15_of_4⟩, q220⟩

theorem aX3_2 : ev_AF "PepperTables$Table" 115 2 := ⟨_, yX16_of, cX16_of, 7, rfl, by decide +kernel, by decide +kernel, ⟨q1222, q1238, q1240, q1242⟩, ⟨dX16_of_0, dX16_of_1, dX16_of_4⟩, q222⟩

theorem aX3_3 : ev_AF "PepperTables$Table" 115 3 := ⟨_, yX17_of, cX17_of, 7, rfl, by decide +kernel, by decide +kernel, ⟨q1222, q1244, q1246, q1248⟩, ⟨dX17_of_0, dX17_of_1, dX17_of_4⟩, q224⟩

theorem aX3_4 : ev_AF "PepperTables$Table" 115 4 := ⟨_, yX18_of, cX18_of, 7, rfl, by decide +kernel, by decide +kernel, ⟨q1222, q1250, q1252, q1254⟩, ⟨dX18_of_0, dX18_of_1, dX18_of_4⟩, q226⟩

theorem aX3_5 : ev_AF "PepperTables$Table" 115 5 := ⟨_, yX19_of, cX19_of, 7, rfl, by decide +kernel, by decide +kernel, ⟨q1222, q1256, q1258, q1260⟩, ⟨dX19_of_0, dX19_of_1, dX19_of_4⟩, q228⟩

/-- all that may answer for the interface -/
def ev_NF (own : String) (index : Nat) : Prop := ev_FF own index mX11_of 11 1 ∧ ev_FF own index mX10_of 10 1 ∧ ev_FF own index mX12_of 12 1 ∧ ∀ i, i < 6 → ev_AF own index i

theorem nfX10 : ev_NF "PepperTables$Not" 13 := ⟨iX10_13_X11, iX10_13_X10, iX10_13_X12, fun i hi => match i, hi with
  | 0, _ => aX10_0
  | 1, _ => aX10_1
  | 2, _ => aX10_2
  | 3, _ => aX10_3
  | 4, _ => aX10_4
  | 5, _ => aX10_5⟩

theorem nfX12 : ev_NF "PepperTables$Pair" 20 := ⟨iX12_20_X11, iX12_20_X10, iX12_20_X12, fun i hi => match i, hi with
  | 0, _ => aX12_0
  | 1, _ => aX12_1
  | 2, _ => aX12_2
  | 3, _ => aX12_3
  | 4, _ => aX12_4
  | 5, _ => aX12_5⟩

theorem nfX3 : ev_NF "PepperTables$Table" 115 := ⟨iX3_115_X11, iX3_115_X10, iX3_115_X12, fun i hi => match i, hi with
  | 0, _ => aX3_0
  | 1, _ => aX3_1
  | 2, _ => aX3_2
  | 3, _ => aX3_3
  | 4, _ => aX3_4
  | 5, _ => aX3_5⟩

/-- asked at the node x with the answers of ak, v comes -/
def NodeOk (G : ev_G) (d : Nat) (h : ev_H) (x ak : Nat) (v : Int32) : Prop := (hK h x = 12 ∧ Called G mX11_of d 0 0 [vR x, vR ak] h (px (vI v) h)) ∨ (∃ i, i < 6 ∧ hK h x = 15 + i ∧ hI h ak i = v) ∨ (hK h x = 11 ∧ Called G mX10_of d 0 0 [vR x, vR ak] h (px (vI v) h)) ∨ (hK h x = 13 ∧ Called G mX12_of d 0 0 [vR x, vR ak] h (px (vI v) h))
theorem ev_rok_le {R : Room} {d n n2 : Nat} (h : ev_rok R d n = true) (hn : n2 ≤ n) : ev_rok R d n2 = true := by
  have := ev_rok_ok h
  unfold ev_rok
  rw [Bool.and_eq_true]
  exact ⟨Nat.ble_eq_true_of_le this.1, Nat.ble_eq_true_of_le (by omega)⟩
theorem ev_rok_s {d n mc ms : Nat} (hn : n ≤ 21) : ev_rok (ev_room (d + 1) mc ms) d n = true := by
  unfold ev_rok
  rw [Bool.and_eq_true]
  exact ⟨Nat.ble_eq_true_of_le (Nat.le_refl _), Nat.ble_eq_true_of_le (by show 8 + (n + 11) + 40 * d ≤ 40 * (d + 1); omega)⟩
theorem r_node {G : ev_G} {M : ev_M} {R : Room} {Qf : List Frame → Array Value → State → State → Prop} {pc uc us : Nat} {L : List (Option ev_V)} {st : List ev_V} {h : ev_H} {index cnt x ak d : Nat} {v : Int32} (NF : ev_NF M.1.cls index) (hn : NodeOk G d h x ak v) (hak : hK h ak = 3) (hro : ev_rok R d 4 = true) (hc : uc ≤ R.cells) (hs : us ≤ R.slots) (hf : 1 ≤ R.frames) (hlo : 40 ≤ R.locals) (hsw : Nat.ble (ev_sw st) 8 = true) (hd : decode M.2.1 pc = .ok (.invokeinterface index cnt, 5))
    (kk : Ev G M R Qf (pc + 5) L (vI v :: st) h uc us) : Ev G M R Qf pc L (vR ak :: vR x :: st) h uc us := by
  rcases hn with ⟨hk, hC⟩ | ⟨i, hi, hk, hv⟩ | ⟨hk, hC⟩ | ⟨hk, hC⟩
  · exact r_callF NF.1 hC hk rfl rfl hsw (ev_rok_le hro (by decide)) hc hs hd (fun r h1 z => by obtain ⟨rfl, rfl⟩ := z; exact kk)
  · exact r_asked (NF.2.2.2 i hi) hi hk hak hv hf hlo hsw hd kk
  · exact r_callF NF.2.1 hC hk rfl rfl hsw (ev_rok_le hro (by decide)) hc hs hd (fun r h1 z => by obtain ⟨rfl, rfl⟩ := z; exact kk)
  · exact r_callF NF.2.2.1 hC hk rfl rfl hsw (ev_rok_le hro (by decide)) hc hs hd (fun r h1 z => by obtain ⟨rfl, rfl⟩ := z; exact kk)

theorem x11_of {G : ev_G} {h : ev_H} {x ak : Nat} {v : Int32} (hk : hK h x = 12) (hv : hI h x 0 = v) (d : Nat) : Called G mX11_of d 0 0 [vR x, vR ak] h (px (vI v) h) := by
  refine called_of rfl [some (vR x), some (vR ak)] rfl (Nat.le_of_ble_eq_true rfl) ?_
  refine r_aload_n dX11_of_0 rfl ?_
  refine r_getIv fX11_7 (hk) (v := v) (hv) rfl dX11_of_1 ?_
  exact r_retx dX11_of_4 rfl rfl (rfl)

theorem x10_of {G : ev_G} {h : ev_H} {x ak d x1 : Nat} {v : Int32} (hak : hK h ak = 3) (hk : hK h x = 11) (hx1 : hR h x 0 = x1) (h1 : NodeOk G d h x1 ak v) : Called G mX10_of (d + 1) 0 0 [vR x, vR ak] h (px (vI (if v = 0 then 1 else 0)) h) := by
  refine called_of rfl [some (vR x), some (vR ak)] rfl (Nat.le_of_ble_eq_true rfl) ?_
  refine r_aload_n dX10_of_0 rfl ?_
  refine r_getRv fX10_7 (hk) (v := x1) (hx1) rfl dX10_of_1 ?_
  refine r_aload_n dX10_of_4 rfl ?_
  refine r_node nfX10 h1 hak (ev_rok_s (by decide)) (Nat.le_refl _) (Nat.le_refl _) (by show 1 ≤ d + 1; omega) (by show 40 ≤ 40 * (d + 1); omega) rfl dX10_of_5 ?_
  refine r_if_ne (tgt := 17) dX10_of_10 rfl (fun c1 => ?_) (fun c1 => ?_)
  · --
    refine r_iconst (v := nI 0) dX10_of_17 (by decide) ?_
    exact r_retx dX10_of_18 rfl rfl (by simp [*, nI_0]; try rfl)
  · --
    refine r_iconst (v := nI 1) dX10_of_13 (by decide) ?_
    refine r_goto (tgt := 18) dX10_of_14 rfl ?_
    exact r_retx dX10_of_18 rfl rfl (by simp [*, nI_0]; try rfl)

theorem x12_of {G : ev_G} {h : ev_H} {x ak d x1 x2 : Nat} {av dv cq : Int32} (hak : hK h ak = 3) (hk : hK h x = 13) (hx1 : hR h x 0 = x1) (hx2 : hR h x 1 = x2) (hcq : hI h x 2 = cq) (h1 : NodeOk G d h x1 ak av) (h2 : NodeOk G d h x2 ak dv) : Called G mX12_of (d + 1) 0 0 [vR x, vR ak] h (px (vI (twoV cq av dv)) h) := by
  refine called_of rfl [some (vR x), some (vR ak), none, none] rfl (Nat.le_of_ble_eq_true rfl) ?_
  refine r_aload_n dX12_of_0 rfl ?_
  refine r_getRv fX12_7 (hk) (v := x1) (hx1) rfl dX12_of_1 ?_
  refine r_aload_n dX12_of_4 rfl ?_
  refine r_node nfX12 h1 hak (ev_rok_s (by decide)) (Nat.le_refl _) (Nat.le_refl _) (by show 1 ≤ d + 1; omega) (by show 40 ≤ 40 * (d + 1); omega) rfl dX12_of_5 ?_
  refine r_istore_n dX12_of_10 (by decide) rfl ?_
  refine r_aload_n dX12_of_11 rfl ?_
  refine r_getRv fX12_13 (hk) (v := x2) (hx2) rfl dX12_of_12 ?_
  refine r_aload_n dX12_of_15 rfl ?_
  refine r_node nfX12 h2 hak (ev_rok_s (by decide)) (Nat.le_refl _) (Nat.le_refl _) (by show 1 ≤ d + 1; omega) (by show 40 ≤ 40 * (d + 1); omega) rfl dX12_of_16 ?_
  refine r_istore_n dX12_of_21 (by decide) rfl ?_
  refine r_aload_n dX12_of_22 rfl ?_
  refine r_getIv fX12_16 (hk) (v := cq) (hcq) rfl dX12_of_23 ?_
  by_cases e37 : cq = nI 37
  · refine r_tswC (tgt := 168) (off := 142) 37 dX12_of_26 e37 (by decide) rfl ?_
    refine r_iload_n dX12_of_168 rfl ?_
    refine r_if_ne (tgt := 176) dX12_of_169 rfl (fun c1 => ?_) (fun c1 => ?_)
    · --
      refine r_iload_n dX12_of_176 rfl ?_
      refine r_iload_n dX12_of_177 rfl ?_
      refine r_irem dX12_of_178 (by assumption) ?_
      exact r_retx dX12_of_179 rfl rfl (by rw [e37]; first | rfl | exact b2i_dec (by simp_all) | exact b2i_decn (by simp_all) | (show _ = b2i _; simp [*]; rfl) | (show _ = ite _ _ _; simp [*]; try rfl))
    · --
      refine r_iconst (v := nI 0) dX12_of_172 (by decide) ?_
      refine r_goto (tgt := 179) dX12_of_173 rfl ?_
      exact r_retx dX12_of_179 rfl rfl (by rw [e37]; first | rfl | exact b2i_dec (by simp_all) | exact b2i_decn (by simp_all) | (show _ = b2i _; simp [*]; rfl) | (show _ = ite _ _ _; simp [*]; try rfl))
  by_cases e38 : cq = nI 38
  · refine r_tswC (tgt := 213) (off := 187) 38 dX12_of_26 e38 (by decide) rfl ?_
    refine r_iload_n dX12_of_213 rfl ?_
    refine r_if_eq (tgt := 225) dX12_of_214 rfl (fun c2 => ?_) (fun c2 => ?_)
    · --
      refine r_iconst (v := nI 0) dX12_of_225 (by decide) ?_
      exact r_retx dX12_of_226 rfl rfl (by rw [e38]; first | rfl | exact b2i_dec (by simp_all) | exact b2i_decn (by simp_all) | (show _ = b2i _; simp [*]; rfl) | (show _ = ite _ _ _; simp [*]; try rfl))
    · --
      refine r_iload_n dX12_of_217 rfl ?_
      refine r_if_eq (tgt := 225) dX12_of_218 rfl (fun c3 => ?_) (fun c3 => ?_)
      · --
        refine r_iconst (v := nI 0) dX12_of_225 (by decide) ?_
        exact r_retx dX12_of_226 rfl rfl (by rw [e38]; first | rfl | exact b2i_dec (by simp_all) | exact b2i_decn (by simp_all) | (show _ = b2i _; simp [*]; rfl) | (show _ = ite _ _ _; simp [*]; try rfl))
      · --
        refine r_iconst (v := nI 1) dX12_of_221 (by decide) ?_
        refine r_goto (tgt := 226) dX12_of_222 rfl ?_
        exact r_retx dX12_of_226 rfl rfl (by rw [e38]; first | rfl | exact b2i_dec (by simp_all) | exact b2i_decn (by simp_all) | (show _ = b2i _; simp [*]; rfl) | (show _ = ite _ _ _; simp [*]; try rfl))
  by_cases e42 : cq = nI 42
  · refine r_tswC (tgt := 152) (off := 126) 42 dX12_of_26 e42 (by decide) rfl ?_
    refine r_iload_n dX12_of_152 rfl ?_
    refine r_iload_n dX12_of_153 rfl ?_
    refine r_imul dX12_of_154 ?_
    exact r_retx dX12_of_155 rfl rfl (by rw [e42]; first | rfl | exact b2i_dec (by simp_all) | exact b2i_decn (by simp_all) | (show _ = b2i _; simp [*]; rfl) | (show _ = ite _ _ _; simp [*]; try rfl))
  by_cases e43 : cq = nI 43
  · refine r_tswC (tgt := 144) (off := 118) 43 dX12_of_26 e43 (by decide) rfl ?_
    refine r_iload_n dX12_of_144 rfl ?_
    refine r_iload_n dX12_of_145 rfl ?_
    refine r_iadd dX12_of_146 ?_
    exact r_retx dX12_of_147 rfl rfl (by rw [e43]; first | rfl | exact b2i_dec (by simp_all) | exact b2i_decn (by simp_all) | (show _ = b2i _; simp [*]; rfl) | (show _ = ite _ _ _; simp [*]; try rfl))
  by_cases e45 : cq = nI 45
  · refine r_tswC (tgt := 148) (off := 122) 45 dX12_of_26 e45 (by decide) rfl ?_
    refine r_iload_n dX12_of_148 rfl ?_
    refine r_iload_n dX12_of_149 rfl ?_
    refine r_isub dX12_of_150 ?_
    exact r_retx dX12_of_151 rfl rfl (by rw [e45]; first | rfl | exact b2i_dec (by simp_all) | exact b2i_decn (by simp_all) | (show _ = b2i _; simp [*]; rfl) | (show _ = ite _ _ _; simp [*]; try rfl))
  by_cases e47 : cq = nI 47
  · refine r_tswC (tgt := 156) (off := 130) 47 dX12_of_26 e47 (by decide) rfl ?_
    refine r_iload_n dX12_of_156 rfl ?_
    refine r_if_ne (tgt := 164) dX12_of_157 rfl (fun c4 => ?_) (fun c4 => ?_)
    · --
      refine r_iload_n dX12_of_164 rfl ?_
      refine r_iload_n dX12_of_165 rfl ?_
      refine r_idiv dX12_of_166 (by assumption) ?_
      exact r_retx dX12_of_167 rfl rfl (by rw [e47]; first | rfl | exact b2i_dec (by simp_all) | exact b2i_decn (by simp_all) | (show _ = b2i _; simp [*]; rfl) | (show _ = ite _ _ _; simp [*]; try rfl))
    · --
      refine r_iconst (v := nI 0) dX12_of_160 (by decide) ?_
      refine r_goto (tgt := 167) dX12_of_161 rfl ?_
      exact r_retx dX12_of_167 rfl rfl (by rw [e47]; first | rfl | exact b2i_dec (by simp_all) | exact b2i_decn (by simp_all) | (show _ = b2i _; simp [*]; rfl) | (show _ = ite _ _ _; simp [*]; try rfl))
  by_cases e60 : cq = nI 60
  · refine r_tswC (tgt := 180) (off := 154) 60 dX12_of_26 e60 (by decide) rfl ?_
    refine r_iload_n dX12_of_180 rfl ?_
    refine r_iload_n dX12_of_181 rfl ?_
    refine r_icmp_ge (tgt := 189) dX12_of_182 rfl (fun c5 => ?_) (fun c5 => ?_)
    · --
      refine r_iconst (v := nI 0) dX12_of_189 (by decide) ?_
      exact r_retx dX12_of_190 rfl rfl (by rw [e60]; first | rfl | exact b2i_dec (by simp_all) | exact b2i_decn (by simp_all) | (show _ = b2i _; simp [*]; rfl) | (show _ = ite _ _ _; simp [*]; try rfl))
    · --
      refine r_iconst (v := nI 1) dX12_of_185 (by decide) ?_
      refine r_goto (tgt := 190) dX12_of_186 rfl ?_
      exact r_retx dX12_of_190 rfl rfl (by rw [e60]; first | rfl | exact b2i_dec (by simp_all) | exact b2i_decn (by simp_all) | (show _ = b2i _; simp [*]; rfl) | (show _ = ite _ _ _; simp [*]; try rfl))
  by_cases e61 : cq = nI 61
  · refine r_tswC (tgt := 202) (off := 176) 61 dX12_of_26 e61 (by decide) rfl ?_
    refine r_iload_n dX12_of_202 rfl ?_
    refine r_iload_n dX12_of_203 rfl ?_
    refine r_icmp_ne (tgt := 211) dX12_of_204 rfl (fun c6 => ?_) (fun c6 => ?_)
    · --
      refine r_iconst (v := nI 0) dX12_of_211 (by decide) ?_
      exact r_retx dX12_of_212 rfl rfl (by rw [e61]; first | rfl | exact b2i_dec (by simp_all) | exact b2i_decn (by simp_all) | (show _ = b2i _; simp [*]; rfl) | (show _ = ite _ _ _; simp [*]; try rfl))
    · --
      refine r_iconst (v := nI 1) dX12_of_207 (by decide) ?_
      refine r_goto (tgt := 212) dX12_of_208 rfl ?_
      exact r_retx dX12_of_212 rfl rfl (by rw [e61]; first | rfl | exact b2i_dec (by simp_all) | exact b2i_decn (by simp_all) | (show _ = b2i _; simp [*]; rfl) | (show _ = ite _ _ _; simp [*]; try rfl))
  by_cases e62 : cq = nI 62
  · refine r_tswC (tgt := 191) (off := 165) 62 dX12_of_26 e62 (by decide) rfl ?_
    refine r_iload_n dX12_of_191 rfl ?_
    refine r_iload_n dX12_of_192 rfl ?_
    refine r_icmp_le (tgt := 200) dX12_of_193 rfl (fun c7 => ?_) (fun c7 => ?_)
    · --
      refine r_iconst (v := nI 0) dX12_of_200 (by decide) ?_
      exact r_retx dX12_of_201 rfl rfl (by rw [e62]; first | rfl | exact b2i_dec (by simp_all) | exact b2i_decn (by simp_all) | (show _ = b2i _; simp [*]; rfl) | (show _ = ite _ _ _; simp [*]; try rfl))
    · --
      refine r_iconst (v := nI 1) dX12_of_196 (by decide) ?_
      refine r_goto (tgt := 201) dX12_of_197 rfl ?_
      exact r_retx dX12_of_201 rfl rfl (by rw [e62]; first | rfl | exact b2i_dec (by simp_all) | exact b2i_decn (by simp_all) | (show _ = b2i _; simp [*]; rfl) | (show _ = ite _ _ _; simp [*]; try rfl))
  refine r_tswD (tgt := 227) 37 [37, 38, 42, 43, 45, 47, 60, 61, 62] dX12_of_26 (by decide) (by decide) (by simp [*]) rfl ?_
  refine r_iload_n dX12_of_227 rfl ?_
  refine r_if_ne (tgt := 235) dX12_of_228 rfl (fun c8 => ?_) (fun c8 => ?_)
  · --
    refine r_iconst (v := nI 1) dX12_of_235 (by decide) ?_
    refine r_goto (tgt := 240) dX12_of_236 rfl ?_
    exact r_retx dX12_of_240 rfl rfl (by simp only [twoV, if_neg e43, if_neg e45, if_neg e42, if_neg e47, if_neg e37, if_neg e60, if_neg e62, if_neg e61, if_neg e38]; simp [*]; rfl)
  · --
    refine r_iload_n dX12_of_231 rfl ?_
    refine r_if_eq (tgt := 239) dX12_of_232 rfl (fun c9 => ?_) (fun c9 => ?_)
    · --
      refine r_iconst (v := nI 0) dX12_of_239 (by decide) ?_
      exact r_retx dX12_of_240 rfl rfl (by simp only [twoV, if_neg e43, if_neg e45, if_neg e42, if_neg e47, if_neg e37, if_neg e60, if_neg e62, if_neg e61, if_neg e38]; simp [*]; rfl)
    · --
      refine r_iconst (v := nI 1) dX12_of_235 (by decide) ?_
      refine r_goto (tgt := 240) dX12_of_236 rfl ?_
      exact r_retx dX12_of_240 rfl rfl (by simp only [twoV, if_neg e43, if_neg e45, if_neg e42, if_neg e47, if_neg e37, if_neg e60, if_neg e62, if_neg e61, if_neg e38]; simp [*]; rfl)

theorem rpn_app (q : Nat → Int32) : ∀ (c d : List (Int32 × Int32)) (st : List Int32), rpn q (c ++ d) st = rpn q d (rpn q c st)
  | [], _, _ => rfl
  | x :: c, d, st => rpn_app q c d (rpn1 q x st)
theorem askC_ok (q : Nat → Int32) : ∀ i, i < 6 → isLetV (askC i) = true ∧ askC i ≠ nI 126 ∧ askV q (askC i) 0 = q i
  | 0, _ => ⟨by decide, by decide, rfl⟩
  | 1, _ => ⟨by decide, by decide, by unfold askV; rw [if_neg (by decide), if_pos (by decide)]⟩
  | 2, _ => ⟨by decide, by decide, by unfold askV; rw [if_neg (by decide), if_neg (by decide), if_pos (by decide)]⟩
  | 3, _ => ⟨by decide, by decide, by unfold askV; rw [if_neg (by decide), if_neg (by decide), if_neg (by decide), if_pos (by decide)]⟩
  | 4, _ => ⟨by decide, by decide, by unfold askV; rw [if_neg (by decide), if_neg (by decide), if_neg (by decide), if_neg (by decide), if_pos (by decide)]⟩
  | 5, _ => ⟨by decide, by decide, by unfold askV; rw [if_neg (by decide), if_neg (by decide), if_neg (by decide), if_neg (by decide), if_neg (by decide), if_pos (by decide)]⟩
theorem askV_n (q : Nat → Int32) (n : Int32) : askV q (nI 110) n = n := by
  unfold askV
  rw [if_neg (by decide), if_neg (by decide), if_neg (by decide), if_neg (by decide), if_neg (by decide), if_neg (by decide)]
/-- a node answers as its code does -/
theorem node_ok {G : ev_G} {h : ev_H} {ak : Nat} {q : Nat → Int32} (hak : hK h ak = 3) (hq : ∀ k, k < 6 → hI h ak k = q k) : ∀ (d x : Nat) (c : List (Int32 × Int32)), NodeAt d h x c → ∃ v, (∀ st, rpn q c st = v :: st) ∧ NodeOk G d h x ak v
  | 0, _, _, n => n.elim
  | d + 1, x, c, n => by
    unfold NodeAt at n
    rcases n with ⟨n1, rfl⟩ | ⟨i, hi, rfl, n1, rfl⟩ | ⟨n1, c1, n2, rfl⟩ | ⟨n1, n4, n5, c1, c2, n2, n3, rfl⟩
    · refine ⟨hI h x 0, fun st => ?_, Or.inl ⟨n1, x11_of n1 rfl _⟩⟩
      have e1 : rpn1 q (nI 110, hI h x 0) st = askV q (nI 110) (hI h x 0) :: st := rpn1_let (c := (nI 110, hI h x 0)) (show ¬ nI 110 = nI 126 by decide) (show isLetV (nI 110) = true by decide)
      rw [askV_n] at e1
      exact e1
    · refine ⟨q i, fun st => ?_, Or.inr (Or.inl ⟨i, hi, n1, hq i hi⟩)⟩
      have ha := askC_ok q i hi
      have e1 : rpn1 q (askC i, 0) st = askV q (askC i) 0 :: st := rpn1_let (c := (askC i, 0)) ha.2.1 ha.1
      rw [ha.2.2] at e1
      exact e1
    · obtain ⟨v, hv, hv2⟩ := node_ok hak hq d _ _ n2
      refine ⟨if v = 0 then 1 else 0, fun st => ?_, Or.inr (Or.inr (Or.inl ⟨n1, x10_of hak n1 rfl hv2⟩))⟩
      rw [rpn_app, hv]
      rfl
    · obtain ⟨v1, hv1, hw1⟩ := node_ok hak hq d _ _ n2
      obtain ⟨v2, hv2, hw2⟩ := node_ok hak hq d _ _ n3
      refine ⟨twoV (hI h x 2) v1 v2, fun st => ?_, Or.inr (Or.inr (Or.inr ⟨n1, x12_of hak n1 rfl rfl rfl hw1 hw2⟩))⟩
      rw [rpn_app, hv1, rpn_app, hv2]
      exact rpn1_two (q := q) (c := (hI h x 2, 0)) (st := v2 :: v1 :: st) n5 n4 (Nat.succ_lt_succ (Nat.succ_pos _))
