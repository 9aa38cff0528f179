/-! ===== THE SYSTEM: its answers about a table (walks by program) ===== -/
set_option maxRecDepth 100000

theorem tv_1 {x : Int32} {k : Nat} (h : tb x k = true) : nI 1 = (x >>> (nI k &&& 31)) &&& 1 := (of_decide_eq_true h).symm
theorem tv_0 {x : Int32} {k : Nat} (h : tb x k = false) : nI 0 = (x >>> (nI k &&& 31)) &&& 1 := by
  by_cases e : (x >>> (nI k &&& 31)) &&& 1 = 0
  · exact e.symm
  · have := tb_1 e; rw [h] at this; cases this
theorem nI_tn (x : Int32) : nI x.toBitVec.toNat = x := by
  apply Int32.toBitVec_inj.mp
  unfold nI
  simp
theorem and_lt {x : Int32} {m : Nat} (y : Int32) (h : ∃ n, n < 2 ^ m ∧ x = nI n) (hm : m ≤ 30 := by omega) : ∃ n, n < 2 ^ m ∧ x &&& y = nI n := by
  obtain ⟨n, hn, rfl⟩ := h
  have hp : 2 ^ m ≤ 2 ^ 30 := Nat.pow_le_pow_right (by decide) hm
  refine ⟨(nI n &&& y).toBitVec.toNat, ?_, ?_⟩
  · have e : (nI n &&& y).toBitVec.toNat = (nI n).toBitVec.toNat &&& y.toBitVec.toNat := by simp
    have e2 : (nI n).toBitVec.toNat = n := by unfold nI; simp; omega
    rw [e, e2]
    exact Nat.lt_of_le_of_lt Nat.and_le_left hn
  · exact (nI_tn _).symm
theorem by_lt {b : Bk} (hb : BW b) (p : Int32) : ∃ n, n < 2 ^ nT b ∧ byV b p = nI n := setOf_lt _ _ (by have := hb.t10; omega)
theorem to_lt {b : Bk} (hb : BW b) (p : Int32) : ∃ n, n < 2 ^ nT b ∧ toV b p = nI n := setOf_lt _ _ (by have := hb.t10; omega)
theorem said_lt {b : Bk} {T : Nat → Int32} (hb : BW b) (set : Int32) : ∃ n, n < 2 ^ nT b ∧ saidV b T set = nI n := by
  unfold saidV
  generalize nS b = m
  induction m with
  | zero => exact ⟨0, Nat.two_pow_pos _, rfl⟩
  | succ m ih =>
    cases e : tb set m with
    | true => rw [← orIf_t e]; exact nIor_lt ih (outV_lt hb m)
    | false => rw [← orIf_f e]; exact ih
theorem one_lt {j m : Nat} (h : j < m) (hm : m ≤ 30 := by omega) : ∃ n, n < 2 ^ m ∧ one j = nI n := ⟨2 ^ j, Nat.pow_lt_pow_right (by decide) h, one_n (by omega)⟩

theorem x0_isIn {G : ev_G} {h : ev_H} (v a c : Int32) : Called G mX0_isIn 0 0 0 [vI v, vI a, vI c] h (px (vI (b2i (isInV v a c))) h) := by
  refine called_of rfl [some (vI v), some (vI a), some (vI c)] rfl (Nat.le_of_ble_eq_true rfl) ?_
  refine r_iload_n dX0_isIn_0 rfl ?_
  refine r_iload_n dX0_isIn_1 rfl ?_
  refine r_icmp_lt (tgt := 14) dX0_isIn_2 rfl (fun c1 => ?_) (fun c1 => ?_)
  · --
    refine r_iconst (v := nI 0) dX0_isIn_14 (by decide) ?_
    exact r_ret0 dX0_isIn_15 rfl (by simp [isInV, *])
  · --
    refine r_iload_n dX0_isIn_5 rfl ?_
    refine r_iload_n dX0_isIn_6 rfl ?_
    refine r_icmp_gt (tgt := 14) dX0_isIn_7 rfl (fun c2 => ?_) (fun c2 => ?_)
    · --
      refine r_iconst (v := nI 0) dX0_isIn_14 (by decide) ?_
      exact r_ret0 dX0_isIn_15 rfl (by simp [isInV, *])
    · --
      refine r_iconst (v := nI 1) dX0_isIn_10 (by decide) ?_
      refine r_goto (tgt := 15) dX0_isIn_11 rfl ?_
      exact r_ret1 dX0_isIn_15 rfl (by simp [isInV, *])

theorem x0_people {G : ev_G} {b : Bk} {K : XK} {T : Nat → Int32} {h : ev_H} (hm : XM b K T h) : Called G mX0_people 1 0 0 [vR 64] h (px (vI (nI (nP b))) h) := by
  have hb := hm.xb
  have hT := hm.xt
  have hl := hm.lay
  have hw := hm.bw
  have hb1 := hw.p6
  have hb2 := hw.s5
  have hb3 := hw.t10
  have hw9 := hm.tw
  refine called_of rfl [some (vR 64)] rfl (Nat.le_of_ble_eq_true rfl) ?_
  refine r_aload_n dX0_people_0 rfl ?_
  refine r_getRv fX0_42 (hl.k) (v := kB K) (hm.bk) rfl dX0_people_1 ?_
  refine r_getRv fX0_143 (hb.k) (v := kPl K) (hb.pl) rfl dX0_people_4 ?_
  refine r_callVx lX0_3 (xJ2_size hb.aP) (hb.aP.1) rfl rfl rfl rfl dX0_people_7 (Nat.le_refl _) (Nat.le_refl _) ?_
  exact r_retx dX0_people_10 rfl rfl (rfl)

theorem x0_sacks {G : ev_G} {b : Bk} {K : XK} {T : Nat → Int32} {h : ev_H} (hm : XM b K T h) : Called G mX0_sacks 1 0 0 [vR 64] h (px (vI (nI (nS b))) h) := by
  have hb := hm.xb
  have hT := hm.xt
  have hl := hm.lay
  have hw := hm.bw
  have hb1 := hw.p6
  have hb2 := hw.s5
  have hb3 := hw.t10
  have hw9 := hm.tw
  refine called_of rfl [some (vR 64)] rfl (Nat.le_of_ble_eq_true rfl) ?_
  refine r_aload_n dX0_sacks_0 rfl ?_
  refine r_getRv fX0_42 (hl.k) (v := kB K) (hm.bk) rfl dX0_sacks_1 ?_
  refine r_getRv fX0_146 (hb.k) (v := kSl K) (hb.sl) rfl dX0_sacks_4 ?_
  refine r_callVx lX0_3 (xJ2_size hb.aS) (hb.aS.1) rfl rfl rfl rfl dX0_sacks_7 (Nat.le_refl _) (Nat.le_refl _) ?_
  exact r_retx dX0_sacks_10 rfl rfl (rfl)

theorem x0_things {G : ev_G} {b : Bk} {K : XK} {T : Nat → Int32} {h : ev_H} (hm : XM b K T h) : Called G mX0_things 1 0 0 [vR 64] h (px (vI (nI (nT b))) h) := by
  have hb := hm.xb
  have hT := hm.xt
  have hl := hm.lay
  have hw := hm.bw
  have hb1 := hw.p6
  have hb2 := hw.s5
  have hb3 := hw.t10
  have hw9 := hm.tw
  refine called_of rfl [some (vR 64)] rfl (Nat.le_of_ble_eq_true rfl) ?_
  refine r_aload_n dX0_things_0 rfl ?_
  refine r_getRv fX0_42 (hl.k) (v := kB K) (hm.bk) rfl dX0_things_1 ?_
  refine r_getRv fX0_149 (hb.k) (v := kTl K) (hb.tl) rfl dX0_things_4 ?_
  refine r_callVx lX0_3 (xJ2_size hb.aT) (hb.aT.1) rfl rfl rfl rfl dX0_things_7 (Nat.le_refl _) (Nat.le_refl _) ?_
  exact r_retx dX0_things_10 rfl rfl (rfl)

theorem x0_allPeople {G : ev_G} {b : Bk} {K : XK} {T : Nat → Int32} {h : ev_H} (hm : XM b K T h) : Called G mX0_allPeople 2 0 0 [vR 64] h (px (vI (allV (nP b))) h) := by
  have hb := hm.xb
  have hT := hm.xt
  have hl := hm.lay
  have hw := hm.bw
  have hb1 := hw.p6
  have hb2 := hw.s5
  have hb3 := hw.t10
  have hw9 := hm.tw
  refine called_of rfl [some (vR 64)] rfl (Nat.le_of_ble_eq_true rfl) ?_
  refine r_iconst (v := nI 1) dX0_allPeople_0 (by decide) ?_
  refine r_aload_n dX0_allPeople_1 rfl ?_
  refine r_callVx lX0_151 (x0_people hm) (hl.k) rfl rfl rfl rfl dX0_allPeople_2 (Nat.le_refl _) (Nat.le_refl _) ?_
  refine r_ishl dX0_allPeople_5 ?_
  refine r_top (one (nP b)) rfl ?_
  refine r_iconst (v := 1) dX0_allPeople_6 (by decide) ?_
  refine r_isub dX0_allPeople_7 ?_
  exact r_retx dX0_allPeople_8 rfl rfl (rfl)

theorem x0_allPeopleN {G : ev_G} {b : Bk} {K : XK} {T : Nat → Int32} {h : ev_H} (hm : XM b K T h) : Called G mX0_allPeople 2 0 0 [vR 64] h (px (vI (nI (2 ^ nP b - 1))) h) := by
  rw [← allV_n (by have := hm.bw.p6; have := hm.bw.s5; omega)]
  exact x0_allPeople hm

theorem x0_allSacks {G : ev_G} {b : Bk} {K : XK} {T : Nat → Int32} {h : ev_H} (hm : XM b K T h) : Called G mX0_allSacks 2 0 0 [vR 64] h (px (vI (allV (nS b))) h) := by
  have hb := hm.xb
  have hT := hm.xt
  have hl := hm.lay
  have hw := hm.bw
  have hb1 := hw.p6
  have hb2 := hw.s5
  have hb3 := hw.t10
  have hw9 := hm.tw
  refine called_of rfl [some (vR 64)] rfl (Nat.le_of_ble_eq_true rfl) ?_
  refine r_iconst (v := nI 1) dX0_allSacks_0 (by decide) ?_
  refine r_aload_n dX0_allSacks_1 rfl ?_
  refine r_callVx lX0_153 (x0_sacks hm) (hl.k) rfl rfl rfl rfl dX0_allSacks_2 (Nat.le_refl _) (Nat.le_refl _) ?_
  refine r_ishl dX0_allSacks_5 ?_
  refine r_top (one (nS b)) rfl ?_
  refine r_iconst (v := 1) dX0_allSacks_6 (by decide) ?_
  refine r_isub dX0_allSacks_7 ?_
  exact r_retx dX0_allSacks_8 rfl rfl (rfl)

theorem x0_allSacksN {G : ev_G} {b : Bk} {K : XK} {T : Nat → Int32} {h : ev_H} (hm : XM b K T h) : Called G mX0_allSacks 2 0 0 [vR 64] h (px (vI (nI (2 ^ nS b - 1))) h) := by
  rw [← allV_n (by have := hm.bw.p6; have := hm.bw.s5; omega)]
  exact x0_allSacks hm

theorem x0_isPerson {G : ev_G} {b : Bk} {K : XK} {T : Nat → Int32} {h : ev_H} (hm : XM b K T h) (p : Int32) : Called G mX0_isPerson 2 0 0 [vR 64, vI p] h (px (vI (b2i (perV b p))) h) := by
  have hb := hm.xb
  have hT := hm.xt
  have hl := hm.lay
  have hw := hm.bw
  have hb1 := hw.p6
  have hb2 := hw.s5
  have hb3 := hw.t10
  have hw9 := hm.tw
  refine called_of rfl [some (vR 64), some (vI p)] rfl (Nat.le_of_ble_eq_true rfl) ?_
  refine r_iload_n dX0_isPerson_0 rfl ?_
  refine r_iconst (v := 0) dX0_isPerson_1 (by decide) ?_
  refine r_aload_n dX0_isPerson_2 rfl ?_
  refine r_callVx lX0_151 (x0_people hm) (hl.k) rfl rfl rfl rfl dX0_isPerson_3 (Nat.le_refl _) (Nat.le_refl _) ?_
  refine r_iconst (v := 1) dX0_isPerson_6 (by decide) ?_
  refine r_isub dX0_isPerson_7 ?_
  refine r_callSx lX0_155 (x0_isIn _ _ _) rfl rfl rfl rfl dX0_isPerson_8 (Nat.le_refl _) (Nat.le_refl _) ?_
  exact r_retB dX0_isPerson_11 rfl (rfl)

theorem x0_isSack {G : ev_G} {b : Bk} {K : XK} {T : Nat → Int32} {h : ev_H} (hm : XM b K T h) (p : Int32) : Called G mX0_isSack 2 0 0 [vR 64, vI p] h (px (vI (b2i (sakV b p))) h) := by
  have hb := hm.xb
  have hT := hm.xt
  have hl := hm.lay
  have hw := hm.bw
  have hb1 := hw.p6
  have hb2 := hw.s5
  have hb3 := hw.t10
  have hw9 := hm.tw
  refine called_of rfl [some (vR 64), some (vI p)] rfl (Nat.le_of_ble_eq_true rfl) ?_
  refine r_iload_n dX0_isSack_0 rfl ?_
  refine r_iconst (v := 0) dX0_isSack_1 (by decide) ?_
  refine r_aload_n dX0_isSack_2 rfl ?_
  refine r_callVx lX0_153 (x0_sacks hm) (hl.k) rfl rfl rfl rfl dX0_isSack_3 (Nat.le_refl _) (Nat.le_refl _) ?_
  refine r_iconst (v := 1) dX0_isSack_6 (by decide) ?_
  refine r_isub dX0_isSack_7 ?_
  refine r_callSx lX0_155 (x0_isIn _ _ _) rfl rfl rfl rfl dX0_isSack_8 (Nat.le_refl _) (Nat.le_refl _) ?_
  exact r_retB dX0_isSack_11 rfl (rfl)

theorem x0_isThing {G : ev_G} {b : Bk} {K : XK} {T : Nat → Int32} {h : ev_H} (hm : XM b K T h) (p : Int32) : Called G mX0_isThing 2 0 0 [vR 64, vI p] h (px (vI (b2i (thiV b p))) h) := by
  have hb := hm.xb
  have hT := hm.xt
  have hl := hm.lay
  have hw := hm.bw
  have hb1 := hw.p6
  have hb2 := hw.s5
  have hb3 := hw.t10
  have hw9 := hm.tw
  refine called_of rfl [some (vR 64), some (vI p)] rfl (Nat.le_of_ble_eq_true rfl) ?_
  refine r_iload_n dX0_isThing_0 rfl ?_
  refine r_iconst (v := 0) dX0_isThing_1 (by decide) ?_
  refine r_aload_n dX0_isThing_2 rfl ?_
  refine r_callVx lX0_140 (x0_things hm) (hl.k) rfl rfl rfl rfl dX0_isThing_3 (Nat.le_refl _) (Nat.le_refl _) ?_
  refine r_iconst (v := 1) dX0_isThing_6 (by decide) ?_
  refine r_isub dX0_isThing_7 ?_
  refine r_callSx lX0_155 (x0_isIn _ _ _) rfl rfl rfl rfl dX0_isThing_8 (Nat.le_refl _) (Nat.le_refl _) ?_
  exact r_retB dX0_isThing_11 rfl (rfl)

theorem x0_kept {G : ev_G} {b : Bk} {K : XK} {T : Nat → Int32} {h : ev_H} (hm : XM b K T h) : Called G mX0_kept 2 0 0 [vR 64] h (px (vI (keptV b T)) h) := by
  have hb := hm.xb
  have hT := hm.xt
  have hl := hm.lay
  have hw := hm.bw
  have hb1 := hw.p6
  have hb2 := hw.s5
  have hb3 := hw.t10
  have hw9 := hm.tw
  refine called_of rfl [some (vR 64)] rfl (Nat.le_of_ble_eq_true rfl) ?_
  refine r_aload_n dX0_kept_0 rfl ?_
  refine r_getRv fX0_42 (hl.k) (v := kB K) (hm.bk) rfl dX0_kept_1 ?_
  refine r_callVx lX0_159 (x1_all hb) (hb.k) rfl rfl rfl rfl dX0_kept_4 (Nat.le_refl _) (Nat.le_refl _) ?_
  refine r_aload_n dX0_kept_7 rfl ?_
  refine r_getRv fX0_53 (hl.k) (v := 74) (hl.r 5 (by decide) (by decide)) rfl dX0_kept_8 ?_
  refine r_getIv fX0_162 (hT.k) (v := T 1) (hT.sa) rfl dX0_kept_11 ?_
  refine r_iconst (v := (-1)) dX0_kept_14 (by decide) ?_
  refine r_ixor dX0_kept_15 ?_
  refine r_iand dX0_kept_16 ?_
  exact r_retx dX0_kept_17 rfl rfl (rfl)

theorem x0_heatOf {G : ev_G} {b : Bk} {K : XK} {T : Nat → Int32} {h : ev_H} (hm : XM b K T h) (p : Int32) : Called G mX0_heatOf 5 0 0 [vR 64, vI p] h (px (vI (heatV b (inV b T p))) h) := by
  have hb := hm.xb
  have hT := hm.xt
  have hl := hm.lay
  have hw := hm.bw
  have hb1 := hw.p6
  have hb2 := hw.s5
  have hb3 := hw.t10
  have hw9 := hm.tw
  refine called_of rfl [some (vR 64), some (vI p)] rfl (Nat.le_of_ble_eq_true rfl) ?_
  refine r_aload_n dX0_heatOf_0 rfl ?_
  refine r_getRv fX0_42 (hl.k) (v := kB K) (hm.bk) rfl dX0_heatOf_1 ?_
  refine r_aload_n dX0_heatOf_4 rfl ?_
  refine r_getRv fX0_53 (hl.k) (v := 74) (hl.r 5 (by decide) (by decide)) rfl dX0_heatOf_5 ?_
  refine r_aload_n dX0_heatOf_8 rfl ?_
  refine r_getRv fX0_42 (hl.k) (v := kB K) (hm.bk) rfl dX0_heatOf_9 ?_
  refine r_iload_n dX0_heatOf_12 rfl ?_
  refine r_callVx lX0_205 (x3_inside hb hT _) (hT.k) rfl rfl rfl rfl dX0_heatOf_13 (Nat.le_refl _) (Nat.le_refl _) ?_
  refine r_callVx lX0_209 (x1_heat hb _) (hb.k) rfl rfl rfl rfl dX0_heatOf_16 (Nat.le_refl _) (Nat.le_refl _) ?_
  exact r_retx dX0_heatOf_19 rfl rfl (rfl)

theorem x0_hasTold {G : ev_G} {b : Bk} {K : XK} {T : Nat → Int32} {h : ev_H} (hm : XM b K T h) (p q : Nat) : Called G mX0_hasTold 5 0 0 [vR 64, vI (nI p), vI (nI q)] h (px (vI (b2i (tellV b T p q))) h) := by
  have hb := hm.xb
  have hT := hm.xt
  have hl := hm.lay
  have hw := hm.bw
  have hb1 := hw.p6
  have hb2 := hw.s5
  have hb3 := hw.t10
  have hw9 := hm.tw
  refine called_of rfl [some (vR 64), some (vI (nI p)), some (vI (nI q))] rfl (Nat.le_of_ble_eq_true rfl) ?_
  refine r_aload_n dX0_hasTold_0 rfl ?_
  refine r_getRv fX0_42 (hl.k) (v := kB K) (hm.bk) rfl dX0_hasTold_1 ?_
  refine r_iload_n dX0_hasTold_4 rfl ?_
  refine r_callVx lX0_177 (x1_allBy hb _) (hb.k) rfl rfl rfl rfl dX0_hasTold_5 (Nat.le_refl _) (Nat.le_refl _) ?_
  refine r_aload_n dX0_hasTold_8 rfl ?_
  refine r_getRv fX0_42 (hl.k) (v := kB K) (hm.bk) rfl dX0_hasTold_9 ?_
  refine r_iload_n dX0_hasTold_12 rfl ?_
  refine r_callVx lX0_184 (x1_allTo hb _) (hb.k) rfl rfl rfl rfl dX0_hasTold_13 (Nat.le_refl _) (Nat.le_refl _) ?_
  refine r_iand dX0_hasTold_16 ?_
  refine r_aload_n dX0_hasTold_17 rfl ?_
  refine r_getRv fX0_53 (hl.k) (v := 74) (hl.r 5 (by decide) (by decide)) rfl dX0_hasTold_18 ?_
  refine r_getIv fX0_162 (hT.k) (v := T 1) (hT.sa) rfl dX0_hasTold_21 ?_
  refine r_iand dX0_hasTold_24 ?_
  refine r_if_eq (tgt := 32) dX0_hasTold_25 rfl (fun c1 => ?_) (fun c1 => ?_)
  · --
    refine r_iconst (v := nI 0) dX0_hasTold_32 (by decide) ?_
    exact r_ret0 dX0_hasTold_33 rfl (by simp [tellV, *])
  · --
    refine r_iconst (v := nI 1) dX0_hasTold_28 (by decide) ?_
    refine r_goto (tgt := 33) dX0_hasTold_29 rfl ?_
    exact r_ret1 dX0_hasTold_33 rfl (by simp [tellV, *])

theorem x0_keptTo {G : ev_G} {b : Bk} {K : XK} {T : Nat → Int32} {h : ev_H} (hm : XM b K T h) (p : Int32) : Called G mX0_keptTo 5 0 0 [vR 64, vI p] h (px (vI (heatV b (toV b p &&& keptV b T))) h) := by
  have hb := hm.xb
  have hT := hm.xt
  have hl := hm.lay
  have hw := hm.bw
  have hb1 := hw.p6
  have hb2 := hw.s5
  have hb3 := hw.t10
  have hw9 := hm.tw
  refine called_of rfl [some (vR 64), some (vI p)] rfl (Nat.le_of_ble_eq_true rfl) ?_
  refine r_aload_n dX0_keptTo_0 rfl ?_
  refine r_getRv fX0_42 (hl.k) (v := kB K) (hm.bk) rfl dX0_keptTo_1 ?_
  refine r_aload_n dX0_keptTo_4 rfl ?_
  refine r_getRv fX0_42 (hl.k) (v := kB K) (hm.bk) rfl dX0_keptTo_5 ?_
  refine r_iload_n dX0_keptTo_8 rfl ?_
  refine r_callVx lX0_184 (x1_allTo hb _) (hb.k) rfl rfl rfl rfl dX0_keptTo_9 (Nat.le_refl _) (Nat.le_refl _) ?_
  refine r_aload_n dX0_keptTo_12 rfl ?_
  refine r_callVx lX0_181 (x0_kept hm) (hl.k) rfl rfl rfl rfl dX0_keptTo_13 (Nat.le_refl _) (Nat.le_refl _) ?_
  refine r_iand dX0_keptTo_16 ?_
  refine r_callVx lX0_209 (x1_heat hb _) (hb.k) rfl rfl rfl rfl dX0_keptTo_17 (Nat.le_refl _) (Nat.le_refl _) ?_
  exact r_retx dX0_keptTo_20 rfl rfl (rfl)

theorem x0_heatBy {G : ev_G} {b : Bk} {K : XK} {T : Nat → Int32} {h : ev_H} (hm : XM b K T h) (p : Int32) : Called G mX0_heatBy 5 0 0 [vR 64, vI p] h (px (vI (heatV b (byV b p &&& keptV b T))) h) := by
  have hb := hm.xb
  have hT := hm.xt
  have hl := hm.lay
  have hw := hm.bw
  have hb1 := hw.p6
  have hb2 := hw.s5
  have hb3 := hw.t10
  have hw9 := hm.tw
  refine called_of rfl [some (vR 64), some (vI p)] rfl (Nat.le_of_ble_eq_true rfl) ?_
  refine r_aload_n dX0_heatBy_0 rfl ?_
  refine r_getRv fX0_42 (hl.k) (v := kB K) (hm.bk) rfl dX0_heatBy_1 ?_
  refine r_aload_n dX0_heatBy_4 rfl ?_
  refine r_getRv fX0_42 (hl.k) (v := kB K) (hm.bk) rfl dX0_heatBy_5 ?_
  refine r_iload_n dX0_heatBy_8 rfl ?_
  refine r_callVx lX0_177 (x1_allBy hb _) (hb.k) rfl rfl rfl rfl dX0_heatBy_9 (Nat.le_refl _) (Nat.le_refl _) ?_
  refine r_aload_n dX0_heatBy_12 rfl ?_
  refine r_callVx lX0_181 (x0_kept hm) (hl.k) rfl rfl rfl rfl dX0_heatBy_13 (Nat.le_refl _) (Nat.le_refl _) ?_
  refine r_iand dX0_heatBy_16 ?_
  refine r_callVx lX0_209 (x1_heat hb _) (hb.k) rfl rfl rfl rfl dX0_heatBy_17 (Nat.le_refl _) (Nat.le_refl _) ?_
  exact r_retx dX0_heatBy_20 rfl rfl (rfl)

theorem x0_manyBy {G : ev_G} {b : Bk} {K : XK} {T : Nat → Int32} {h : ev_H} (hm : XM b K T h) (p : Int32) : Called G mX0_manyBy 5 0 0 [vR 64, vI p] h (px (vI (popc (byV b p &&& keptV b T))) h) := by
  have hb := hm.xb
  have hT := hm.xt
  have hl := hm.lay
  have hw := hm.bw
  have hb1 := hw.p6
  have hb2 := hw.s5
  have hb3 := hw.t10
  have hw9 := hm.tw
  refine called_of rfl [some (vR 64), some (vI p)] rfl (Nat.le_of_ble_eq_true rfl) ?_
  refine r_aload_n dX0_manyBy_0 rfl ?_
  refine r_getRv fX0_42 (hl.k) (v := kB K) (hm.bk) rfl dX0_manyBy_1 ?_
  refine r_iload_n dX0_manyBy_4 rfl ?_
  refine r_callVx lX0_177 (x1_allBy hb _) (hb.k) rfl rfl rfl rfl dX0_manyBy_5 (Nat.le_refl _) (Nat.le_refl _) ?_
  refine r_aload_n dX0_manyBy_8 rfl ?_
  refine r_callVx lX0_181 (x0_kept hm) (hl.k) rfl rfl rfl rfl dX0_manyBy_9 (Nat.le_refl _) (Nat.le_refl _) ?_
  refine r_iand dX0_manyBy_12 ?_
  refine r_callSx lX0_239 (xJ15_bc (lt1024 hw (and_lt _ (by_lt hw _)))) rfl rfl rfl rfl dX0_manyBy_13 (Nat.le_refl _) (Nat.le_refl _) ?_
  exact r_retx dX0_manyBy_16 rfl rfl (rfl)

theorem x0_scandal {G : ev_G} {b : Bk} {K : XK} {T : Nat → Int32} {h : ev_H} (hm : XM b K T h) : Called G mX0_scandal 5 0 0 [vR 64] h (px (vI (heatV b (T 1))) h) := by
  have hb := hm.xb
  have hT := hm.xt
  have hl := hm.lay
  have hw := hm.bw
  have hb1 := hw.p6
  have hb2 := hw.s5
  have hb3 := hw.t10
  have hw9 := hm.tw
  refine called_of rfl [some (vR 64)] rfl (Nat.le_of_ble_eq_true rfl) ?_
  refine r_aload_n dX0_scandal_0 rfl ?_
  refine r_getRv fX0_42 (hl.k) (v := kB K) (hm.bk) rfl dX0_scandal_1 ?_
  refine r_aload_n dX0_scandal_4 rfl ?_
  refine r_getRv fX0_53 (hl.k) (v := 74) (hl.r 5 (by decide) (by decide)) rfl dX0_scandal_5 ?_
  refine r_getIv fX0_162 (hT.k) (v := T 1) (hT.sa) rfl dX0_scandal_8 ?_
  refine r_callVx lX0_209 (x1_heat hb _) (hb.k) rfl rfl rfl rfl dX0_scandal_11 (Nat.le_refl _) (Nat.le_refl _) ?_
  exact r_retx dX0_scandal_14 rfl rfl (rfl)

theorem x0_next {G : ev_G} {b : Bk} {K : XK} {T : Nat → Int32} {h : ev_H} (hm : XM b K T h) : Called G mX0_next 5 0 0 [vR 64] h (px (vI (optI (sneV b T))) h) := by
  have hb := hm.xb
  have hT := hm.xt
  have hl := hm.lay
  have hw := hm.bw
  have hb1 := hw.p6
  have hb2 := hw.s5
  have hb3 := hw.t10
  have hw9 := hm.tw
  refine called_of rfl [some (vR 64)] rfl (Nat.le_of_ble_eq_true rfl) ?_
  refine r_aload_n dX0_next_0 rfl ?_
  refine r_getRv fX0_53 (hl.k) (v := 74) (hl.r 5 (by decide) (by decide)) rfl dX0_next_1 ?_
  refine r_aload_n dX0_next_4 rfl ?_
  refine r_getRv fX0_42 (hl.k) (v := kB K) (hm.bk) rfl dX0_next_5 ?_
  refine r_callVx lX0_257 (x3_next hb hT) (hT.k) rfl rfl rfl rfl dX0_next_8 (Nat.le_refl _) (Nat.le_refl _) ?_
  exact r_retx dX0_next_11 rfl rfl (rfl)

theorem x0_keeps {G : ev_G} {b : Bk} {K : XK} {T : Nat → Int32} {h : ev_H} (hm : XM b K T h) (p o : Int32) : Called G mX0_keeps 5 0 0 [vR 64, vI p, vI o] h (px (vI (keepsV b T p o)) h) := by
  have hb := hm.xb
  have hT := hm.xt
  have hl := hm.lay
  have hw := hm.bw
  have hb1 := hw.p6
  have hb2 := hw.s5
  have hb3 := hw.t10
  have hw9 := hm.tw
  refine called_of rfl [some (vR 64), some (vI p), some (vI o)] rfl (Nat.le_of_ble_eq_true rfl) ?_
  refine r_aload_n dX0_keeps_0 rfl ?_
  refine r_iload_n dX0_keeps_1 rfl ?_
  refine r_callVx lX0_165 (x0_isPerson hm _) (hl.k) rfl rfl rfl rfl dX0_keeps_2 (Nat.le_refl _) (Nat.le_refl _) ?_
  refine r_ifB_eq (tgt := 48) dX0_keeps_5 rfl (fun c1 => ?_) (fun c1 => ?_)
  · --
    refine r_iconst (v := (-1)) dX0_keeps_48 (by decide) ?_
    exact r_retx dX0_keeps_49 rfl rfl (by simp [keepsV, *])
  · --
    refine r_aload_n dX0_keeps_8 rfl ?_
    refine r_iload_n dX0_keeps_9 rfl ?_
    refine r_callVx lX0_165 (x0_isPerson hm _) (hl.k) rfl rfl rfl rfl dX0_keeps_10 (Nat.le_refl _) (Nat.le_refl _) ?_
    refine r_ifB_eq (tgt := 48) dX0_keeps_13 rfl (fun c2 => ?_) (fun c2 => ?_)
    · --
      refine r_iconst (v := (-1)) dX0_keeps_48 (by decide) ?_
      exact r_retx dX0_keeps_49 rfl rfl (by simp [keepsV, *])
    · --
      refine r_aload_n dX0_keeps_16 rfl ?_
      refine r_getRv fX0_42 (hl.k) (v := kB K) (hm.bk) rfl dX0_keeps_17 ?_
      refine r_aload_n dX0_keeps_20 rfl ?_
      refine r_getRv fX0_42 (hl.k) (v := kB K) (hm.bk) rfl dX0_keeps_21 ?_
      refine r_iload_n dX0_keeps_24 rfl ?_
      refine r_callVx lX0_177 (x1_allBy hb _) (hb.k) rfl rfl rfl rfl dX0_keeps_25 (Nat.le_refl _) (Nat.le_refl _) ?_
      refine r_aload_n dX0_keeps_28 rfl ?_
      refine r_getRv fX0_42 (hl.k) (v := kB K) (hm.bk) rfl dX0_keeps_29 ?_
      refine r_iload_n dX0_keeps_32 rfl ?_
      refine r_callVx lX0_184 (x1_allTo hb _) (hb.k) rfl rfl rfl rfl dX0_keeps_33 (Nat.le_refl _) (Nat.le_refl _) ?_
      refine r_iand dX0_keeps_36 ?_
      refine r_aload_n dX0_keeps_37 rfl ?_
      refine r_callVx lX0_181 (x0_kept hm) (hl.k) rfl rfl rfl rfl dX0_keeps_38 (Nat.le_refl _) (Nat.le_refl _) ?_
      refine r_iand dX0_keeps_41 ?_
      refine r_callVx lX0_209 (x1_heat hb _) (hb.k) rfl rfl rfl rfl dX0_keeps_42 (Nat.le_refl _) (Nat.le_refl _) ?_
      refine r_goto (tgt := 49) dX0_keeps_45 rfl ?_
      exact r_retx dX0_keeps_49 rfl rfl (by simp [keepsV, *])

theorem x0_person {G : ev_G} {b : Bk} {K : XK} {T : Nat → Int32} {h : ev_H} (hm : XM b K T h) (p wh : Int32) : Called G mX0_person 6 0 0 [vR 64, vI p, vI wh] h (px (vI (personV b T p wh)) h) := by
  have hb := hm.xb
  have hT := hm.xt
  have hl := hm.lay
  have hw := hm.bw
  have hb1 := hw.p6
  have hb2 := hw.s5
  have hb3 := hw.t10
  have hw9 := hm.tw
  refine called_of rfl [some (vR 64), some (vI p), some (vI wh)] rfl (Nat.le_of_ble_eq_true rfl) ?_
  refine r_aload_n dX0_person_0 rfl ?_
  refine r_iload_n dX0_person_1 rfl ?_
  refine r_callVx lX0_165 (x0_isPerson hm _) (hl.k) rfl rfl rfl rfl dX0_person_2 (Nat.le_refl _) (Nat.le_refl _) ?_
  refine r_ifB_ne (tgt := 11) dX0_person_5 rfl (fun c1 => ?_) (fun c1 => ?_)
  · --
    obtain ⟨j, hj, rfl⟩ := perV_ok hw c1
    refine r_iload_n dX0_person_11 rfl ?_
    by_cases e0 : wh = nI 0
    · refine r_tswC (tgt := 48) (off := 36) 0 dX0_person_12 e0 (by decide) rfl ?_
      refine r_aload_n dX0_person_48 rfl ?_
      refine r_getRv fX0_42 (hl.k) (v := kB K) (hm.bk) rfl dX0_person_49 ?_
      refine r_getRv fX0_143 (hb.k) (v := kPl K) (hb.pl) rfl dX0_person_52 ?_
      refine r_iload_n dX0_person_55 rfl ?_
      refine r_callVx lX0_9 (xJ2_get hb.aP (i := j) (by omega) (hb.pe (by omega)).1) (hb.aP.1) rfl rfl rfl rfl dX0_person_56 (Nat.le_refl _) (Nat.le_refl _) ?_
      refine r_cast (ci := 7) q1116 ((hb.pe (by omega)).2.1) (by decide) rfl (Or.inl rfl) dX0_person_59 ?_
      refine r_getIv fX0_171 ((hb.pe (by omega)).2.1) (v := nI (bSh b j)) ((hb.pe (by omega)).2.2) rfl dX0_person_62 ?_
      exact r_retx dX0_person_65 rfl rfl (by rw [personV, if_pos (by assumption), e0]; first | rfl | (simp only [nI_clamp (show j < 2 ^ 31 by omega)]; rfl) | (first | exact tv_1 (by assumption) | exact tv_0 (by assumption)))
    by_cases e1 : wh = nI 1
    · refine r_tswC (tgt := 66) (off := 54) 1 dX0_person_12 e1 (by decide) rfl ?_
      refine r_aload_n dX0_person_66 rfl ?_
      refine r_getRv fX0_53 (hl.k) (v := 74) (hl.r 5 (by decide) (by decide)) rfl dX0_person_67 ?_
      refine r_iload_n dX0_person_70 rfl ?_
      refine r_callVx lX0_174 (x3_sitsN hT j) (hT.k) rfl rfl rfl rfl dX0_person_71 (Nat.le_refl _) (Nat.le_refl _) ?_
      refine r_ifB_eq (tgt := 81) dX0_person_74 rfl (fun c2 => ?_) (fun c2 => ?_)
      · --
        refine r_iconst (v := nI 0) dX0_person_81 (by decide) ?_
        exact r_retx dX0_person_82 rfl rfl (by rw [personV, if_pos (by assumption), e1]; first | rfl | (simp only [nI_clamp (show j < 2 ^ 31 by omega)]; rfl) | (first | exact tv_1 (by assumption) | exact tv_0 (by assumption)))
      · --
        refine r_iconst (v := nI 1) dX0_person_77 (by decide) ?_
        refine r_goto (tgt := 82) dX0_person_78 rfl ?_
        exact r_retx dX0_person_82 rfl rfl (by rw [personV, if_pos (by assumption), e1]; first | rfl | (simp only [nI_clamp (show j < 2 ^ 31 by omega)]; rfl) | (first | exact tv_1 (by assumption) | exact tv_0 (by assumption)))
    by_cases e2 : wh = nI 2
    · refine r_tswC (tgt := 83) (off := 71) 2 dX0_person_12 e2 (by decide) rfl ?_
      refine r_aload_n dX0_person_83 rfl ?_
      refine r_getRv fX0_42 (hl.k) (v := kB K) (hm.bk) rfl dX0_person_84 ?_
      refine r_iload_n dX0_person_87 rfl ?_
      refine r_callVx lX0_177 (x1_allBy hb _) (hb.k) rfl rfl rfl rfl dX0_person_88 (Nat.le_refl _) (Nat.le_refl _) ?_
      refine r_aload_n dX0_person_91 rfl ?_
      refine r_callVx lX0_181 (x0_kept hm) (hl.k) rfl rfl rfl rfl dX0_person_92 (Nat.le_refl _) (Nat.le_refl _) ?_
      refine r_iand dX0_person_95 ?_
      exact r_retx dX0_person_96 rfl rfl (by rw [personV, if_pos (by assumption), e2]; first | rfl | (simp only [nI_clamp (show j < 2 ^ 31 by omega)]; rfl) | (first | exact tv_1 (by assumption) | exact tv_0 (by assumption)))
    by_cases e3 : wh = nI 3
    · refine r_tswC (tgt := 97) (off := 85) 3 dX0_person_12 e3 (by decide) rfl ?_
      refine r_aload_n dX0_person_97 rfl ?_
      refine r_getRv fX0_42 (hl.k) (v := kB K) (hm.bk) rfl dX0_person_98 ?_
      refine r_iload_n dX0_person_101 rfl ?_
      refine r_callVx lX0_184 (x1_allTo hb _) (hb.k) rfl rfl rfl rfl dX0_person_102 (Nat.le_refl _) (Nat.le_refl _) ?_
      refine r_aload_n dX0_person_105 rfl ?_
      refine r_callVx lX0_181 (x0_kept hm) (hl.k) rfl rfl rfl rfl dX0_person_106 (Nat.le_refl _) (Nat.le_refl _) ?_
      refine r_iand dX0_person_109 ?_
      exact r_retx dX0_person_110 rfl rfl (by rw [personV, if_pos (by assumption), e3]; first | rfl | (simp only [nI_clamp (show j < 2 ^ 31 by omega)]; rfl) | (first | exact tv_1 (by assumption) | exact tv_0 (by assumption)))
    by_cases e4 : wh = nI 4
    · refine r_tswC (tgt := 111) (off := 99) 4 dX0_person_12 e4 (by decide) rfl ?_
      refine r_aload_n dX0_person_111 rfl ?_
      refine r_getRv fX0_42 (hl.k) (v := kB K) (hm.bk) rfl dX0_person_112 ?_
      refine r_iload_n dX0_person_115 rfl ?_
      refine r_callVx lX0_184 (x1_allTo hb _) (hb.k) rfl rfl rfl rfl dX0_person_116 (Nat.le_refl _) (Nat.le_refl _) ?_
      refine r_aload_n dX0_person_119 rfl ?_
      refine r_getRv fX0_53 (hl.k) (v := 74) (hl.r 5 (by decide) (by decide)) rfl dX0_person_120 ?_
      refine r_getIv fX0_162 (hT.k) (v := T 1) (hT.sa) rfl dX0_person_123 ?_
      refine r_iand dX0_person_126 ?_
      exact r_retx dX0_person_127 rfl rfl (by rw [personV, if_pos (by assumption), e4]; first | rfl | (simp only [nI_clamp (show j < 2 ^ 31 by omega)]; rfl) | (first | exact tv_1 (by assumption) | exact tv_0 (by assumption)))
    refine r_tswD (tgt := 128) 0 [0, 1, 2, 3, 4] dX0_person_12 (by decide) (by decide) (by simp [*]) rfl ?_
    refine r_bipush (v := (-2)) dX0_person_128 (by decide) ?_
    exact r_retx dX0_person_130 rfl rfl (by simp [personV, *])
  · --
    refine r_bipush (v := (-2)) dX0_person_8 (by decide) ?_
    exact r_retx dX0_person_10 rfl rfl (by simp [personV, *])

theorem x0_thing {G : ev_G} {b : Bk} {K : XK} {T : Nat → Int32} {h : ev_H} (hm : XM b K T h) (p wh : Int32) : Called G mX0_thing 6 0 0 [vR 64, vI p, vI wh] h (px (vI (thingV b T p wh)) h) := by
  have hb := hm.xb
  have hT := hm.xt
  have hl := hm.lay
  have hw := hm.bw
  have hb1 := hw.p6
  have hb2 := hw.s5
  have hb3 := hw.t10
  have hw9 := hm.tw
  refine called_of rfl [some (vR 64), some (vI p), some (vI wh)] rfl (Nat.le_of_ble_eq_true rfl) ?_
  refine r_aload_n dX0_thing_0 rfl ?_
  refine r_iload_n dX0_thing_1 rfl ?_
  refine r_callVx lX0_187 (x0_isThing hm _) (hl.k) rfl rfl rfl rfl dX0_thing_2 (Nat.le_refl _) (Nat.le_refl _) ?_
  refine r_ifB_ne (tgt := 11) dX0_thing_5 rfl (fun c1 => ?_) (fun c1 => ?_)
  · --
    obtain ⟨j, hj, rfl⟩ := thiV_ok hw c1
    refine r_iload_n dX0_thing_11 rfl ?_
    by_cases e0 : wh = nI 0
    · refine r_tswC (tgt := 48) (off := 36) 0 dX0_thing_12 e0 (by decide) rfl ?_
      refine r_aload_n dX0_thing_48 rfl ?_
      refine r_getRv fX0_42 (hl.k) (v := kB K) (hm.bk) rfl dX0_thing_49 ?_
      refine r_iload_n dX0_thing_52 rfl ?_
      refine r_callVx lX0_190 (x1_by hb (t := j) (by omega)) (hb.k) rfl rfl rfl rfl dX0_thing_53 (Nat.le_refl _) (Nat.le_refl _) ?_
      exact r_retx dX0_thing_56 rfl rfl (by rw [thingV, if_pos (by assumption), e0]; first | rfl | (simp only [nI_clamp (show j < 2 ^ 31 by omega)]; rfl) | (first | exact tv_1 (by assumption) | exact tv_0 (by assumption)))
    by_cases e1 : wh = nI 1
    · refine r_tswC (tgt := 57) (off := 45) 1 dX0_thing_12 e1 (by decide) rfl ?_
      refine r_aload_n dX0_thing_57 rfl ?_
      refine r_getRv fX0_42 (hl.k) (v := kB K) (hm.bk) rfl dX0_thing_58 ?_
      refine r_iload_n dX0_thing_61 rfl ?_
      refine r_callVx lX0_193 (x1_to hb (t := j) (by omega)) (hb.k) rfl rfl rfl rfl dX0_thing_62 (Nat.le_refl _) (Nat.le_refl _) ?_
      exact r_retx dX0_thing_65 rfl rfl (by rw [thingV, if_pos (by assumption), e1]; first | rfl | (simp only [nI_clamp (show j < 2 ^ 31 by omega)]; rfl) | (first | exact tv_1 (by assumption) | exact tv_0 (by assumption)))
    by_cases e2 : wh = nI 2
    · refine r_tswC (tgt := 66) (off := 54) 2 dX0_thing_12 e2 (by decide) rfl ?_
      refine r_aload_n dX0_thing_66 rfl ?_
      refine r_getRv fX0_42 (hl.k) (v := kB K) (hm.bk) rfl dX0_thing_67 ?_
      refine r_iload_n dX0_thing_70 rfl ?_
      refine r_callVx lX0_196 (x1_hot hb (t := j) (by omega)) (hb.k) rfl rfl rfl rfl dX0_thing_71 (Nat.le_refl _) (Nat.le_refl _) ?_
      exact r_retx dX0_thing_74 rfl rfl (by rw [thingV, if_pos (by assumption), e2]; first | rfl | (simp only [nI_clamp (show j < 2 ^ 31 by omega)]; rfl) | (first | exact tv_1 (by assumption) | exact tv_0 (by assumption)))
    by_cases e3 : wh = nI 3
    · refine r_tswC (tgt := 75) (off := 63) 3 dX0_thing_12 e3 (by decide) rfl ?_
      refine r_aload_n dX0_thing_75 rfl ?_
      refine r_getRv fX0_53 (hl.k) (v := 74) (hl.r 5 (by decide) (by decide)) rfl dX0_thing_76 ?_
      refine r_getRv fX0_199 (hT.k) (v := 75) (hT.rin) rfl dX0_thing_79 ?_
      refine r_iload_n dX0_thing_82 rfl ?_
      refine r_ialdv (hT.kin) (hT.lin) (ix_n (by omega) (by decide)) (v := T (2 + j)) (hT.in_ (by omega)) dX0_thing_83 ?_
      exact r_retx dX0_thing_84 rfl rfl (by rw [thingV, if_pos (by assumption), e3]; first | rfl | (simp only [nI_clamp (show j < 2 ^ 31 by omega)]; rfl) | (first | exact tv_1 (by assumption) | exact tv_0 (by assumption)))
    by_cases e4 : wh = nI 4
    · refine r_tswC (tgt := 85) (off := 73) 4 dX0_thing_12 e4 (by decide) rfl ?_
      refine r_aload_n dX0_thing_85 rfl ?_
      refine r_getRv fX0_53 (hl.k) (v := 74) (hl.r 5 (by decide) (by decide)) rfl dX0_thing_86 ?_
      refine r_iload_n dX0_thing_89 rfl ?_
      refine r_callVx lX0_202 (x3_isSaidN hT j) (hT.k) rfl rfl rfl rfl dX0_thing_90 (Nat.le_refl _) (Nat.le_refl _) ?_
      refine r_ifB_eq (tgt := 100) dX0_thing_93 rfl (fun c2 => ?_) (fun c2 => ?_)
      · --
        refine r_iconst (v := nI 0) dX0_thing_100 (by decide) ?_
        exact r_retx dX0_thing_101 rfl rfl (by rw [thingV, if_pos (by assumption), e4]; first | rfl | (simp only [nI_clamp (show j < 2 ^ 31 by omega)]; rfl) | (first | exact tv_1 (by assumption) | exact tv_0 (by assumption)))
      · --
        refine r_iconst (v := nI 1) dX0_thing_96 (by decide) ?_
        refine r_goto (tgt := 101) dX0_thing_97 rfl ?_
        exact r_retx dX0_thing_101 rfl rfl (by rw [thingV, if_pos (by assumption), e4]; first | rfl | (simp only [nI_clamp (show j < 2 ^ 31 by omega)]; rfl) | (first | exact tv_1 (by assumption) | exact tv_0 (by assumption)))
    refine r_tswD (tgt := 102) 0 [0, 1, 2, 3, 4] dX0_thing_12 (by decide) (by decide) (by simp [*]) rfl ?_
    refine r_bipush (v := (-2)) dX0_thing_102 (by decide) ?_
    exact r_retx dX0_thing_104 rfl rfl (by simp [thingV, *])
  · --
    refine r_bipush (v := (-2)) dX0_thing_8 (by decide) ?_
    exact r_retx dX0_thing_10 rfl rfl (by simp [thingV, *])

theorem x0_sack {G : ev_G} {b : Bk} {K : XK} {T : Nat → Int32} {h : ev_H} (hm : XM b K T h) (p wh : Int32) : Called G mX0_sack 6 0 0 [vR 64, vI p, vI wh] h (px (vI (sackV b T p wh)) h) := by
  have hb := hm.xb
  have hT := hm.xt
  have hl := hm.lay
  have hw := hm.bw
  have hb1 := hw.p6
  have hb2 := hw.s5
  have hb3 := hw.t10
  have hw9 := hm.tw
  refine called_of rfl [some (vR 64), some (vI p), some (vI wh)] rfl (Nat.le_of_ble_eq_true rfl) ?_
  refine r_aload_n dX0_sack_0 rfl ?_
  refine r_iload_n dX0_sack_1 rfl ?_
  refine r_callVx lX0_212 (x0_isSack hm _) (hl.k) rfl rfl rfl rfl dX0_sack_2 (Nat.le_refl _) (Nat.le_refl _) ?_
  refine r_ifB_ne (tgt := 12) dX0_sack_5 rfl (fun c1 => ?_) (fun c1 => ?_)
  · --
    obtain ⟨j, hj, rfl⟩ := sakV_ok hw c1
    refine r_iload_n dX0_sack_12 rfl ?_
    refine r_if_ne (tgt := 24) dX0_sack_13 rfl (fun c2 => ?_) (fun c2 => ?_)
    · --
      refine r_iload_n dX0_sack_24 rfl ?_
      refine r_iconst (v := 1) dX0_sack_25 (by decide) ?_
      refine r_icmp_ne (tgt := 44) dX0_sack_26 rfl (fun c3 => ?_) (fun c3 => ?_)
      · --
        refine r_iload_n dX0_sack_44 rfl ?_
        refine r_iconst (v := nI 2) dX0_sack_45 (by decide) ?_
        refine r_icmp_ne (tgt := 61) dX0_sack_46 rfl (fun c4 => ?_) (fun c4 => ?_)
        · --
          refine r_iconst (v := (-1)) dX0_sack_61 (by decide) ?_
          exact r_retx dX0_sack_62 rfl rfl (by rw [sackV, if_pos (by assumption)]; first | exact (if_pos (by assumption)).symm | (rw [if_neg (by assumption)]; exact (if_pos (by assumption)).symm) | (rw [if_neg (by assumption), if_neg (by assumption), if_pos (by assumption), nI_clamp (by omega)]) | (rw [if_neg (by assumption), if_neg (by assumption), if_neg (by assumption)]))
        · --
          refine r_aload_n dX0_sack_49 rfl ?_
          refine r_getRv fX0_53 (hl.k) (v := 74) (hl.r 5 (by decide) (by decide)) rfl dX0_sack_50 ?_
          refine r_getRv fX0_218 (hT.k) (v := 76) (hT.rgr) rfl dX0_sack_53 ?_
          refine r_iload_n dX0_sack_56 rfl ?_
          refine r_ialdv (hT.kgr) (hT.lgr) (ix_n (by omega) (by decide)) (v := T (12 + j)) (hT.gr_ (by omega)) dX0_sack_57 ?_
          refine r_goto (tgt := 62) dX0_sack_58 rfl ?_
          exact r_retx dX0_sack_62 rfl rfl (by rw [sackV, if_pos (by assumption)]; first | exact (if_pos (by assumption)).symm | (rw [if_neg (by assumption)]; exact (if_pos (by assumption)).symm) | (rw [if_neg (by assumption), if_neg (by assumption), if_pos (by assumption), nI_clamp (by omega)]) | (rw [if_neg (by assumption), if_neg (by assumption), if_neg (by assumption)]))
      · --
        refine r_aload_n dX0_sack_29 rfl ?_
        refine r_getRv fX0_53 (hl.k) (v := 74) (hl.r 5 (by decide) (by decide)) rfl dX0_sack_30 ?_
        refine r_aload_n dX0_sack_33 rfl ?_
        refine r_getRv fX0_42 (hl.k) (v := kB K) (hm.bk) rfl dX0_sack_34 ?_
        refine r_iload_n dX0_sack_37 rfl ?_
        refine r_callVx lX0_205 (x3_inside hb hT _) (hT.k) rfl rfl rfl rfl dX0_sack_38 (Nat.le_refl _) (Nat.le_refl _) ?_
        refine r_goto (tgt := 62) dX0_sack_41 rfl ?_
        exact r_retx dX0_sack_62 rfl rfl (by rw [sackV, if_pos (by assumption)]; first | exact (if_pos (by assumption)).symm | (rw [if_neg (by assumption)]; exact (if_pos (by assumption)).symm) | (rw [if_neg (by assumption), if_neg (by assumption), if_pos (by assumption), nI_clamp (by omega)]) | (rw [if_neg (by assumption), if_neg (by assumption), if_neg (by assumption)]))
    · --
      refine r_aload_n dX0_sack_16 rfl ?_
      refine r_iload_n dX0_sack_17 rfl ?_
      refine r_callVx lX0_215 (x0_heatOf hm _) (hl.k) rfl rfl rfl rfl dX0_sack_18 (Nat.le_refl _) (Nat.le_refl _) ?_
      refine r_goto (tgt := 62) dX0_sack_21 rfl ?_
      exact r_retx dX0_sack_62 rfl rfl (by rw [sackV, if_pos (by assumption)]; first | exact (if_pos (by assumption)).symm | (rw [if_neg (by assumption)]; exact (if_pos (by assumption)).symm) | (rw [if_neg (by assumption), if_neg (by assumption), if_pos (by assumption), nI_clamp (by omega)]) | (rw [if_neg (by assumption), if_neg (by assumption), if_neg (by assumption)]))
  · --
    refine r_iconst (v := (-1)) dX0_sack_8 (by decide) ?_
    refine r_goto (tgt := 62) dX0_sack_9 rfl ?_
    exact r_retx dX0_sack_62 rfl rfl (by simp [sackV, *])

theorem x0_near {G : ev_G} {b : Bk} {K : XK} {T : Nat → Int32} {h : ev_H} (hm : XM b K T h) : Called G mX0_near 5 0 0 [vR 64] h (px (vI (nearsV b T)) h) := by
  have hb := hm.xb
  have hT := hm.xt
  have hl := hm.lay
  have hw := hm.bw
  have hb1 := hw.p6
  have hb2 := hw.s5
  have hb3 := hw.t10
  have hw9 := hm.tw
  refine called_of rfl [some (vR 64), none, none] rfl (Nat.le_of_ble_eq_true rfl) ?_
  refine r_iconst (v := nI 0) dX0_near_0 (by decide) ?_
  refine r_istore_n dX0_near_1 (by decide) rfl ?_
  refine r_iconst (v := nI 0) dX0_near_2 (by decide) ?_
  refine r_istore_n dX0_near_3 (by decide) rfl ?_
  refine (ev_for (P := fun i => Ev G mX0_near (ev_room 5 0 0) (ev_MQ G (px (vI (nearsV b T)) h) 0 0) 4 [some (vR 64), some (vI (setOf i (fun t => stV T t && nearV b T t))), some (vI (nI i))] [] h 0 0) (nT b) (fun i hki ihi => ?_)) 0 (Nat.zero_le _)
  refine r_iload_n dX0_near_4 rfl ?_
  refine r_aload_n dX0_near_5 rfl ?_
  refine r_callVx lX0_140 (x0_things hm) (hl.k) rfl rfl rfl rfl dX0_near_6 (Nat.le_refl _) (Nat.le_refl _) ?_
  refine r_icmpN_ge (tgt := 54) dX0_near_9 rfl (by omega) (by omega) (fun c1 => ?_) (fun c1 => ?_)
  · --
    refine r_iload_n dX0_near_54 rfl ?_
    exact r_retx dX0_near_55 rfl rfl (congrArg (fun n => setOf n _) (by omega))
  · --
    refine r_iload_n dX0_near_12 rfl ?_
    refine r_aload_n dX0_near_13 rfl ?_
    refine r_getRv fX0_53 (hl.k) (v := 74) (hl.r 5 (by decide) (by decide)) rfl dX0_near_14 ?_
    refine r_iload_n dX0_near_17 rfl ?_
    refine r_callVx lX0_202 (x3_isSaidN hT i) (hT.k) rfl rfl rfl rfl dX0_near_18 (Nat.le_refl _) (Nat.le_refl _) ?_
    refine r_ifB_ne (tgt := 45) dX0_near_21 rfl (fun c2 => ?_) (fun c2 => ?_)
    · --
      refine r_iconst (v := nI 0) dX0_near_45 (by decide) ?_
      refine r_ior dX0_near_46 ?_
      refine r_istore_n dX0_near_47 (by decide) rfl ?_
      refine r_iincN (n := 1) dX0_near_48 rfl rfl (by decide) rfl ?_
      refine r_goto (tgt := 4) dX0_near_51 rfl ?_
      exact r_L (by rw [← setOf_f (by simp [stV, *]), or0]; rfl) (ihi (by omega))
    · --
      refine r_aload_n dX0_near_24 rfl ?_
      refine r_getRv fX0_53 (hl.k) (v := 74) (hl.r 5 (by decide) (by decide)) rfl dX0_near_25 ?_
      refine r_aload_n dX0_near_28 rfl ?_
      refine r_getRv fX0_42 (hl.k) (v := kB K) (hm.bk) rfl dX0_near_29 ?_
      refine r_iload_n dX0_near_32 rfl ?_
      refine r_callVx lX0_327 (x3_areNear hb hT (i := i) (by omega)) (hT.k) rfl rfl rfl rfl dX0_near_33 (Nat.le_refl _) (Nat.le_refl _) ?_
      refine r_ifB_eq (tgt := 45) dX0_near_36 rfl (fun c3 => ?_) (fun c3 => ?_)
      · --
        refine r_iconst (v := nI 0) dX0_near_45 (by decide) ?_
        refine r_ior dX0_near_46 ?_
        refine r_istore_n dX0_near_47 (by decide) rfl ?_
        refine r_iincN (n := 1) dX0_near_48 rfl rfl (by decide) rfl ?_
        refine r_goto (tgt := 4) dX0_near_51 rfl ?_
        exact r_L (by rw [← setOf_f (by simp [stV, *]), or0]; rfl) (ihi (by omega))
      · --
        refine r_iconst (v := nI 1) dX0_near_39 (by decide) ?_
        refine r_iload_n dX0_near_40 rfl ?_
        refine r_ishl dX0_near_41 ?_
        refine r_top (one i) rfl ?_
        refine r_goto (tgt := 46) dX0_near_42 rfl ?_
        refine r_ior dX0_near_46 ?_
        refine r_istore_n dX0_near_47 (by decide) rfl ?_
        refine r_iincN (n := 1) dX0_near_48 rfl rfl (by decide) rfl ?_
        refine r_goto (tgt := 4) dX0_near_51 rfl ?_
        exact r_L (by rw [← setOf_t (by simp [stV, *])]; rfl) (ihi (by omega))

theorem x0_dupe {G : ev_G} {b : Bk} {K : XK} {T : Nat → Int32} {h : ev_H} (hm : XM b K T h) : Called G mX0_dupe 6 0 0 [vR 64] h (px (vI (dupeV b T)) h) := by
  have hb := hm.xb
  have hT := hm.xt
  have hl := hm.lay
  have hw := hm.bw
  have hb1 := hw.p6
  have hb2 := hw.s5
  have hb3 := hw.t10
  have hw9 := hm.tw
  refine called_of rfl [some (vR 64), none, none] rfl (Nat.le_of_ble_eq_true rfl) ?_
  refine r_iconst (v := (-1)) dX0_dupe_0 (by decide) ?_
  refine r_istore_n dX0_dupe_1 (by decide) rfl ?_
  refine r_iconst (v := nI 0) dX0_dupe_2 (by decide) ?_
  refine r_istore_n dX0_dupe_3 (by decide) rfl ?_
  refine (ev_for (P := fun i => Ev G mX0_dupe (ev_room 6 0 0) (ev_MQ G (px (vI (dupeV b T)) h) 0 0) 4 [some (vR 64), some (vI (optI (bestOf i (fun _ => true) (fun p => heatV b (toV b (nI p) &&& keptV b T))))), some (vI (nI i))] [] h 0 0) (nP b) (fun i hki ihi => ?_)) 0 (Nat.zero_le _)
  refine r_iload_n dX0_dupe_4 rfl ?_
  refine r_aload_n dX0_dupe_5 rfl ?_
  refine r_callVx lX0_151 (x0_people hm) (hl.k) rfl rfl rfl rfl dX0_dupe_6 (Nat.le_refl _) (Nat.le_refl _) ?_
  refine r_icmpN_ge (tgt := 41) dX0_dupe_9 rfl (by omega) (by omega) (fun c1 => ?_) (fun c1 => ?_)
  · --
    refine r_iload_n dX0_dupe_41 rfl ?_
    exact r_retx dX0_dupe_42 rfl rfl (congrArg (fun n => optI (bestOf n _ _)) (by omega))
  · --
    cases hbo : bestOf i (fun _ => true) (fun p => heatV b (toV b (nI p) &&& keptV b T)) with
    | none =>
      refine r_iload_n dX0_dupe_12 rfl ?_
      refine r_if_lt (tgt := 29) dX0_dupe_13 rfl (fun c2 => ?_) (fun c2 => ?_)
      · --
        refine r_iload_n dX0_dupe_29 rfl ?_
        refine r_goto (tgt := 34) dX0_dupe_30 rfl ?_
        refine r_istore_n dX0_dupe_34 (by decide) rfl ?_
        refine r_iincN (n := 1) dX0_dupe_35 rfl rfl (by decide) rfl ?_
        refine r_goto (tgt := 4) dX0_dupe_38 rfl ?_
        exact r_L (by have h7 := bestOf_n1 (p := fun _ => true) (f := fun p => heatV b (toV b (nI p) &&& keptV b T)) hbo rfl; rw [h7]; rfl) (ihi (by omega))
      · --
        exact absurd (show ((-1) : Int32) < 0 by decide) c2
    | some jb =>
      have hjb := bestOf_lt hbo
      refine r_iload_n dX0_dupe_12 rfl ?_
      refine r_if_lt (tgt := 29) dX0_dupe_13 rfl (fun c3 => ?_) (fun c3 => ?_)
      · --
        exact absurd c3 (nI_pos (by omega))
      · --
        refine r_aload_n dX0_dupe_16 rfl ?_
        refine r_iload_n dX0_dupe_17 rfl ?_
        refine r_callVx lX0_302 (x0_keptTo hm _) (hl.k) rfl rfl rfl rfl dX0_dupe_18 (Nat.le_refl _) (Nat.le_refl _) ?_
        refine r_aload_n dX0_dupe_21 rfl ?_
        refine r_iload_n dX0_dupe_22 rfl ?_
        refine r_callVx lX0_302 (x0_keptTo hm _) (hl.k) rfl rfl rfl rfl dX0_dupe_23 (Nat.le_refl _) (Nat.le_refl _) ?_
        refine r_icmp_le (tgt := 33) dX0_dupe_26 rfl (fun c4 => ?_) (fun c4 => ?_)
        · --
          refine r_iload_n dX0_dupe_33 rfl ?_
          refine r_istore_n dX0_dupe_34 (by decide) rfl ?_
          refine r_iincN (n := 1) dX0_dupe_35 rfl rfl (by decide) rfl ?_
          refine r_goto (tgt := 4) dX0_dupe_38 rfl ?_
          exact r_L (by have h7 := bestOf_s0 (p := fun _ => true) (f := fun p => heatV b (toV b (nI p) &&& keptV b T)) hbo (Or.inr c4); rw [h7]; rfl) (ihi (by omega))
        · --
          refine r_iload_n dX0_dupe_29 rfl ?_
          refine r_goto (tgt := 34) dX0_dupe_30 rfl ?_
          refine r_istore_n dX0_dupe_34 (by decide) rfl ?_
          refine r_iincN (n := 1) dX0_dupe_35 rfl rfl (by decide) rfl ?_
          refine r_goto (tgt := 4) dX0_dupe_38 rfl ?_
          exact r_L (by have h7 := bestOf_s1 (p := fun _ => true) (f := fun p => heatV b (toV b (nI p) &&& keptV b T)) hbo rfl (Int32.not_le.mp c4); rw [h7]; rfl) (ihi (by omega))

theorem x0_closest {G : ev_G} {b : Bk} {K : XK} {T : Nat → Int32} {h : ev_H} (hm : XM b K T h) : Called G mX0_closest 6 0 0 [vR 64] h (px (vI (closestV b T)) h) := by
  have hb := hm.xb
  have hT := hm.xt
  have hl := hm.lay
  have hw := hm.bw
  have hb1 := hw.p6
  have hb2 := hw.s5
  have hb3 := hw.t10
  have hw9 := hm.tw
  refine called_of rfl [some (vR 64), none, none] rfl (Nat.le_of_ble_eq_true rfl) ?_
  refine r_iconst (v := (-1)) dX0_closest_0 (by decide) ?_
  refine r_istore_n dX0_closest_1 (by decide) rfl ?_
  refine r_iconst (v := nI 0) dX0_closest_2 (by decide) ?_
  refine r_istore_n dX0_closest_3 (by decide) rfl ?_
  refine (ev_for (P := fun i => Ev G mX0_closest (ev_room 6 0 0) (ev_MQ G (px (vI (closestV b T)) h) 0 0) 4 [some (vR 64), some (vI (optI (bestOf i (fun _ => true) (fun p => popc (byV b (nI p) &&& keptV b T))))), some (vI (nI i))] [] h 0 0) (nP b) (fun i hki ihi => ?_)) 0 (Nat.zero_le _)
  refine r_iload_n dX0_closest_4 rfl ?_
  refine r_aload_n dX0_closest_5 rfl ?_
  refine r_callVx lX0_151 (x0_people hm) (hl.k) rfl rfl rfl rfl dX0_closest_6 (Nat.le_refl _) (Nat.le_refl _) ?_
  refine r_icmpN_ge (tgt := 41) dX0_closest_9 rfl (by omega) (by omega) (fun c1 => ?_) (fun c1 => ?_)
  · --
    refine r_iload_n dX0_closest_41 rfl ?_
    exact r_retx dX0_closest_42 rfl rfl (congrArg (fun n => optI (bestOf n _ _)) (by omega))
  · --
    cases hbo : bestOf i (fun _ => true) (fun p => popc (byV b (nI p) &&& keptV b T)) with
    | none =>
      refine r_iload_n dX0_closest_12 rfl ?_
      refine r_if_lt (tgt := 29) dX0_closest_13 rfl (fun c2 => ?_) (fun c2 => ?_)
      · --
        refine r_iload_n dX0_closest_29 rfl ?_
        refine r_goto (tgt := 34) dX0_closest_30 rfl ?_
        refine r_istore_n dX0_closest_34 (by decide) rfl ?_
        refine r_iincN (n := 1) dX0_closest_35 rfl rfl (by decide) rfl ?_
        refine r_goto (tgt := 4) dX0_closest_38 rfl ?_
        exact r_L (by have h7 := bestOf_n1 (p := fun _ => true) (f := fun p => popc (byV b (nI p) &&& keptV b T)) hbo rfl; rw [h7]; rfl) (ihi (by omega))
      · --
        exact absurd (show ((-1) : Int32) < 0 by decide) c2
    | some jb =>
      have hjb := bestOf_lt hbo
      refine r_iload_n dX0_closest_12 rfl ?_
      refine r_if_lt (tgt := 29) dX0_closest_13 rfl (fun c3 => ?_) (fun c3 => ?_)
      · --
        exact absurd c3 (nI_pos (by omega))
      · --
        refine r_aload_n dX0_closest_16 rfl ?_
        refine r_iload_n dX0_closest_17 rfl ?_
        refine r_callVx lX0_321 (x0_manyBy hm _) (hl.k) rfl rfl rfl rfl dX0_closest_18 (Nat.le_refl _) (Nat.le_refl _) ?_
        refine r_aload_n dX0_closest_21 rfl ?_
        refine r_iload_n dX0_closest_22 rfl ?_
        refine r_callVx lX0_321 (x0_manyBy hm _) (hl.k) rfl rfl rfl rfl dX0_closest_23 (Nat.le_refl _) (Nat.le_refl _) ?_
        refine r_icmp_le (tgt := 33) dX0_closest_26 rfl (fun c4 => ?_) (fun c4 => ?_)
        · --
          refine r_iload_n dX0_closest_33 rfl ?_
          refine r_istore_n dX0_closest_34 (by decide) rfl ?_
          refine r_iincN (n := 1) dX0_closest_35 rfl rfl (by decide) rfl ?_
          refine r_goto (tgt := 4) dX0_closest_38 rfl ?_
          exact r_L (by have h7 := bestOf_s0 (p := fun _ => true) (f := fun p => popc (byV b (nI p) &&& keptV b T)) hbo (Or.inr c4); rw [h7]; rfl) (ihi (by omega))
        · --
          refine r_iload_n dX0_closest_29 rfl ?_
          refine r_goto (tgt := 34) dX0_closest_30 rfl ?_
          refine r_istore_n dX0_closest_34 (by decide) rfl ?_
          refine r_iincN (n := 1) dX0_closest_35 rfl rfl (by decide) rfl ?_
          refine r_goto (tgt := 4) dX0_closest_38 rfl ?_
          exact r_L (by have h7 := bestOf_s1 (p := fun _ => true) (f := fun p => popc (byV b (nI p) &&& keptV b T)) hbo rfl (Int32.not_le.mp c4); rw [h7]; rfl) (ihi (by omega))

theorem x0_hottest {G : ev_G} {b : Bk} {K : XK} {T : Nat → Int32} {h : ev_H} (hm : XM b K T h) : Called G mX0_hottest 6 0 0 [vR 64] h (px (vI (hottestV b T)) h) := by
  have hb := hm.xb
  have hT := hm.xt
  have hl := hm.lay
  have hw := hm.bw
  have hb1 := hw.p6
  have hb2 := hw.s5
  have hb3 := hw.t10
  have hw9 := hm.tw
  refine called_of rfl [some (vR 64), none, none] rfl (Nat.le_of_ble_eq_true rfl) ?_
  refine r_iconst (v := (-1)) dX0_hottest_0 (by decide) ?_
  refine r_istore_n dX0_hottest_1 (by decide) rfl ?_
  refine r_iconst (v := nI 0) dX0_hottest_2 (by decide) ?_
  refine r_istore_n dX0_hottest_3 (by decide) rfl ?_
  refine (ev_for (P := fun i => Ev G mX0_hottest (ev_room 6 0 0) (ev_MQ G (px (vI (hottestV b T)) h) 0 0) 4 [some (vR 64), some (vI (optI (bestOf i (fun _ => true) (fun s => heatV b (inV b T (nI s)))))), some (vI (nI i))] [] h 0 0) (nS b) (fun i hki ihi => ?_)) 0 (Nat.zero_le _)
  refine r_iload_n dX0_hottest_4 rfl ?_
  refine r_aload_n dX0_hottest_5 rfl ?_
  refine r_callVx lX0_153 (x0_sacks hm) (hl.k) rfl rfl rfl rfl dX0_hottest_6 (Nat.le_refl _) (Nat.le_refl _) ?_
  refine r_icmpN_ge (tgt := 41) dX0_hottest_9 rfl (by omega) (by omega) (fun c1 => ?_) (fun c1 => ?_)
  · --
    refine r_iload_n dX0_hottest_41 rfl ?_
    exact r_retx dX0_hottest_42 rfl rfl (congrArg (fun n => optI (bestOf n _ _)) (by omega))
  · --
    cases hbo : bestOf i (fun _ => true) (fun s => heatV b (inV b T (nI s))) with
    | none =>
      refine r_iload_n dX0_hottest_12 rfl ?_
      refine r_if_lt (tgt := 29) dX0_hottest_13 rfl (fun c2 => ?_) (fun c2 => ?_)
      · --
        refine r_iload_n dX0_hottest_29 rfl ?_
        refine r_goto (tgt := 34) dX0_hottest_30 rfl ?_
        refine r_istore_n dX0_hottest_34 (by decide) rfl ?_
        refine r_iincN (n := 1) dX0_hottest_35 rfl rfl (by decide) rfl ?_
        refine r_goto (tgt := 4) dX0_hottest_38 rfl ?_
        exact r_L (by have h7 := bestOf_n1 (p := fun _ => true) (f := fun s => heatV b (inV b T (nI s))) hbo rfl; rw [h7]; rfl) (ihi (by omega))
      · --
        exact absurd (show ((-1) : Int32) < 0 by decide) c2
    | some jb =>
      have hjb := bestOf_lt hbo
      refine r_iload_n dX0_hottest_12 rfl ?_
      refine r_if_lt (tgt := 29) dX0_hottest_13 rfl (fun c3 => ?_) (fun c3 => ?_)
      · --
        exact absurd c3 (nI_pos (by omega))
      · --
        refine r_aload_n dX0_hottest_16 rfl ?_
        refine r_iload_n dX0_hottest_17 rfl ?_
        refine r_callVx lX0_215 (x0_heatOf hm _) (hl.k) rfl rfl rfl rfl dX0_hottest_18 (Nat.le_refl _) (Nat.le_refl _) ?_
        refine r_aload_n dX0_hottest_21 rfl ?_
        refine r_iload_n dX0_hottest_22 rfl ?_
        refine r_callVx lX0_215 (x0_heatOf hm _) (hl.k) rfl rfl rfl rfl dX0_hottest_23 (Nat.le_refl _) (Nat.le_refl _) ?_
        refine r_icmp_le (tgt := 33) dX0_hottest_26 rfl (fun c4 => ?_) (fun c4 => ?_)
        · --
          refine r_iload_n dX0_hottest_33 rfl ?_
          refine r_istore_n dX0_hottest_34 (by decide) rfl ?_
          refine r_iincN (n := 1) dX0_hottest_35 rfl rfl (by decide) rfl ?_
          refine r_goto (tgt := 4) dX0_hottest_38 rfl ?_
          exact r_L (by have h7 := bestOf_s0 (p := fun _ => true) (f := fun s => heatV b (inV b T (nI s))) hbo (Or.inr c4); rw [h7]; rfl) (ihi (by omega))
        · --
          refine r_iload_n dX0_hottest_29 rfl ?_
          refine r_goto (tgt := 34) dX0_hottest_30 rfl ?_
          refine r_istore_n dX0_hottest_34 (by decide) rfl ?_
          refine r_iincN (n := 1) dX0_hottest_35 rfl rfl (by decide) rfl ?_
          refine r_goto (tgt := 4) dX0_hottest_38 rfl ?_
          exact r_L (by have h7 := bestOf_s1 (p := fun _ => true) (f := fun s => heatV b (inV b T (nI s))) hbo rfl (Int32.not_le.mp c4); rw [h7]; rfl) (ihi (by omega))

theorem x0_pairs {G : ev_G} {b : Bk} {K : XK} {T : Nat → Int32} {h : ev_H} (hm : XM b K T h) : Called G mX0_pairs 6 0 0 [vR 64] h (px (vI (pairsV b T)) h) := by
  have hb := hm.xb
  have hT := hm.xt
  have hl := hm.lay
  have hw := hm.bw
  have hb1 := hw.p6
  have hb2 := hw.s5
  have hb3 := hw.t10
  have hw9 := hm.tw
  refine called_of rfl [some (vR 64), none, none, none] rfl (Nat.le_of_ble_eq_true rfl) ?_
  refine r_iconst (v := nI 0) dX0_pairs_0 (by decide) ?_
  refine r_istore_n dX0_pairs_1 (by decide) rfl ?_
  refine r_iconst (v := nI 0) dX0_pairs_2 (by decide) ?_
  refine r_istore_n dX0_pairs_3 (by decide) rfl ?_
  refine (ev_for (P := fun i => Ev G mX0_pairs (ev_room 6 0 0) (ev_MQ G (px (vI (pairsV b T)) h) 0 0) 4 [some (vR 64), some (vI (sumOf i (fun p => sumOf p (fun q => b2i (tellV b T p q && tellV b T q p))))), some (vI (nI i)), none] [] h 0 0) (nP b) (fun i hki ihi => ?_)) 0 (Nat.zero_le _)
  refine r_iload_n dX0_pairs_4 rfl ?_
  refine r_aload_n dX0_pairs_5 rfl ?_
  refine r_callVx lX0_151 (x0_people hm) (hl.k) rfl rfl rfl rfl dX0_pairs_6 (Nat.le_refl _) (Nat.le_refl _) ?_
  refine r_icmpN_ge (tgt := 57) dX0_pairs_9 rfl (by omega) (by omega) (fun c1 => ?_) (fun c1 => ?_)
  · --
    refine r_iload_n dX0_pairs_57 rfl ?_
    exact r_retx dX0_pairs_58 rfl rfl (congrArg (fun n => sumOf n _) (by omega))
  · --
    refine r_iconst (v := nI 0) dX0_pairs_12 (by decide) ?_
    refine r_istore_n dX0_pairs_13 (by decide) rfl ?_
    refine r_L (L2 := [some (vR 64), some (vI (sumOf i (fun p => sumOf p (fun q => b2i (tellV b T p q && tellV b T q p))) + sumOf 0 (fun q => b2i (tellV b T i q && tellV b T q i)))), some (vI (nI i)), some (vI (nI 0))]) (by rw [show sumOf 0 (fun q => b2i (tellV b T i q && tellV b T q i)) = 0 from rfl, Int32.add_zero]; rfl) ?_
    refine (ev_for (P := fun jj9 => Ev G mX0_pairs (ev_room 6 0 0) (ev_MQ G (px (vI (pairsV b T)) h) 0 0) 14 [some (vR 64), some (vI (sumOf i (fun p => sumOf p (fun q => b2i (tellV b T p q && tellV b T q p))) + sumOf jj9 (fun q => b2i (tellV b T i q && tellV b T q i)))), some (vI (nI i)), some (vI (nI jj9))] [] h 0 0) i (fun jj9 hkjj9 ihjj9 => ?_)) 0 (Nat.zero_le _)
    refine r_iload_n dX0_pairs_14 rfl ?_
    refine r_iload_n dX0_pairs_15 rfl ?_
    refine r_icmpN_ge (tgt := 51) dX0_pairs_16 rfl (by omega) (by omega) (fun c2 => ?_) (fun c2 => ?_)
    · --
      refine r_iincN (n := 1) dX0_pairs_51 rfl rfl (by decide) rfl ?_
      refine r_goto (tgt := 4) dX0_pairs_54 rfl ?_
      refine r_sub [some (vR 64), some (vI (sumOf i (fun p => sumOf p (fun q => b2i (tellV b T p q && tellV b T q p))) + sumOf jj9 (fun q => b2i (tellV b T i q && tellV b T q i)))), some (vI (nI (i + 1))), none] (And.intro rfl (And.intro rfl (And.intro rfl trivial))) ?_
      exact r_L (by rw [show jj9 = i by omega]; rfl) (ihi (by omega))
    · --
      refine r_iload_n dX0_pairs_19 rfl ?_
      refine r_aload_n dX0_pairs_20 rfl ?_
      refine r_iload_n dX0_pairs_21 rfl ?_
      refine r_iload_n dX0_pairs_22 rfl ?_
      refine r_callVx lX0_299 (x0_hasTold hm i jj9) (hl.k) rfl rfl rfl rfl dX0_pairs_23 (Nat.le_refl _) (Nat.le_refl _) ?_
      refine r_ifB_eq (tgt := 42) dX0_pairs_26 rfl (fun c3 => ?_) (fun c3 => ?_)
      · --
        refine r_iconst (v := nI 0) dX0_pairs_42 (by decide) ?_
        refine r_iadd dX0_pairs_43 ?_
        refine r_istore_n dX0_pairs_44 (by decide) rfl ?_
        refine r_iincN (n := 1) dX0_pairs_45 rfl rfl (by decide) rfl ?_
        refine r_goto (tgt := 14) dX0_pairs_48 rfl ?_
        exact r_L (by rw [sum2 (n := jj9) (f := fun q => b2i (tellV b T i q && tellV b T q i)) (by simp [c3]; rfl)]; rfl) (ihjj9 (by omega))
      · --
        refine r_aload_n dX0_pairs_29 rfl ?_
        refine r_iload_n dX0_pairs_30 rfl ?_
        refine r_iload_n dX0_pairs_31 rfl ?_
        refine r_callVx lX0_299 (x0_hasTold hm jj9 i) (hl.k) rfl rfl rfl rfl dX0_pairs_32 (Nat.le_refl _) (Nat.le_refl _) ?_
        refine r_ifB_eq (tgt := 42) dX0_pairs_35 rfl (fun c4 => ?_) (fun c4 => ?_)
        · --
          refine r_iconst (v := nI 0) dX0_pairs_42 (by decide) ?_
          refine r_iadd dX0_pairs_43 ?_
          refine r_istore_n dX0_pairs_44 (by decide) rfl ?_
          refine r_iincN (n := 1) dX0_pairs_45 rfl rfl (by decide) rfl ?_
          refine r_goto (tgt := 14) dX0_pairs_48 rfl ?_
          exact r_L (by rw [sum2 (n := jj9) (f := fun q => b2i (tellV b T i q && tellV b T q i)) (by simp [c3, c4]; rfl)]; rfl) (ihjj9 (by omega))
        · --
          refine r_iconst (v := nI 1) dX0_pairs_38 (by decide) ?_
          refine r_goto (tgt := 43) dX0_pairs_39 rfl ?_
          refine r_iadd dX0_pairs_43 ?_
          refine r_istore_n dX0_pairs_44 (by decide) rfl ?_
          refine r_iincN (n := 1) dX0_pairs_45 rfl rfl (by decide) rfl ?_
          refine r_goto (tgt := 14) dX0_pairs_48 rfl ?_
          exact r_L (by rw [sum2 (n := jj9) (f := fun q => b2i (tellV b T i q && tellV b T q i)) (by simp [c3, c4]; rfl)]; rfl) (ihjj9 (by omega))

theorem x0_would {G : ev_G} {b : Bk} {K : XK} {T : Nat → Int32} {h : ev_H} (hm : XM b K T h) (p : Int32) : Called G mX0_would 311 0 0 [vR 64, vI p] h (pI (fun y h1 => y = wouldV b T p ∧ Fr (QF K) [] h h1)) := by
  have hb := hm.xb
  have hT := hm.xt
  have hl := hm.lay
  have hw := hm.bw
  have hb1 := hw.p6
  have hb2 := hw.s5
  have hb3 := hw.t10
  have hw9 := hm.tw
  have f : Fr (QF K) [] h h := Fr.rf
  refine called_of rfl [some (vR 64), some (vI p)] rfl (Nat.le_of_ble_eq_true rfl) ?_
  refine r_aload_n dX0_would_0 rfl ?_
  refine r_iload_n dX0_would_1 rfl ?_
  refine r_callVx lX0_212 (x0_isSack hm _) (hl.k) rfl rfl rfl rfl dX0_would_2 (Nat.le_refl _) (Nat.le_refl _) ?_
  refine r_ifB_eq (tgt := 23) dX0_would_5 rfl (fun c1 => ?_) (fun c1 => ?_)
  · --
    refine r_iconst (v := (-1)) dX0_would_23 (by decide) ?_
    exact r_reti dX0_would_24 rfl rfl (Nat.le_refl _) (Nat.le_refl _) ⟨by simp [wouldV, *], f⟩
  · --
    obtain ⟨j, hj, rfl⟩ := sakV_ok hw c1
    refine r_aload_n dX0_would_8 rfl ?_
    refine r_getRv fX0_53 (hl.k) (v := 74) (hl.r 5 (by decide) (by decide)) rfl dX0_would_9 ?_
    refine r_aload_n dX0_would_12 rfl ?_
    refine r_getRv fX0_42 (hl.k) (v := kB K) (hm.bk) rfl dX0_would_13 ?_
    refine r_iload_n dX0_would_16 rfl ?_
    refine r_callVi lX0_221 (x3_out hb hT hw9 (s := j) (by omega)) (hT.k) rfl rfl rfl rfl dX0_would_17 (Nat.le_refl _) (Nat.le_refl _) (fun y9 hZ1 q9 => ?_)
    obtain ⟨e9, gZ1⟩ := q9
    replace e9 : y9 = outV b T j := e9
    subst e9
    have kZ1 : Fr (QF K) [] h hZ1 := frq_a gZ1
    have hmZ1 := hm.fq kZ1
    have fZ1 : Fr (QF K) [] h hZ1 := f.tr kZ1
    have hbZ1 := hmZ1.xb
    have hTZ1 := hmZ1.xt
    have hlZ1 := hmZ1.lay
    refine r_goto (tgt := 24) dX0_would_20 rfl ?_
    exact r_reti dX0_would_24 rfl rfl (Nat.le_refl _) (Nat.le_refl _) ⟨by simp only [wouldV, nI_clamp (show j < 2 ^ 31 by omega)]; rw [if_pos (by assumption)], fZ1⟩

theorem x0_idle {G : ev_G} {b : Bk} {K : XK} {T : Nat → Int32} {h : ev_H} (hm : XM b K T h) : Called G mX0_idle 311 0 0 [vR 64] h (pI (fun y h1 => y = idleV b T ∧ Fr (QF K) [] h h1)) := by
  have hb := hm.xb
  have hT := hm.xt
  have hl := hm.lay
  have hw := hm.bw
  have hb1 := hw.p6
  have hb2 := hw.s5
  have hb3 := hw.t10
  have hw9 := hm.tw
  have f : Fr (QF K) [] h h := Fr.rf
  refine called_of rfl [some (vR 64), none, none] rfl (Nat.le_of_ble_eq_true rfl) ?_
  refine r_iconst (v := nI 0) dX0_idle_0 (by decide) ?_
  refine r_istore_n dX0_idle_1 (by decide) rfl ?_
  refine r_iconst (v := nI 0) dX0_idle_2 (by decide) ?_
  refine r_istore_n dX0_idle_3 (by decide) rfl ?_
  refine (ev_for (P := fun i => ∀ hL : ev_H, (Fr (QF K) [] h hL) → Ev G mX0_idle (ev_room 311 0 0) (ev_MQ G (pI (fun y h1 => y = idleV b T ∧ Fr (QF K) [] h h1)) 0 0) 4 [some (vR 64), some (vI (setOf i (fun s => decide (outV b T s = 0)))), some (vI (nI i))] [] hL 0 0) (nS b) (fun i hki ihi hL qhL => ?_)) 0 (Nat.zero_le _) _ (f)
  have fL := qhL
  have hmL := hm.fq fL
  have hbL := hmL.xb
  have hTL := hmL.xt
  have hlL := hmL.lay
  refine r_iload_n dX0_idle_4 rfl ?_
  refine r_aload_n dX0_idle_5 rfl ?_
  refine r_callVx lX0_153 (x0_sacks hmL) (hlL.k) rfl rfl rfl rfl dX0_idle_6 (Nat.le_refl _) (Nat.le_refl _) ?_
  refine r_icmpN_ge (tgt := 43) dX0_idle_9 rfl (by omega) (by omega) (fun c1 => ?_) (fun c1 => ?_)
  · --
    refine r_iload_n dX0_idle_43 rfl ?_
    exact r_reti dX0_idle_44 rfl rfl (Nat.le_refl _) (Nat.le_refl _) ⟨congrArg (fun n => setOf n _) (by omega), fL⟩
  · --
    refine r_iload_n dX0_idle_12 rfl ?_
    refine r_aload_n dX0_idle_13 rfl ?_
    refine r_getRv fX0_53 (hlL.k) (v := 74) (hlL.r 5 (by decide) (by decide)) rfl dX0_idle_14 ?_
    refine r_aload_n dX0_idle_17 rfl ?_
    refine r_getRv fX0_42 (hlL.k) (v := kB K) (hmL.bk) rfl dX0_idle_18 ?_
    refine r_iload_n dX0_idle_21 rfl ?_
    refine r_callVi lX0_221 (x3_out hbL hTL hw9 (s := i) (by omega)) (hTL.k) rfl rfl rfl rfl dX0_idle_22 (Nat.le_refl _) (Nat.le_refl _) (fun y9 hZ1 q9 => ?_)
    obtain ⟨e9, gZ1⟩ := q9
    replace e9 : y9 = outV b T i := e9
    subst e9
    have kZ1 : Fr (QF K) [] hL hZ1 := frq_a gZ1
    have hmZ1 := hmL.fq kZ1
    have fZ1 : Fr (QF K) [] h hZ1 := fL.tr kZ1
    have hbZ1 := hmZ1.xb
    have hTZ1 := hmZ1.xt
    have hlZ1 := hmZ1.lay
    refine r_if_ne (tgt := 34) dX0_idle_25 rfl (fun c2 => ?_) (fun c2 => ?_)
    · --
      refine r_iconst (v := nI 0) dX0_idle_34 (by decide) ?_
      refine r_ior dX0_idle_35 ?_
      refine r_istore_n dX0_idle_36 (by decide) rfl ?_
      refine r_iincN (n := 1) dX0_idle_37 rfl rfl (by decide) rfl ?_
      refine r_goto (tgt := 4) dX0_idle_40 rfl ?_
      exact r_L (by rw [← setOf_f (by simp [stV, *]), or0]; rfl) (ihi (by omega) _ (fZ1))
    · --
      refine r_iconst (v := nI 1) dX0_idle_28 (by decide) ?_
      refine r_iload_n dX0_idle_29 rfl ?_
      refine r_ishl dX0_idle_30 ?_
      refine r_top (one i) rfl ?_
      refine r_goto (tgt := 35) dX0_idle_31 rfl ?_
      refine r_ior dX0_idle_35 ?_
      refine r_istore_n dX0_idle_36 (by decide) rfl ?_
      refine r_iincN (n := 1) dX0_idle_37 rfl rfl (by decide) rfl ?_
      refine r_goto (tgt := 4) dX0_idle_40 rfl ?_
      exact r_L (by rw [← setOf_t (by simp [stV, *])]; rfl) (ihi (by omega) _ (fZ1))

theorem x0_outAt {G : ev_G} {b : Bk} {K : XK} {T : Nat → Int32} {h : ev_H} (hm : XM b K T h) {v : Int32} (hv : ∃ n, n < 2 ^ nP b ∧ v = nI n) {s : Nat} (hs : s < nS b) : Called G mX0_outAt 311 0 0 [vR 64, vI v, vI (nI s)] h (pI (fun y h1 => y = outW b T v s ∧ Fr (QF K) [] h h1)) := by
  have hb := hm.xb
  have hT := hm.xt
  have hl := hm.lay
  have hw := hm.bw
  have hb1 := hw.p6
  have hb2 := hw.s5
  have hb3 := hw.t10
  have hw9 := hm.tw
  have f : Fr (QF K) [] h h := Fr.rf
  refine called_of rfl [some (vR 64), some (vI v), some (vI (nI s))] rfl (Nat.le_of_ble_eq_true rfl) ?_
  refine r_aload_n dX0_outAt_0 rfl ?_
  refine r_getRv fX0_60 (hl.k) (v := 80) (hl.r 7 (by decide) (by decide)) rfl dX0_outAt_1 ?_
  refine r_aload_n dX0_outAt_4 rfl ?_
  refine r_getRv fX0_53 (hl.k) (v := 74) (hl.r 5 (by decide) (by decide)) rfl dX0_outAt_5 ?_
  refine r_callVr lX0_230 (xq_copy hm) (hl.s80.2.1) rfl rfl rfl rfl dX0_outAt_8 (Nat.le_refl _) (Nat.le_refl _) (fun y9 hZ1 q9 => ?_)
  obtain ⟨rfl, gZ1, hqZ1⟩ := q9
  have kZ1 : Fr (QF K) [] h hZ1 := frq_t gZ1
  have hmZ1 := hm.fq kZ1
  have fZ1 : Fr (QF K) [] h hZ1 := f.tr kZ1
  have hbZ1 := hmZ1.xb
  have hTZ1 := hmZ1.xt
  have hlZ1 := hmZ1.lay
  refine r_iload_n dX0_outAt_11 rfl ?_
  refine r_callVr lX0_265 (x3_seat hqZ1 v) (hlZ1.s80.2.1) rfl rfl rfl rfl dX0_outAt_12 (Nat.le_refl _) (Nat.le_refl _) (fun y9 hZ2 q9 => ?_)
  obtain ⟨rfl, gZ2, hqZ2⟩ := q9
  have kZ2 : Fr (QF K) [] hZ1 hZ2 := frq_t gZ2
  have hmZ2 := hmZ1.fq kZ2
  have fZ2 : Fr (QF K) [] h hZ2 := fZ1.tr kZ2
  have hbZ2 := hmZ2.xb
  have hTZ2 := hmZ2.xt
  have hlZ2 := hmZ2.lay
  refine r_aload_n dX0_outAt_15 rfl ?_
  refine r_getRv fX0_42 (hlZ2.k) (v := kB K) (hmZ2.bk) rfl dX0_outAt_16 ?_
  refine r_iload_n dX0_outAt_19 rfl ?_
  refine r_callVi lX0_221 (x3_out hbZ2 hqZ2 (hw9.sits (hv)) (s := s) (by omega)) (hlZ2.s80.2.1) rfl rfl rfl rfl dX0_outAt_20 (Nat.le_refl _) (Nat.le_refl _) (fun y9 hZ3 q9 => ?_)
  obtain ⟨e9, gZ3⟩ := q9
  replace e9 : y9 = outV b (u1 T 0 v) s := e9
  subst e9
  have kZ3 : Fr (QF K) [] hZ2 hZ3 := frq_a gZ3
  have hmZ3 := hmZ2.fq kZ3
  have fZ3 : Fr (QF K) [] h hZ3 := fZ2.tr kZ3
  have hbZ3 := hmZ3.xb
  have hTZ3 := hmZ3.xt
  have hlZ3 := hmZ3.lay
  have hqZ3 := hqZ2.frA hbZ2 gZ3
  exact r_reti dX0_outAt_23 rfl rfl (Nat.le_refl _) (Nat.le_refl _) ⟨rfl, fZ3⟩

theorem x0_saidBySome {G : ev_G} {b : Bk} {K : XK} {T : Nat → Int32} {h : ev_H} (hm : XM b K T h) (set : Int32) : Called G mX0_saidBySome 313 0 0 [vR 64, vI set] h (pI (fun y h1 => y = saidV b T set ∧ Fr (QF K) [] h h1)) := by
  have hb := hm.xb
  have hT := hm.xt
  have hl := hm.lay
  have hw := hm.bw
  have hb1 := hw.p6
  have hb2 := hw.s5
  have hb3 := hw.t10
  have hw9 := hm.tw
  have f : Fr (QF K) [] h h := Fr.rf
  refine called_of rfl [some (vR 64), some (vI set)] rfl (Nat.le_of_ble_eq_true rfl) ?_
  refine r_aload_n dX0_saidBySome_0 rfl ?_
  refine r_getRv fX0_60 (hl.k) (v := 80) (hl.r 7 (by decide) (by decide)) rfl dX0_saidBySome_1 ?_
  refine r_aload_n dX0_saidBySome_4 rfl ?_
  refine r_getRv fX0_53 (hl.k) (v := 74) (hl.r 5 (by decide) (by decide)) rfl dX0_saidBySome_5 ?_
  refine r_callVr lX0_230 (xq_copy hm) (hl.s80.2.1) rfl rfl rfl rfl dX0_saidBySome_8 (Nat.le_refl _) (Nat.le_refl _) (fun y9 hZ1 q9 => ?_)
  obtain ⟨rfl, gZ1, hqZ1⟩ := q9
  have kZ1 : Fr (QF K) [] h hZ1 := frq_t gZ1
  have hmZ1 := hm.fq kZ1
  have fZ1 : Fr (QF K) [] h hZ1 := f.tr kZ1
  have hbZ1 := hmZ1.xb
  have hTZ1 := hmZ1.xt
  have hlZ1 := hmZ1.lay
  refine r_aload_n dX0_saidBySome_11 rfl ?_
  refine r_getRv fX0_42 (hlZ1.k) (v := kB K) (hmZ1.bk) rfl dX0_saidBySome_12 ?_
  refine r_iload_n dX0_saidBySome_15 rfl ?_
  refine r_callVi lX0_289 (x3_grindSome hbZ1 hqZ1 (hw9) set) (hlZ1.s80.2.1) rfl rfl rfl rfl dX0_saidBySome_16 (Nat.le_refl _) (Nat.le_refl _) (fun y9 hZ2 q9 => ?_)
  obtain ⟨e9, gZ2, hqZ2⟩ := q9
  rw [gsV_said (hw9) hw] at e9; subst e9
  have kZ2 : Fr (QF K) [] hZ1 hZ2 := frq_g gZ2
  have hmZ2 := hmZ1.fq kZ2
  have fZ2 : Fr (QF K) [] h hZ2 := fZ1.tr kZ2
  have hbZ2 := hmZ2.xb
  have hTZ2 := hmZ2.xt
  have hlZ2 := hmZ2.lay
  exact r_reti dX0_saidBySome_19 rfl rfl (Nat.le_refl _) (Nat.le_refl _) ⟨rfl, fZ2⟩

theorem x0_storm {G : ev_G} {b : Bk} {K : XK} {T : Nat → Int32} {h : ev_H} (hm : XM b K T h) : Called G mX0_storm 314 0 0 [vR 64] h (pI (fun y h1 => y = heatV b (saidV b T (allV (nS b))) ∧ Fr (QF K) [] h h1)) := by
  have hb := hm.xb
  have hT := hm.xt
  have hl := hm.lay
  have hw := hm.bw
  have hb1 := hw.p6
  have hb2 := hw.s5
  have hb3 := hw.t10
  have hw9 := hm.tw
  have f : Fr (QF K) [] h h := Fr.rf
  refine called_of rfl [some (vR 64)] rfl (Nat.le_of_ble_eq_true rfl) ?_
  refine r_aload_n dX0_storm_0 rfl ?_
  refine r_getRv fX0_42 (hl.k) (v := kB K) (hm.bk) rfl dX0_storm_1 ?_
  refine r_aload_n dX0_storm_4 rfl ?_
  refine r_aload_n dX0_storm_5 rfl ?_
  refine r_callVx lX0_280 (x0_allSacks hm) (hl.k) rfl rfl rfl rfl dX0_storm_6 (Nat.le_refl _) (Nat.le_refl _) ?_
  refine r_callVi lX0_283 (x0_saidBySome hm (allV (nS b))) (hl.k) rfl rfl rfl rfl dX0_storm_9 (Nat.le_refl _) (Nat.le_refl _) (fun y9 hZ1 q9 => ?_)
  obtain ⟨rfl, gZ1⟩ := q9
  have kZ1 : Fr (QF K) [] h hZ1 := gZ1
  have hmZ1 := hm.fq kZ1
  have fZ1 : Fr (QF K) [] h hZ1 := f.tr kZ1
  have hbZ1 := hmZ1.xb
  have hTZ1 := hmZ1.xt
  have hlZ1 := hmZ1.lay
  refine r_callVx lX0_209 (x1_heat hbZ1 _) (hbZ1.k) rfl rfl rfl rfl dX0_storm_12 (Nat.le_refl _) (Nat.le_refl _) ?_
  exact r_reti dX0_storm_15 rfl rfl (Nat.le_refl _) (Nat.le_refl _) ⟨rfl, fZ1⟩

theorem x0_allSaidAt {G : ev_G} {b : Bk} {K : XK} {T : Nat → Int32} {h : ev_H} (hm : XM b K T h) {v : Int32} (hv : ∃ n, n < 2 ^ nP b ∧ v = nI n) : Called G mX0_allSaidAt 313 0 0 [vR 64, vI v] h (pI (fun y h1 => y = popc (saidW b T v) ∧ Fr (QF K) [] h h1)) := by
  have hb := hm.xb
  have hT := hm.xt
  have hl := hm.lay
  have hw := hm.bw
  have hb1 := hw.p6
  have hb2 := hw.s5
  have hb3 := hw.t10
  have hw9 := hm.tw
  have f : Fr (QF K) [] h h := Fr.rf
  refine called_of rfl [some (vR 64), some (vI v)] rfl (Nat.le_of_ble_eq_true rfl) ?_
  refine r_aload_n dX0_allSaidAt_0 rfl ?_
  refine r_getRv fX0_60 (hl.k) (v := 80) (hl.r 7 (by decide) (by decide)) rfl dX0_allSaidAt_1 ?_
  refine r_aload_n dX0_allSaidAt_4 rfl ?_
  refine r_getRv fX0_53 (hl.k) (v := 74) (hl.r 5 (by decide) (by decide)) rfl dX0_allSaidAt_5 ?_
  refine r_callVr lX0_230 (xq_copy hm) (hl.s80.2.1) rfl rfl rfl rfl dX0_allSaidAt_8 (Nat.le_refl _) (Nat.le_refl _) (fun y9 hZ1 q9 => ?_)
  obtain ⟨rfl, gZ1, hqZ1⟩ := q9
  have kZ1 : Fr (QF K) [] h hZ1 := frq_t gZ1
  have hmZ1 := hm.fq kZ1
  have fZ1 : Fr (QF K) [] h hZ1 := f.tr kZ1
  have hbZ1 := hmZ1.xb
  have hTZ1 := hmZ1.xt
  have hlZ1 := hmZ1.lay
  refine r_iload_n dX0_allSaidAt_11 rfl ?_
  refine r_callVr lX0_265 (x3_seat hqZ1 v) (hlZ1.s80.2.1) rfl rfl rfl rfl dX0_allSaidAt_12 (Nat.le_refl _) (Nat.le_refl _) (fun y9 hZ2 q9 => ?_)
  obtain ⟨rfl, gZ2, hqZ2⟩ := q9
  have kZ2 : Fr (QF K) [] hZ1 hZ2 := frq_t gZ2
  have hmZ2 := hmZ1.fq kZ2
  have fZ2 : Fr (QF K) [] h hZ2 := fZ1.tr kZ2
  have hbZ2 := hmZ2.xb
  have hTZ2 := hmZ2.xt
  have hlZ2 := hmZ2.lay
  refine r_aload_n dX0_allSaidAt_15 rfl ?_
  refine r_getRv fX0_42 (hlZ2.k) (v := kB K) (hmZ2.bk) rfl dX0_allSaidAt_16 ?_
  refine r_aload_n dX0_allSaidAt_19 rfl ?_
  refine r_callVx lX0_280 (x0_allSacks hmZ2) (hlZ2.k) rfl rfl rfl rfl dX0_allSaidAt_20 (Nat.le_refl _) (Nat.le_refl _) ?_
  refine r_callVi lX0_289 (x3_grindSome hbZ2 hqZ2 (hw9.sits (hv)) (allV (nS b))) (hlZ2.s80.2.1) rfl rfl rfl rfl dX0_allSaidAt_23 (Nat.le_refl _) (Nat.le_refl _) (fun y9 hZ3 q9 => ?_)
  obtain ⟨e9, gZ3, hqZ3⟩ := q9
  rw [gsV_said (hw9.sits (hv)) hw] at e9; subst e9
  have kZ3 : Fr (QF K) [] hZ2 hZ3 := frq_g gZ3
  have hmZ3 := hmZ2.fq kZ3
  have fZ3 : Fr (QF K) [] h hZ3 := fZ2.tr kZ3
  have hbZ3 := hmZ3.xb
  have hTZ3 := hmZ3.xt
  have hlZ3 := hmZ3.lay
  refine r_callSx lX0_239 (xJ15_bc (lt1024 hw (said_lt hw _))) rfl rfl rfl rfl dX0_allSaidAt_26 (Nat.le_refl _) (Nat.le_refl _) ?_
  exact r_reti dX0_allSaidAt_29 rfl rfl (Nat.le_refl _) (Nat.le_refl _) ⟨rfl, fZ3⟩

theorem x0_fewN {G : ev_G} {h : ev_H} {n : Nat} (hn : n < 1024) : Called G mX0_isFewer 1 0 0 [vI (nI n), vI (-1)] h (px (vI (b2i true)) h) := by
  refine called_of rfl [some (vI (nI n)), some (vI (-1))] rfl (Nat.le_of_ble_eq_true rfl) ?_
  refine r_iload_n dX0_isFewer_0 rfl ?_
  refine r_if_lt (tgt := 15) dX0_isFewer_1 rfl (fun c1 => ?_) (fun c1 => ?_)
  · --
    refine r_iconst (v := nI 1) dX0_isFewer_15 (by decide) ?_
    refine r_goto (tgt := 20) dX0_isFewer_16 rfl ?_
    exact r_ret1 dX0_isFewer_20 rfl (rfl)
  · --
    exact absurd (show ((-1) : Int32) < 0 by decide) c1

theorem x0_fewS {G : ev_G} {h : ev_H} {n j : Nat} (hn : n < 1024) (hj : j < 1024) : Called G mX0_isFewer 1 0 0 [vI (nI n), vI (nI j)] h (px (vI (b2i (decide (popc (nI n) < popc (nI j))))) h) := by
  refine called_of rfl [some (vI (nI n)), some (vI (nI j))] rfl (Nat.le_of_ble_eq_true rfl) ?_
  refine r_iload_n dX0_isFewer_0 rfl ?_
  refine r_if_lt (tgt := 15) dX0_isFewer_1 rfl (fun c1 => ?_) (fun c1 => ?_)
  · --
    exact absurd c1 (nI_pos (by omega))
  · --
    refine r_iload_n dX0_isFewer_4 rfl ?_
    refine r_callSx lX0_239 (xJ15_bc (⟨_, (by assumption), rfl⟩)) rfl rfl rfl rfl dX0_isFewer_5 (Nat.le_refl _) (Nat.le_refl _) ?_
    refine r_iload_n dX0_isFewer_8 rfl ?_
    refine r_callSx lX0_239 (xJ15_bc (⟨_, (by assumption), rfl⟩)) rfl rfl rfl rfl dX0_isFewer_9 (Nat.le_refl _) (Nat.le_refl _) ?_
    refine r_icmp_ge (tgt := 19) dX0_isFewer_12 rfl (fun c2 => ?_) (fun c2 => ?_)
    · --
      refine r_iconst (v := nI 0) dX0_isFewer_19 (by decide) ?_
      exact r_ret0 dX0_isFewer_20 rfl (by first | exact decide_eq_true (Int32.not_le.mp (by assumption)) | exact decide_eq_false (Int32.not_lt.mpr (by assumption)))
    · --
      refine r_iconst (v := nI 1) dX0_isFewer_15 (by decide) ?_
      refine r_goto (tgt := 20) dX0_isFewer_16 rfl ?_
      exact r_ret1 dX0_isFewer_20 rfl (by first | exact decide_eq_true (Int32.not_le.mp (by assumption)) | exact decide_eq_false (Int32.not_lt.mpr (by assumption)))

theorem x0_gain {G : ev_G} {b : Bk} {K : XK} {T : Nat → Int32} {h : ev_H} (hm : XM b K T h) (p : Int32) : Called G mX0_gain 314 0 0 [vR 64, vI p] h (pI (fun y h1 => y = gainV b T p ∧ Fr (QF K) [] h h1)) := by
  have hb := hm.xb
  have hT := hm.xt
  have hl := hm.lay
  have hw := hm.bw
  have hb1 := hw.p6
  have hb2 := hw.s5
  have hb3 := hw.t10
  have hw9 := hm.tw
  have f : Fr (QF K) [] h h := Fr.rf
  refine called_of rfl [some (vR 64), some (vI p)] rfl (Nat.le_of_ble_eq_true rfl) ?_
  refine r_aload_n dX0_gain_0 rfl ?_
  refine r_iload_n dX0_gain_1 rfl ?_
  refine r_callVx lX0_165 (x0_isPerson hm _) (hl.k) rfl rfl rfl rfl dX0_gain_2 (Nat.le_refl _) (Nat.le_refl _) ?_
  refine r_ifB_eq (tgt := 63) dX0_gain_5 rfl (fun c1 => ?_) (fun c1 => ?_)
  · --
    refine r_iconst (v := (-1)) dX0_gain_63 (by decide) ?_
    exact r_reti dX0_gain_64 rfl rfl (Nat.le_refl _) (Nat.le_refl _) ⟨by simp [gainV, *], f⟩
  · --
    obtain ⟨j, hj, rfl⟩ := perV_ok hw c1
    refine r_aload_n dX0_gain_8 rfl ?_
    refine r_getRv fX0_42 (hl.k) (v := kB K) (hm.bk) rfl dX0_gain_9 ?_
    refine r_aload_n dX0_gain_12 rfl ?_
    refine r_getRv fX0_60 (hl.k) (v := 80) (hl.r 7 (by decide) (by decide)) rfl dX0_gain_13 ?_
    refine r_aload_n dX0_gain_16 rfl ?_
    refine r_getRv fX0_53 (hl.k) (v := 74) (hl.r 5 (by decide) (by decide)) rfl dX0_gain_17 ?_
    refine r_callVr lX0_230 (xq_copy hm) (hl.s80.2.1) rfl rfl rfl rfl dX0_gain_20 (Nat.le_refl _) (Nat.le_refl _) (fun y9 hZ1 q9 => ?_)
    obtain ⟨rfl, gZ1, hqZ1⟩ := q9
    have kZ1 : Fr (QF K) [] h hZ1 := frq_t gZ1
    have hmZ1 := hm.fq kZ1
    have fZ1 : Fr (QF K) [] h hZ1 := f.tr kZ1
    have hbZ1 := hmZ1.xb
    have hTZ1 := hmZ1.xt
    have hlZ1 := hmZ1.lay
    refine r_aload_n dX0_gain_23 rfl ?_
    refine r_getRv fX0_53 (hlZ1.k) (v := 74) (hlZ1.r 5 (by decide) (by decide)) rfl dX0_gain_24 ?_
    refine r_getIv fX0_237 (hTZ1.k) (v := T 0) (hTZ1.si) rfl dX0_gain_27 ?_
    refine r_iconst (v := nI 1) dX0_gain_30 (by decide) ?_
    refine r_iload_n dX0_gain_31 rfl ?_
    refine r_ishl dX0_gain_32 ?_
    refine r_top (one j) rfl ?_
    refine r_ior dX0_gain_33 ?_
    refine r_callVr lX0_265 (x3_seat hqZ1 ((T 0) ||| (one j))) (hlZ1.s80.2.1) rfl rfl rfl rfl dX0_gain_34 (Nat.le_refl _) (Nat.le_refl _) (fun y9 hZ2 q9 => ?_)
    obtain ⟨rfl, gZ2, hqZ2⟩ := q9
    have kZ2 : Fr (QF K) [] hZ1 hZ2 := frq_t gZ2
    have hmZ2 := hmZ1.fq kZ2
    have fZ2 : Fr (QF K) [] h hZ2 := fZ1.tr kZ2
    have hbZ2 := hmZ2.xb
    have hTZ2 := hmZ2.xt
    have hlZ2 := hmZ2.lay
    refine r_aload_n dX0_gain_37 rfl ?_
    refine r_getRv fX0_42 (hlZ2.k) (v := kB K) (hmZ2.bk) rfl dX0_gain_38 ?_
    refine r_aload_n dX0_gain_41 rfl ?_
    refine r_callVx lX0_280 (x0_allSacks hmZ2) (hlZ2.k) rfl rfl rfl rfl dX0_gain_42 (Nat.le_refl _) (Nat.le_refl _) ?_
    refine r_callVi lX0_289 (x3_grindSome hbZ2 hqZ2 (hw9.sits (nIor_lt hw9.1 (one_lt hj))) (allV (nS b))) (hlZ2.s80.2.1) rfl rfl rfl rfl dX0_gain_45 (Nat.le_refl _) (Nat.le_refl _) (fun y9 hZ3 q9 => ?_)
    obtain ⟨e9, gZ3, hqZ3⟩ := q9
    rw [gsV_said (hw9.sits (nIor_lt hw9.1 (one_lt hj))) hw] at e9; subst e9
    have kZ3 : Fr (QF K) [] hZ2 hZ3 := frq_g gZ3
    have hmZ3 := hmZ2.fq kZ3
    have fZ3 : Fr (QF K) [] h hZ3 := fZ2.tr kZ3
    have hbZ3 := hmZ3.xb
    have hTZ3 := hmZ3.xt
    have hlZ3 := hmZ3.lay
    refine r_aload_n dX0_gain_48 rfl ?_
    refine r_getRv fX0_42 (hlZ3.k) (v := kB K) (hmZ3.bk) rfl dX0_gain_49 ?_
    refine r_iload_n dX0_gain_52 rfl ?_
    refine r_callVx lX0_184 (x1_allTo hbZ3 _) (hbZ3.k) rfl rfl rfl rfl dX0_gain_53 (Nat.le_refl _) (Nat.le_refl _) ?_
    refine r_iand dX0_gain_56 ?_
    refine r_callVx lX0_209 (x1_heat hbZ3 _) (hbZ3.k) rfl rfl rfl rfl dX0_gain_57 (Nat.le_refl _) (Nat.le_refl _) ?_
    refine r_goto (tgt := 64) dX0_gain_60 rfl ?_
    exact r_reti dX0_gain_64 rfl rfl (Nat.le_refl _) (Nat.le_refl _) ⟨by rw [gainV, if_pos (by assumption)]; rfl, fZ3⟩

theorem x0_has {G : ev_G} {b : Bk} {K : XK} {T : Nat → Int32} {h : ev_H} (hm : XM b K T h) (p said : Int32) : Called G mX0_has 5 0 0 [vR 64, vI p, vI said] h (px (vI (worthV b p said)) h) := by
  have hb := hm.xb
  have hT := hm.xt
  have hl := hm.lay
  have hw := hm.bw
  have hb1 := hw.p6
  have hb2 := hw.s5
  have hb3 := hw.t10
  have hw9 := hm.tw
  refine called_of rfl [some (vR 64), some (vI p), some (vI said)] rfl (Nat.le_of_ble_eq_true rfl) ?_
  refine r_aload_n dX0_has_0 rfl ?_
  refine r_getRv fX0_42 (hl.k) (v := kB K) (hm.bk) rfl dX0_has_1 ?_
  refine r_iload_n dX0_has_4 rfl ?_
  refine r_aload_n dX0_has_5 rfl ?_
  refine r_getRv fX0_42 (hl.k) (v := kB K) (hm.bk) rfl dX0_has_6 ?_
  refine r_iload_n dX0_has_9 rfl ?_
  refine r_callVx lX0_184 (x1_allTo hb _) (hb.k) rfl rfl rfl rfl dX0_has_10 (Nat.le_refl _) (Nat.le_refl _) ?_
  refine r_iand dX0_has_13 ?_
  refine r_callVx lX0_209 (x1_heat hb _) (hb.k) rfl rfl rfl rfl dX0_has_14 (Nat.le_refl _) (Nat.le_refl _) ?_
  refine r_aload_n dX0_has_17 rfl ?_
  refine r_getRv fX0_42 (hl.k) (v := kB K) (hm.bk) rfl dX0_has_18 ?_
  refine r_iload_n dX0_has_21 rfl ?_
  refine r_aload_n dX0_has_22 rfl ?_
  refine r_getRv fX0_42 (hl.k) (v := kB K) (hm.bk) rfl dX0_has_23 ?_
  refine r_iload_n dX0_has_26 rfl ?_
  refine r_callVx lX0_177 (x1_allBy hb _) (hb.k) rfl rfl rfl rfl dX0_has_27 (Nat.le_refl _) (Nat.le_refl _) ?_
  refine r_iand dX0_has_30 ?_
  refine r_callVx lX0_209 (x1_heat hb _) (hb.k) rfl rfl rfl rfl dX0_has_31 (Nat.le_refl _) (Nat.le_refl _) ?_
  refine r_isub dX0_has_34 ?_
  exact r_retx dX0_has_35 rfl rfl (rfl)

theorem x0_isInSack {G : ev_G} {b : Bk} {K : XK} {T : Nat → Int32} {h : ev_H} (hm : XM b K T h) {t : Nat} (ht : t < nT b) : Called G mX0_isInSack 2 0 0 [vR 64, vI (nI t)] h (px (vI (b2i (stV T t && !decide (T (2 + t) < 0)))) h) := by
  have hb := hm.xb
  have hT := hm.xt
  have hl := hm.lay
  have hw := hm.bw
  have hb1 := hw.p6
  have hb2 := hw.s5
  have hb3 := hw.t10
  have hw9 := hm.tw
  refine called_of rfl [some (vR 64), some (vI (nI t))] rfl (Nat.le_of_ble_eq_true rfl) ?_
  refine r_aload_n dX0_isInSack_0 rfl ?_
  refine r_getRv fX0_53 (hl.k) (v := 74) (hl.r 5 (by decide) (by decide)) rfl dX0_isInSack_1 ?_
  refine r_iload_n dX0_isInSack_4 rfl ?_
  refine r_callVx lX0_202 (x3_isSaidN hT t) (hT.k) rfl rfl rfl rfl dX0_isInSack_5 (Nat.le_refl _) (Nat.le_refl _) ?_
  refine r_ifB_ne (tgt := 27) dX0_isInSack_8 rfl (fun c1 => ?_) (fun c1 => ?_)
  · --
    refine r_iconst (v := nI 0) dX0_isInSack_27 (by decide) ?_
    exact r_ret0 dX0_isInSack_28 rfl (by simp [stV, *])
  · --
    refine r_aload_n dX0_isInSack_11 rfl ?_
    refine r_getRv fX0_53 (hl.k) (v := 74) (hl.r 5 (by decide) (by decide)) rfl dX0_isInSack_12 ?_
    refine r_getRv fX0_199 (hT.k) (v := 75) (hT.rin) rfl dX0_isInSack_15 ?_
    refine r_iload_n dX0_isInSack_18 rfl ?_
    refine r_ialdv (hT.kin) (hT.lin) (ix_n (by omega) (by decide)) (v := T (2 + t)) (hT.in_ (by omega)) dX0_isInSack_19 ?_
    refine r_if_lt (tgt := 27) dX0_isInSack_20 rfl (fun c2 => ?_) (fun c2 => ?_)
    · --
      refine r_iconst (v := nI 0) dX0_isInSack_27 (by decide) ?_
      exact r_ret0 dX0_isInSack_28 rfl (by simp [stV, *])
    · --
      refine r_iconst (v := nI 1) dX0_isInSack_23 (by decide) ?_
      refine r_goto (tgt := 28) dX0_isInSack_24 rfl ?_
      exact r_ret1 dX0_isInSack_28 rfl (by simp [stV, *])

theorem x0_keepsFrom {G : ev_G} {b : Bk} {K : XK} {T : Nat → Int32} {h : ev_H} (hm : XM b K T h) (p q : Int32) : Called G mX0_keepsFrom 5 0 0 [vR 64, vI p, vI q] h (px (vI (b2i (!decide (byV b p &&& toV b q &&& keptV b T = 0)))) h) := by
  have hb := hm.xb
  have hT := hm.xt
  have hl := hm.lay
  have hw := hm.bw
  have hb1 := hw.p6
  have hb2 := hw.s5
  have hb3 := hw.t10
  have hw9 := hm.tw
  refine called_of rfl [some (vR 64), some (vI p), some (vI q)] rfl (Nat.le_of_ble_eq_true rfl) ?_
  refine r_aload_n dX0_keepsFrom_0 rfl ?_
  refine r_getRv fX0_42 (hl.k) (v := kB K) (hm.bk) rfl dX0_keepsFrom_1 ?_
  refine r_iload_n dX0_keepsFrom_4 rfl ?_
  refine r_callVx lX0_177 (x1_allBy hb _) (hb.k) rfl rfl rfl rfl dX0_keepsFrom_5 (Nat.le_refl _) (Nat.le_refl _) ?_
  refine r_aload_n dX0_keepsFrom_8 rfl ?_
  refine r_getRv fX0_42 (hl.k) (v := kB K) (hm.bk) rfl dX0_keepsFrom_9 ?_
  refine r_iload_n dX0_keepsFrom_12 rfl ?_
  refine r_callVx lX0_184 (x1_allTo hb _) (hb.k) rfl rfl rfl rfl dX0_keepsFrom_13 (Nat.le_refl _) (Nat.le_refl _) ?_
  refine r_iand dX0_keepsFrom_16 ?_
  refine r_aload_n dX0_keepsFrom_17 rfl ?_
  refine r_callVx lX0_181 (x0_kept hm) (hl.k) rfl rfl rfl rfl dX0_keepsFrom_18 (Nat.le_refl _) (Nat.le_refl _) ?_
  refine r_iand dX0_keepsFrom_21 ?_
  refine r_if_eq (tgt := 29) dX0_keepsFrom_22 rfl (fun c1 => ?_) (fun c1 => ?_)
  · --
    refine r_iconst (v := nI 0) dX0_keepsFrom_29 (by decide) ?_
    exact r_ret0 dX0_keepsFrom_30 rfl (by simp [*])
  · --
    refine r_iconst (v := nI 1) dX0_keepsFrom_25 (by decide) ?_
    refine r_goto (tgt := 30) dX0_keepsFrom_26 rfl ?_
    exact r_ret1 dX0_keepsFrom_30 rfl (by simp [*])

theorem x0_fault {G : ev_G} {h : ev_H} (hl : XLay h) {fk fp : Int32} (h2 : hI h 64 2 = fk) (h3 : hI h 64 3 = fp) (wh : Int32) : Called G mX0_fault 0 0 0 [vR 64, vI wh] h (px (vI (faultV fk fp wh)) h) := by
  refine called_of rfl [some (vR 64), some (vI wh)] rfl (Nat.le_of_ble_eq_true rfl) ?_
  refine r_iload_n dX0_fault_0 rfl ?_
  refine r_if_ne (tgt := 11) dX0_fault_1 rfl (fun c1 => ?_) (fun c1 => ?_)
  · --
    refine r_iload_n dX0_fault_11 rfl ?_
    refine r_iconst (v := 1) dX0_fault_12 (by decide) ?_
    refine r_icmp_ne (tgt := 23) dX0_fault_13 rfl (fun c2 => ?_) (fun c2 => ?_)
    · --
      refine r_iconst (v := (-1)) dX0_fault_23 (by decide) ?_
      exact r_retx dX0_fault_24 rfl rfl (by first | exact (if_pos (by assumption)).symm | (rw [faultV, if_neg (by assumption)]; exact (if_pos (by assumption)).symm) | (rw [faultV, if_neg (by assumption)]; exact (if_neg (by assumption)).symm))
    · --
      refine r_aload_n dX0_fault_16 rfl ?_
      refine r_getIv fX0_35 (hl.k) (v := fp) (h3) rfl dX0_fault_17 ?_
      refine r_goto (tgt := 24) dX0_fault_20 rfl ?_
      exact r_retx dX0_fault_24 rfl rfl (by first | exact (if_pos (by assumption)).symm | (rw [faultV, if_neg (by assumption)]; exact (if_pos (by assumption)).symm) | (rw [faultV, if_neg (by assumption)]; exact (if_neg (by assumption)).symm))
  · --
    refine r_aload_n dX0_fault_4 rfl ?_
    refine r_getIv fX0_134 (hl.k) (v := fk) (h2) rfl dX0_fault_5 ?_
    refine r_goto (tgt := 24) dX0_fault_8 rfl ?_
    exact r_retx dX0_fault_24 rfl rfl (by first | exact (if_pos (by assumption)).symm | (rw [faultV, if_neg (by assumption)]; exact (if_pos (by assumption)).symm) | (rw [faultV, if_neg (by assumption)]; exact (if_neg (by assumption)).symm))

theorem x0_lies {G : ev_G} {h : ev_H} (hl : XLay h) {R : Nat → Int32} {nl : Nat} (hnl : hI h 64 15 = nI nl) (hn6 : nl ≤ 6) (hR : ∀ k, k < 6 → hI h 84 k = R k) (p : Int32) : Called G mX0_lies 1 0 0 [vR 64, vI p] h (px (vI (liesV R nl p)) h) := by
  refine called_of rfl [some (vR 64), some (vI p)] rfl (Nat.le_of_ble_eq_true rfl) ?_
  refine r_iload_n dX0_lies_0 rfl ?_
  refine r_iconst (v := 0) dX0_lies_1 (by decide) ?_
  refine r_aload_n dX0_lies_2 rfl ?_
  refine r_getIv fX0_123 (hl.k) (v := nI nl) (hnl) rfl dX0_lies_3 ?_
  refine r_iconst (v := 1) dX0_lies_6 (by decide) ?_
  refine r_isub dX0_lies_7 ?_
  refine r_callSx lX0_155 (x0_isIn _ _ _) rfl rfl rfl rfl dX0_lies_8 (Nat.le_refl _) (Nat.le_refl _) ?_
  refine r_ifB_eq (tgt := 23) dX0_lies_11 rfl (fun c1 => ?_) (fun c1 => ?_)
  · --
    refine r_iconst (v := (-1)) dX0_lies_23 (by decide) ?_
    exact r_retx dX0_lies_24 rfl rfl (by simp [liesV, *])
  · --
    obtain ⟨j, hj, rfl⟩ := (isIn_n (by omega) p).mp c1
    refine r_aload_n dX0_lies_14 rfl ?_
    refine r_getRv fX0_67 (hl.k) (v := 84) (hl.r 12 (by decide) (by decide)) rfl dX0_lies_15 ?_
    refine r_iload_n dX0_lies_18 rfl ?_
    refine r_ialdv (hl.lies.1) (hl.lies.2) (ix_n (by omega) (by decide)) (v := R (j)) (hR (j) (by omega)) dX0_lies_19 ?_
    refine r_goto (tgt := 24) dX0_lies_20 rfl ?_
    exact r_retx dX0_lies_24 rfl rfl (by rw [liesV, if_pos (by assumption), nI_clamp (by omega)])
