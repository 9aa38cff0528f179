/-! ===== THE REFERENCE: acts (walks by program) ===== -/
set_option maxRecDepth 100000

theorem c_sit {G : ev_G} {b : Bk} {k : Nat} {h : ev_H} (hm : MB b k h) {T : Nat → Int32} (hT : MT T h) (hth : hI h aM 43 = -1) {W : Nat → Int32} {na nu : Nat} (hH : MH W na nu h) (p : Int32) : Called G mX4_sit 7 0 0 [vR aM, vI p] h (pI (fun y h1 => y = (if sitOk b T p then popc ((sitT T p) 0) else (-1)) ∧ Fr [aPile, aAll, aWas] [39, 40, 41, 46, 47] h h1 ∧ MT (if sitOk b T p then sitT T p else T) h1 ∧ MH (if sitOk b T p then kaW W na T else W) (if sitOk b T p then kaN na else na) (if sitOk b T p then 0 else nu) h1)) := by
  have hl := hm.lay
  have hk2 := hm.k2
  have hb := hm.bw
  have hb1 := hb.p6
  have hb2 := hb.s5
  have hb3 := hb.t10
  have f : Fr [aPile, aAll, aWas] [39, 40, 41, 46, 47] h h := Fr.rf
  refine called_of rfl [some (vR aM), some (vI p)] rfl (Nat.le_of_ble_eq_true rfl) ?_
  refine r_aload_n dX4_sit_0 rfl ?_
  refine r_iload_n dX4_sit_1 rfl ?_
  refine r_callVx lX4_410 (c_isPerson hm _) (hl.1) rfl rfl rfl rfl dX4_sit_2 (Nat.le_refl _) (Nat.le_refl _) ?_
  refine r_ifB_eq (tgt := 21) dX4_sit_5 rfl (fun c1 => ?_) (fun c1 => ?_)
  · --
    refine r_iconst (v := (-1)) dX4_sit_21 (by decide) ?_
    exact r_reti dX4_sit_22 rfl rfl (Nat.le_refl _) (Nat.le_refl _) ⟨if_n (by simp [sitOk, c1]) rfl, f, hT.neg (by simp [sitOk, c1]), hH.neg (by simp [sitOk, c1])⟩
  · --
    obtain ⟨j, hj, rfl⟩ := perV_ok hb c1
    refine r_aload_n dX4_sit_8 rfl ?_
    refine r_getRv fX4_88 (hl.1) (v := aAll) ((l_all hl).1) rfl dX4_sit_9 ?_
    refine r_iconst (v := nI 0) dX4_sit_12 (by decide) ?_
    refine r_ialdv ((l_all hl).2.1) ((l_all hl).2.2) (ix_n (by omega) (by decide)) (v := T (0)) (hT _ (by omega)) dX4_sit_13 ?_
    refine r_iload_n dX4_sit_14 rfl ?_
    refine r_callSx lX4_259 (c_bit _ _) rfl rfl rfl rfl dX4_sit_15 (Nat.le_refl _) (Nat.le_refl _) ?_
    refine r_ifB_eq (tgt := 23) dX4_sit_18 rfl (fun c2 => ?_) (fun c2 => ?_)
    · --
      refine r_aload_n dX4_sit_23 rfl ?_
      refine r_callVv lX4_437 (c_keepAct hl hT hH) (hl.1) rfl rfl rfl rfl dX4_sit_24 (Nat.le_refl _) (Nat.le_refl _) (fun hZ1 q9 => ?_)
      obtain ⟨gZ1, hHZ1⟩ := q9
      have fZ1 := f.tr (gZ1.wk (by simp) (by simp))
      have hmZ1 := hm.fr gZ1 rfl
      have hTZ1 := hT.fr gZ1 (by decide)
      have hlZ1 := hmZ1.lay
      refine r_aload_n dX4_sit_27 rfl ?_
      refine r_getRv fX4_88 (hlZ1.1) (v := aAll) ((l_all hlZ1).1) rfl dX4_sit_28 ?_
      refine r_iconst (v := nI 0) dX4_sit_31 (by decide) ?_
      refine r_dup2 dX4_sit_32 rfl rfl ?_
      refine r_ialdv ((l_all hlZ1).2.1) ((l_all hlZ1).2.2) (ix_n (by omega) (by decide)) (v := T (0)) (hTZ1 _ (by omega)) dX4_sit_33 ?_
      refine r_iconst (v := nI 1) dX4_sit_34 (by decide) ?_
      refine r_iload_n dX4_sit_35 rfl ?_
      refine r_ishl dX4_sit_36 ?_
      refine r_top (one j) rfl ?_
      refine r_ior dX4_sit_37 ?_
      refine r_iastv ((l_all hlZ1).2.1) (by decide) ((l_all hlZ1).2.2) (ix_n (by omega) (by decide)) dX4_sit_38 ?_
      have gZ2 : Fr [aAll] [] hZ1 (sI hZ1 aAll 0 ((T (0)) ||| (one j))) := Fr.rf.sa aAll 0 ((T (0)) ||| (one j)) (by decide)
      have hTZ2 : MT (u1 T 0 ((T (0)) ||| (one j))) (sI hZ1 aAll 0 ((T (0)) ||| (one j))) := hTZ1.up 0 ((T (0)) ||| (one j))
      have hmZ2 : MB b k (sI hZ1 aAll 0 ((T (0)) ||| (one j))) := hmZ1.fr gZ2 rfl
      have fZ2 : Fr [aPile, aAll, aWas] [39, 40, 41, 46, 47] h (sI hZ1 aAll 0 ((T (0)) ||| (one j))) := fZ1.tr (gZ2.wk (by simp) (by simp))
      have hHZ2 : MH (kaW W na T) (kaN na) 0 (sI hZ1 aAll 0 ((T (0)) ||| (one j))) := hHZ1.fr gZ2 (by decide) (by decide) (by decide) (by decide)
      generalize sI hZ1 aAll 0 ((T (0)) ||| (one j)) = hZ2 at gZ2 hTZ2 hmZ2 fZ2 hHZ2 ⊢
      have hlZ2 := hmZ2.lay
      refine r_aload_n dX4_sit_39 rfl ?_
      refine r_getRv fX4_88 (hlZ2.1) (v := aAll) ((l_all hlZ2).1) rfl dX4_sit_40 ?_
      refine r_iconst (v := nI 0) dX4_sit_43 (by decide) ?_
      refine r_ialdv ((l_all hlZ2).2.1) ((l_all hlZ2).2.2) (ix_n (by omega) (by decide)) (v := (T (0)) ||| (one j)) (hTZ2 _ (by omega)) dX4_sit_44 ?_
      refine r_callSx lX4_339 (c_bitsOf _) rfl rfl rfl rfl dX4_sit_45 (Nat.le_refl _) (Nat.le_refl _) ?_
      exact r_reti dX4_sit_48 rfl rfl (Nat.le_refl _) (Nat.le_refl _) ⟨if_p (by simp [sitOk, c1, c2]) (rfl), fZ2, MT.pos (by simp [sitOk, c1, c2]) (hTZ2), hHZ2.pos (by simp [sitOk, c1, c2])⟩
    · --
      refine r_iconst (v := (-1)) dX4_sit_21 (by decide) ?_
      exact r_reti dX4_sit_22 rfl rfl (Nat.le_refl _) (Nat.le_refl _) ⟨if_n (by simp [sitOk, c1, c2]) rfl, f, hT.neg (by simp [sitOk, c1, c2]), hH.neg (by simp [sitOk, c1, c2])⟩

theorem c_rise {G : ev_G} {b : Bk} {k : Nat} {h : ev_H} (hm : MB b k h) {T : Nat → Int32} (hT : MT T h) (hth : hI h aM 43 = -1) {W : Nat → Int32} {na nu : Nat} (hH : MH W na nu h) (p : Int32) : Called G mX4_rise 7 0 0 [vR aM, vI p] h (pI (fun y h1 => y = (if riseOk b T p then popc ((riseT T p) 0) else (-1)) ∧ Fr [aPile, aAll, aWas] [39, 40, 41, 46, 47] h h1 ∧ MT (if riseOk b T p then riseT T p else T) h1 ∧ MH (if riseOk b T p then kaW W na T else W) (if riseOk b T p then kaN na else na) (if riseOk b T p then 0 else nu) h1)) := by
  have hl := hm.lay
  have hk2 := hm.k2
  have hb := hm.bw
  have hb1 := hb.p6
  have hb2 := hb.s5
  have hb3 := hb.t10
  have f : Fr [aPile, aAll, aWas] [39, 40, 41, 46, 47] h h := Fr.rf
  refine called_of rfl [some (vR aM), some (vI p)] rfl (Nat.le_of_ble_eq_true rfl) ?_
  refine r_aload_n dX4_rise_0 rfl ?_
  refine r_iload_n dX4_rise_1 rfl ?_
  refine r_callVx lX4_410 (c_isPerson hm _) (hl.1) rfl rfl rfl rfl dX4_rise_2 (Nat.le_refl _) (Nat.le_refl _) ?_
  refine r_ifB_eq (tgt := 21) dX4_rise_5 rfl (fun c1 => ?_) (fun c1 => ?_)
  · --
    refine r_iconst (v := (-1)) dX4_rise_21 (by decide) ?_
    exact r_reti dX4_rise_22 rfl rfl (Nat.le_refl _) (Nat.le_refl _) ⟨if_n (by simp [riseOk, c1]) rfl, f, hT.neg (by simp [riseOk, c1]), hH.neg (by simp [riseOk, c1])⟩
  · --
    obtain ⟨j, hj, rfl⟩ := perV_ok hb c1
    refine r_aload_n dX4_rise_8 rfl ?_
    refine r_getRv fX4_88 (hl.1) (v := aAll) ((l_all hl).1) rfl dX4_rise_9 ?_
    refine r_iconst (v := nI 0) dX4_rise_12 (by decide) ?_
    refine r_ialdv ((l_all hl).2.1) ((l_all hl).2.2) (ix_n (by omega) (by decide)) (v := T (0)) (hT _ (by omega)) dX4_rise_13 ?_
    refine r_iload_n dX4_rise_14 rfl ?_
    refine r_callSx lX4_259 (c_bit _ _) rfl rfl rfl rfl dX4_rise_15 (Nat.le_refl _) (Nat.le_refl _) ?_
    refine r_ifB_ne (tgt := 23) dX4_rise_18 rfl (fun c2 => ?_) (fun c2 => ?_)
    · --
      refine r_aload_n dX4_rise_23 rfl ?_
      refine r_callVv lX4_437 (c_keepAct hl hT hH) (hl.1) rfl rfl rfl rfl dX4_rise_24 (Nat.le_refl _) (Nat.le_refl _) (fun hZ1 q9 => ?_)
      obtain ⟨gZ1, hHZ1⟩ := q9
      have fZ1 := f.tr (gZ1.wk (by simp) (by simp))
      have hmZ1 := hm.fr gZ1 rfl
      have hTZ1 := hT.fr gZ1 (by decide)
      have hlZ1 := hmZ1.lay
      refine r_aload_n dX4_rise_27 rfl ?_
      refine r_getRv fX4_88 (hlZ1.1) (v := aAll) ((l_all hlZ1).1) rfl dX4_rise_28 ?_
      refine r_iconst (v := nI 0) dX4_rise_31 (by decide) ?_
      refine r_dup2 dX4_rise_32 rfl rfl ?_
      refine r_ialdv ((l_all hlZ1).2.1) ((l_all hlZ1).2.2) (ix_n (by omega) (by decide)) (v := T (0)) (hTZ1 _ (by omega)) dX4_rise_33 ?_
      refine r_iconst (v := nI 1) dX4_rise_34 (by decide) ?_
      refine r_iload_n dX4_rise_35 rfl ?_
      refine r_ishl dX4_rise_36 ?_
      refine r_top (one j) rfl ?_
      refine r_iconst (v := (-1)) dX4_rise_37 (by decide) ?_
      refine r_ixor dX4_rise_38 ?_
      refine r_iand dX4_rise_39 ?_
      refine r_iastv ((l_all hlZ1).2.1) (by decide) ((l_all hlZ1).2.2) (ix_n (by omega) (by decide)) dX4_rise_40 ?_
      have gZ2 : Fr [aAll] [] hZ1 (sI hZ1 aAll 0 ((T (0)) &&& ((one j) ^^^ (-1)))) := Fr.rf.sa aAll 0 ((T (0)) &&& ((one j) ^^^ (-1))) (by decide)
      have hTZ2 : MT (u1 T 0 ((T (0)) &&& ((one j) ^^^ (-1)))) (sI hZ1 aAll 0 ((T (0)) &&& ((one j) ^^^ (-1)))) := hTZ1.up 0 ((T (0)) &&& ((one j) ^^^ (-1)))
      have hmZ2 : MB b k (sI hZ1 aAll 0 ((T (0)) &&& ((one j) ^^^ (-1)))) := hmZ1.fr gZ2 rfl
      have fZ2 : Fr [aPile, aAll, aWas] [39, 40, 41, 46, 47] h (sI hZ1 aAll 0 ((T (0)) &&& ((one j) ^^^ (-1)))) := fZ1.tr (gZ2.wk (by simp) (by simp))
      have hHZ2 : MH (kaW W na T) (kaN na) 0 (sI hZ1 aAll 0 ((T (0)) &&& ((one j) ^^^ (-1)))) := hHZ1.fr gZ2 (by decide) (by decide) (by decide) (by decide)
      generalize sI hZ1 aAll 0 ((T (0)) &&& ((one j) ^^^ (-1))) = hZ2 at gZ2 hTZ2 hmZ2 fZ2 hHZ2 ⊢
      have hlZ2 := hmZ2.lay
      refine r_aload_n dX4_rise_41 rfl ?_
      refine r_getRv fX4_88 (hlZ2.1) (v := aAll) ((l_all hlZ2).1) rfl dX4_rise_42 ?_
      refine r_iconst (v := nI 0) dX4_rise_45 (by decide) ?_
      refine r_ialdv ((l_all hlZ2).2.1) ((l_all hlZ2).2.2) (ix_n (by omega) (by decide)) (v := (T (0)) &&& ((one j) ^^^ (-1))) (hTZ2 _ (by omega)) dX4_rise_46 ?_
      refine r_callSx lX4_339 (c_bitsOf _) rfl rfl rfl rfl dX4_rise_47 (Nat.le_refl _) (Nat.le_refl _) ?_
      exact r_reti dX4_rise_50 rfl rfl (Nat.le_refl _) (Nat.le_refl _) ⟨if_p (by simp [riseOk, c1, c2]) (rfl), fZ2, MT.pos (by simp [riseOk, c1, c2]) (hTZ2), hHZ2.pos (by simp [riseOk, c1, c2])⟩
    · --
      refine r_iconst (v := (-1)) dX4_rise_21 (by decide) ?_
      exact r_reti dX4_rise_22 rfl rfl (Nat.le_refl _) (Nat.le_refl _) ⟨if_n (by simp [riseOk, c1, c2]) rfl, f, hT.neg (by simp [riseOk, c1, c2]), hH.neg (by simp [riseOk, c1, c2])⟩

theorem c_grind {G : ev_G} {b : Bk} {k : Nat} {h : ev_H} (hm : MB b k h) {T : Nat → Int32} (hT : MT T h) (hth : hI h aM 43 = -1) {W : Nat → Int32} {na nu : Nat} (hH : MH W na nu h) (p : Int32) : Called G mX4_grind 8 0 0 [vR aM, vI p] h (pI (fun y h1 => y = (if sakV b p then outV b T p.toNatClampNeg else (-1)) ∧ Fr [aPile, aAll, aWas] [39, 40, 41, 46, 47] h h1 ∧ MT (if sakV b p then grT b T p.toNatClampNeg else T) h1 ∧ MH (if sakV b p then kaW W na T else W) (if sakV b p then kaN na else na) (if sakV b p then 0 else nu) h1)) := by
  have hl := hm.lay
  have hk2 := hm.k2
  have hb := hm.bw
  have hb1 := hb.p6
  have hb2 := hb.s5
  have hb3 := hb.t10
  have f : Fr [aPile, aAll, aWas] [39, 40, 41, 46, 47] h h := Fr.rf
  refine called_of rfl [some (vR aM), some (vI p)] rfl (Nat.le_of_ble_eq_true rfl) ?_
  refine r_aload_n dX4_grind_0 rfl ?_
  refine r_iload_n dX4_grind_1 rfl ?_
  refine r_callVx lX4_425 (c_isSack hm _) (hl.1) rfl rfl rfl rfl dX4_grind_2 (Nat.le_refl _) (Nat.le_refl _) ?_
  refine r_ifB_ne (tgt := 10) dX4_grind_5 rfl (fun c1 => ?_) (fun c1 => ?_)
  · --
    obtain ⟨j, hj, rfl⟩ := sakV_ok hb c1
    refine r_aload_n dX4_grind_10 rfl ?_
    refine r_callVv lX4_437 (c_keepAct hl hT hH) (hl.1) rfl rfl rfl rfl dX4_grind_11 (Nat.le_refl _) (Nat.le_refl _) (fun hZ1 q9 => ?_)
    obtain ⟨gZ1, hHZ1⟩ := q9
    have fZ1 := f.tr (gZ1.wk (by simp) (by simp))
    have hmZ1 := hm.fr gZ1 rfl
    have hTZ1 := hT.fr gZ1 (by decide)
    have hlZ1 := hmZ1.lay
    refine r_aload_n dX4_grind_14 rfl ?_
    refine r_iload_n dX4_grind_15 rfl ?_
    refine r_callVi lX4_440 (c_goGrind hmZ1 hTZ1 ((fZ1.fld 43 (by decide) (by decide)).trans hth) (s := j) (by omega)) (hlZ1.1) rfl rfl rfl rfl dX4_grind_16 (Nat.le_refl _) (Nat.le_refl _) (fun y9 hZ2 q9 => ?_)
    obtain ⟨rfl, gZ2, hTZ2⟩ := q9
    have fZ2 := fZ1.tr (gZ2.wk (by simp) (by simp))
    have hmZ2 := hmZ1.fr gZ2 rfl
    have hlZ2 := hmZ2.lay
    have hHZ2 := hHZ1.fr gZ2 (by decide) (by decide) (by decide) (by decide)
    exact r_reti dX4_grind_19 rfl rfl (Nat.le_refl _) (Nat.le_refl _) ⟨if_p c1 (by rw [nI_clamp (by omega)]), fZ2, MT.pos c1 (by rw [nI_clamp (by omega)]; exact hTZ2), hHZ2.pos c1⟩
  · --
    refine r_iconst (v := (-1)) dX4_grind_8 (by decide) ?_
    exact r_reti dX4_grind_9 rfl rfl (Nat.le_refl _) (Nat.le_refl _) ⟨if_n c1 rfl, f, hT.neg c1, hH.neg c1⟩

theorem c_pour {G : ev_G} {b : Bk} {k : Nat} {h : ev_H} (hm : MB b k h) {T : Nat → Int32} (hT : MT T h) (hth : hI h aM 43 = -1) {W : Nat → Int32} {na nu : Nat} (hH : MH W na nu h) (p s : Int32) : Called G mX4_pour 2 0 0 [vR aM, vI p, vI s] h (pI (fun y h1 => y = (if pourOk b T p s then T (2 + p.toNatClampNeg) else (-2)) ∧ Fr [aPile, aAll, aWas] [39, 40, 41, 46, 47] h h1 ∧ MT (if pourOk b T p s then u1 T (2 + p.toNatClampNeg) s else T) h1 ∧ MH (if pourOk b T p s then kaW W na T else W) (if pourOk b T p s then kaN na else na) (if pourOk b T p s then 0 else nu) h1)) := by
  have hl := hm.lay
  have hk2 := hm.k2
  have hb := hm.bw
  have hb1 := hb.p6
  have hb2 := hb.s5
  have hb3 := hb.t10
  have f : Fr [aPile, aAll, aWas] [39, 40, 41, 46, 47] h h := Fr.rf
  refine called_of rfl [some (vR aM), some (vI p), some (vI s), none] rfl (Nat.le_of_ble_eq_true rfl) ?_
  refine r_aload_n dX4_pour_0 rfl ?_
  refine r_iload_n dX4_pour_1 rfl ?_
  refine r_callVx lX4_422 (c_isThing hm _) (hl.1) rfl rfl rfl rfl dX4_pour_2 (Nat.le_refl _) (Nat.le_refl _) ?_
  refine r_ifB_eq (tgt := 42) dX4_pour_5 rfl (fun c1 => ?_) (fun c1 => ?_)
  · --
    refine r_bipush (v := (-2)) dX4_pour_42 (by decide) ?_
    exact r_reti dX4_pour_44 rfl rfl (Nat.le_refl _) (Nat.le_refl _) ⟨if_n (by simp [pourOk, c1]) rfl, f, hT.neg (by simp [pourOk, c1]), hH.neg (by simp [pourOk, c1])⟩
  · --
    obtain ⟨j, hj, rfl⟩ := thiV_ok hb c1
    refine r_iload_n dX4_pour_8 rfl ?_
    refine r_iconst (v := (-1)) dX4_pour_9 (by decide) ?_
    refine r_aload_n dX4_pour_10 rfl ?_
    refine r_callVx lX4_365 (c_bags hm) (hl.1) rfl rfl rfl rfl dX4_pour_11 (Nat.le_refl _) (Nat.le_refl _) ?_
    refine r_iconst (v := 1) dX4_pour_14 (by decide) ?_
    refine r_isub dX4_pour_15 ?_
    refine r_callSx lX4_361 (c_isIn _ _ _) rfl rfl rfl rfl dX4_pour_16 (Nat.le_refl _) (Nat.le_refl _) ?_
    refine r_ifB_eq (tgt := 42) dX4_pour_19 rfl (fun c2 => ?_) (fun c2 => ?_)
    · --
      refine r_bipush (v := (-2)) dX4_pour_42 (by decide) ?_
      exact r_reti dX4_pour_44 rfl rfl (Nat.le_refl _) (Nat.le_refl _) ⟨if_n (by simp only [pourOk, nI_clamp (show j < 2 ^ 31 by omega)]; simp [c1, c2]) rfl, f, hT.neg (by simp only [pourOk, nI_clamp (show j < 2 ^ 31 by omega)]; simp [c1, c2]), hH.neg (by simp only [pourOk, nI_clamp (show j < 2 ^ 31 by omega)]; simp [c1, c2])⟩
    · --
      refine r_aload_n dX4_pour_22 rfl ?_
      refine r_iload_n dX4_pour_23 rfl ?_
      refine r_callVx lX4_386 (c_isStill hm hT (t := j)) (hl.1) rfl rfl rfl rfl dX4_pour_24 (Nat.le_refl _) (Nat.le_refl _) ?_
      refine r_ifB_eq (tgt := 42) dX4_pour_27 rfl (fun c3 => ?_) (fun c3 => ?_)
      · --
        refine r_bipush (v := (-2)) dX4_pour_42 (by decide) ?_
        exact r_reti dX4_pour_44 rfl rfl (Nat.le_refl _) (Nat.le_refl _) ⟨if_n (by simp only [pourOk, nI_clamp (show j < 2 ^ 31 by omega)]; simp [c1, c2, c3]) rfl, f, hT.neg (by simp only [pourOk, nI_clamp (show j < 2 ^ 31 by omega)]; simp [c1, c2, c3]), hH.neg (by simp only [pourOk, nI_clamp (show j < 2 ^ 31 by omega)]; simp [c1, c2, c3])⟩
      · --
        refine r_aload_n dX4_pour_30 rfl ?_
        refine r_getRv fX4_88 (hl.1) (v := aAll) ((l_all hl).1) rfl dX4_pour_31 ?_
        refine r_iconst (v := nI 2) dX4_pour_34 (by decide) ?_
        refine r_iload_n dX4_pour_35 rfl ?_
        refine r_iadd dX4_pour_36 ?_
        refine r_top (nI (2 + j)) (nI_add _ _) ?_
        refine r_ialdv ((l_all hl).2.1) ((l_all hl).2.2) (ix_n (by omega) (by decide)) (v := T (2 + j)) (hT _ (by omega)) dX4_pour_37 ?_
        refine r_iload_n dX4_pour_38 rfl ?_
        refine r_icmp_ne (tgt := 45) dX4_pour_39 rfl (fun c4 => ?_) (fun c4 => ?_)
        · --
          refine r_aload_n dX4_pour_45 rfl ?_
          refine r_callVv lX4_437 (c_keepAct hl hT hH) (hl.1) rfl rfl rfl rfl dX4_pour_46 (Nat.le_refl _) (Nat.le_refl _) (fun hZ1 q9 => ?_)
          obtain ⟨gZ1, hHZ1⟩ := q9
          have fZ1 := f.tr (gZ1.wk (by simp) (by simp))
          have hmZ1 := hm.fr gZ1 rfl
          have hTZ1 := hT.fr gZ1 (by decide)
          have hlZ1 := hmZ1.lay
          refine r_aload_n dX4_pour_49 rfl ?_
          refine r_getRv fX4_88 (hlZ1.1) (v := aAll) ((l_all hlZ1).1) rfl dX4_pour_50 ?_
          refine r_iconst (v := nI 2) dX4_pour_53 (by decide) ?_
          refine r_iload_n dX4_pour_54 rfl ?_
          refine r_iadd dX4_pour_55 ?_
          refine r_top (nI (2 + j)) (nI_add _ _) ?_
          refine r_ialdv ((l_all hlZ1).2.1) ((l_all hlZ1).2.2) (ix_n (by omega) (by decide)) (v := T (2 + j)) (hTZ1 _ (by omega)) dX4_pour_56 ?_
          refine r_istore_n dX4_pour_57 (by decide) rfl ?_
          refine r_aload_n dX4_pour_58 rfl ?_
          refine r_getRv fX4_88 (hlZ1.1) (v := aAll) ((l_all hlZ1).1) rfl dX4_pour_59 ?_
          refine r_iconst (v := nI 2) dX4_pour_62 (by decide) ?_
          refine r_iload_n dX4_pour_63 rfl ?_
          refine r_iadd dX4_pour_64 ?_
          refine r_top (nI (2 + j)) (nI_add _ _) ?_
          refine r_iload_n dX4_pour_65 rfl ?_
          refine r_iastv ((l_all hlZ1).2.1) (by decide) ((l_all hlZ1).2.2) (ix_n (by omega) (by decide)) dX4_pour_66 ?_
          have gZ2 : Fr [aAll] [] hZ1 (sI hZ1 aAll (2 + j) s) := Fr.rf.sa aAll (2 + j) s (by decide)
          have hTZ2 : MT (u1 T (2 + j) s) (sI hZ1 aAll (2 + j) s) := hTZ1.up (2 + j) s
          have hmZ2 : MB b k (sI hZ1 aAll (2 + j) s) := hmZ1.fr gZ2 rfl
          have fZ2 : Fr [aPile, aAll, aWas] [39, 40, 41, 46, 47] h (sI hZ1 aAll (2 + j) s) := fZ1.tr (gZ2.wk (by simp) (by simp))
          have hHZ2 : MH (kaW W na T) (kaN na) 0 (sI hZ1 aAll (2 + j) s) := hHZ1.fr gZ2 (by decide) (by decide) (by decide) (by decide)
          generalize sI hZ1 aAll (2 + j) s = hZ2 at gZ2 hTZ2 hmZ2 fZ2 hHZ2 ⊢
          have hlZ2 := hmZ2.lay
          refine r_iload_n dX4_pour_67 rfl ?_
          exact r_reti dX4_pour_68 rfl rfl (Nat.le_refl _) (Nat.le_refl _) ⟨if_p (by simp only [pourOk, nI_clamp (show j < 2 ^ 31 by omega)]; simp [c1, c2, c3, c4]) (by rw [nI_clamp (by omega)]), fZ2, MT.pos (by simp only [pourOk, nI_clamp (show j < 2 ^ 31 by omega)]; simp [c1, c2, c3, c4]) (by rw [nI_clamp (by omega)]; exact hTZ2), hHZ2.pos (by simp only [pourOk, nI_clamp (show j < 2 ^ 31 by omega)]; simp [c1, c2, c3, c4])⟩
        · --
          refine r_bipush (v := (-2)) dX4_pour_42 (by decide) ?_
          exact r_reti dX4_pour_44 rfl rfl (Nat.le_refl _) (Nat.le_refl _) ⟨if_n (by simp only [pourOk, nI_clamp (show j < 2 ^ 31 by omega)]; simp [c1, c2, c3, c4]) rfl, f, hT.neg (by simp only [pourOk, nI_clamp (show j < 2 ^ 31 by omega)]; simp [c1, c2, c3, c4]), hH.neg (by simp only [pourOk, nI_clamp (show j < 2 ^ 31 by omega)]; simp [c1, c2, c3, c4])⟩

theorem c_course {G : ev_G} {b : Bk} {k : Nat} {h : ev_H} (hm : MB b k h) {T : Nat → Int32} (hT : MT T h) (hth : hI h aM 43 = -1) {W : Nat → Int32} {na nu : Nat} (hH : MH W na nu h) : Called G mX4_course 4 0 0 [vR aM] h (pI (fun y h1 => y = (if (!decide (T 17 = nI 999)) then optI (couO b T) else (-2)) ∧ Fr [aPile, aAll, aWas] [39, 40, 41, 46, 47] h h1 ∧ MT (if (!decide (T 17 = nI 999)) then couT2 b T else T) h1 ∧ MH (if (!decide (T 17 = nI 999)) then kaW W na T else W) (if (!decide (T 17 = nI 999)) then kaN na else na) (if (!decide (T 17 = nI 999)) then 0 else nu) h1)) := by
  have hl := hm.lay
  have hk2 := hm.k2
  have hb := hm.bw
  have hb1 := hb.p6
  have hb2 := hb.s5
  have hb3 := hb.t10
  have f : Fr [aPile, aAll, aWas] [39, 40, 41, 46, 47] h h := Fr.rf
  refine called_of rfl [some (vR aM), none] rfl (Nat.le_of_ble_eq_true rfl) ?_
  refine r_aload_n dX4_course_0 rfl ?_
  refine r_getRv fX4_88 (hl.1) (v := aAll) ((l_all hl).1) rfl dX4_course_1 ?_
  refine r_bipush (v := nI 17) dX4_course_4 (by decide) ?_
  refine r_ialdv ((l_all hl).2.1) ((l_all hl).2.2) (ix_n (by omega) (by decide)) (v := T (17)) (hT _ (by omega)) dX4_course_6 ?_
  refine r_sipush (v := nI 999) dX4_course_7 (by decide) ?_
  refine r_icmp_ne (tgt := 16) dX4_course_10 rfl (fun c1 => ?_) (fun c1 => ?_)
  · --
    refine r_aload_n dX4_course_16 rfl ?_
    refine r_callVv lX4_437 (c_keepAct hl hT hH) (hl.1) rfl rfl rfl rfl dX4_course_17 (Nat.le_refl _) (Nat.le_refl _) (fun hZ1 q9 => ?_)
    obtain ⟨gZ1, hHZ1⟩ := q9
    have fZ1 := f.tr (gZ1.wk (by simp) (by simp))
    have hmZ1 := hm.fr gZ1 rfl
    have hTZ1 := hT.fr gZ1 (by decide)
    have hlZ1 := hmZ1.lay
    refine r_aload_n dX4_course_20 rfl ?_
    refine r_getRv fX4_88 (hlZ1.1) (v := aAll) ((l_all hlZ1).1) rfl dX4_course_21 ?_
    refine r_bipush (v := nI 17) dX4_course_24 (by decide) ?_
    refine r_dup2 dX4_course_26 rfl rfl ?_
    refine r_ialdv ((l_all hlZ1).2.1) ((l_all hlZ1).2.2) (ix_n (by omega) (by decide)) (v := T (17)) (hTZ1 _ (by omega)) dX4_course_27 ?_
    refine r_iconst (v := nI 1) dX4_course_28 (by decide) ?_
    refine r_iadd dX4_course_29 ?_
    refine r_iastv ((l_all hlZ1).2.1) (by decide) ((l_all hlZ1).2.2) (ix_n (by omega) (by decide)) dX4_course_30 ?_
    have gZ2 : Fr [aAll] [] hZ1 (sI hZ1 aAll 17 ((T (17)) + (nI 1))) := Fr.rf.sa aAll 17 ((T (17)) + (nI 1)) (by decide)
    have hTZ2 : MT (u1 T 17 ((T (17)) + (nI 1))) (sI hZ1 aAll 17 ((T (17)) + (nI 1))) := hTZ1.up 17 ((T (17)) + (nI 1))
    have hmZ2 : MB b k (sI hZ1 aAll 17 ((T (17)) + (nI 1))) := hmZ1.fr gZ2 rfl
    have fZ2 : Fr [aPile, aAll, aWas] [39, 40, 41, 46, 47] h (sI hZ1 aAll 17 ((T (17)) + (nI 1))) := fZ1.tr (gZ2.wk (by simp) (by simp))
    have hHZ2 : MH (kaW W na T) (kaN na) 0 (sI hZ1 aAll 17 ((T (17)) + (nI 1))) := hHZ1.fr gZ2 (by decide) (by decide) (by decide) (by decide)
    generalize sI hZ1 aAll 17 ((T (17)) + (nI 1)) = hZ2 at gZ2 hTZ2 hmZ2 fZ2 hHZ2 ⊢
    have hlZ2 := hmZ2.lay
    refine r_aload_n dX4_course_31 rfl ?_
    refine r_getRv fX4_88 (hlZ2.1) (v := aAll) ((l_all hlZ2).1) rfl dX4_course_32 ?_
    refine r_bipush (v := nI 18) dX4_course_35 (by decide) ?_
    refine r_sipush (v := nI 137) dX4_course_37 (by decide) ?_
    refine r_aload_n dX4_course_40 rfl ?_
    refine r_getRv fX4_88 (hlZ2.1) (v := aAll) ((l_all hlZ2).1) rfl dX4_course_41 ?_
    refine r_bipush (v := nI 18) dX4_course_44 (by decide) ?_
    refine r_ialdv ((l_all hlZ2).2.1) ((l_all hlZ2).2.2) (ix_n (by omega) (by decide)) (v := T (18)) (hTZ2 _ (by omega)) dX4_course_46 ?_
    refine r_imul dX4_course_47 ?_
    refine r_bipush (v := nI 71) dX4_course_48 (by decide) ?_
    refine r_iadd dX4_course_50 ?_
    refine r_sipush (v := nI 1000) dX4_course_51 (by decide) ?_
    refine r_irem dX4_course_54 (by decide) ?_
    refine r_top (drawS (T 18)) (rfl) ?_
    refine r_iastv ((l_all hlZ2).2.1) (by decide) ((l_all hlZ2).2.2) (ix_n (by omega) (by decide)) dX4_course_55 ?_
    have gZ3 : Fr [aAll] [] hZ2 (sI hZ2 aAll 18 (drawS (T 18))) := Fr.rf.sa aAll 18 (drawS (T 18)) (by decide)
    have hTZ3 : MT (u1 (u1 T 17 ((T (17)) + (nI 1))) 18 (drawS (T 18))) (sI hZ2 aAll 18 (drawS (T 18))) := hTZ2.up 18 (drawS (T 18))
    have hmZ3 : MB b k (sI hZ2 aAll 18 (drawS (T 18))) := hmZ2.fr gZ3 rfl
    have fZ3 : Fr [aPile, aAll, aWas] [39, 40, 41, 46, 47] h (sI hZ2 aAll 18 (drawS (T 18))) := fZ2.tr (gZ3.wk (by simp) (by simp))
    have hHZ3 : MH (kaW W na T) (kaN na) 0 (sI hZ2 aAll 18 (drawS (T 18))) := hHZ2.fr gZ3 (by decide) (by decide) (by decide) (by decide)
    generalize sI hZ2 aAll 18 (drawS (T 18)) = hZ3 at gZ3 hTZ3 hmZ3 fZ3 hHZ3 ⊢
    have hlZ3 := hmZ3.lay
    refine r_aload_n dX4_course_56 rfl ?_
    refine r_getRv fX4_88 (hlZ3.1) (v := aAll) ((l_all hlZ3).1) rfl dX4_course_57 ?_
    refine r_bipush (v := nI 18) dX4_course_60 (by decide) ?_
    refine r_ialdv ((l_all hlZ3).2.1) ((l_all hlZ3).2.2) (ix_n (by omega) (by decide)) (v := drawS (T 18)) (hTZ3 _ (by omega)) dX4_course_62 ?_
    refine r_bipush (v := nI 100) dX4_course_63 (by decide) ?_
    refine r_irem dX4_course_65 (by decide) ?_
    refine r_aload_n dX4_course_66 rfl ?_
    refine r_getRv fX4_33 (hlZ3.1) (v := aSneeze) ((l_sneeze hlZ3).1) rfl dX4_course_67 ?_
    refine r_aload_n dX4_course_70 rfl ?_
    refine r_getIv fX4_253 (hlZ3.1) (v := nI k) (hmZ3.bank) rfl dX4_course_71 ?_
    refine r_ialdv ((l_sneeze hlZ3).2.1) ((l_sneeze hlZ3).2.2) (ix_n (by omega) (by decide)) (v := nI (bSn b)) (hmZ3.sneeze) dX4_course_74 ?_
    refine r_icmp_ge (tgt := 85) dX4_course_75 rfl (fun c2 => ?_) (fun c2 => ?_)
    · --
      refine r_iconst (v := (-1)) dX4_course_85 (by decide) ?_
      refine r_istore_n dX4_course_86 (by decide) rfl ?_
      refine r_iload_n dX4_course_87 rfl ?_
      refine r_if_lt (tgt := 103) dX4_course_88 rfl (fun c3 => ?_) (fun c3 => ?_)
      · --
        refine r_iload_n dX4_course_103 rfl ?_
        have hcou : couO b T = none := by unfold couO; exact if_neg (Int32.not_lt.mpr c2)
        exact r_reti dX4_course_104 rfl rfl (Nat.le_refl _) (Nat.le_refl _) ⟨if_p (by simp [c1]) ((congrArg optI hcou).symm), fZ3, MT.pos (by simp [c1]) (by unfold couT2; rw [hcou]; exact hTZ3), hHZ3.pos (by simp [c1])⟩
      · --
        exact absurd (show ((-1) : Int32) < 0 by decide) c3
    · --
      refine r_aload_n dX4_course_78 rfl ?_
      refine r_callVx lX4_434 (c_sneezed hmZ3 hTZ3) (hlZ3.1) rfl rfl rfl rfl dX4_course_79 (Nat.le_refl _) (Nat.le_refl _) ?_
      refine r_goto (tgt := 86) dX4_course_82 rfl ?_
      refine r_top (optI (sneV b (couT T))) rfl ?_
      refine r_istore_n dX4_course_86 (by decide) rfl ?_
      cases hbo : sneV b (couT T) with
      | none =>
        refine r_iload_n dX4_course_87 rfl ?_
        refine r_if_lt (tgt := 103) dX4_course_88 rfl (fun c4 => ?_) (fun c4 => ?_)
        · --
          refine r_iload_n dX4_course_103 rfl ?_
          have hcou : couO b T = none := by unfold couO; rw [if_pos (Int32.not_le.mp c2)]; exact hbo
          exact r_reti dX4_course_104 rfl rfl (Nat.le_refl _) (Nat.le_refl _) ⟨if_p (by simp [c1]) ((congrArg optI hcou).symm), fZ3, MT.pos (by simp [c1]) (by unfold couT2; rw [hcou]; exact hTZ3), hHZ3.pos (by simp [c1])⟩
        · --
          exact absurd (show ((-1) : Int32) < 0 by decide) c4
      | some jb =>
        have hjb := bestOf_lt hbo
        refine r_iload_n dX4_course_87 rfl ?_
        refine r_if_lt (tgt := 103) dX4_course_88 rfl (fun c5 => ?_) (fun c5 => ?_)
        · --
          exact absurd c5 (nI_pos (by omega))
        · --
          refine r_aload_n dX4_course_91 rfl ?_
          refine r_getRv fX4_88 (hlZ3.1) (v := aAll) ((l_all hlZ3).1) rfl dX4_course_92 ?_
          refine r_iconst (v := nI 1) dX4_course_95 (by decide) ?_
          refine r_dup2 dX4_course_96 rfl rfl ?_
          refine r_ialdv ((l_all hlZ3).2.1) ((l_all hlZ3).2.2) (ix_n (by omega) (by decide)) (v := T (1)) (hTZ3 _ (by omega)) dX4_course_97 ?_
          refine r_iconst (v := nI 1) dX4_course_98 (by decide) ?_
          refine r_iload_n dX4_course_99 rfl ?_
          refine r_ishl dX4_course_100 ?_
          refine r_top (one jb) rfl ?_
          refine r_ior dX4_course_101 ?_
          refine r_iastv ((l_all hlZ3).2.1) (by decide) ((l_all hlZ3).2.2) (ix_n (by omega) (by decide)) dX4_course_102 ?_
          have gZ4 : Fr [aAll] [] hZ3 (sI hZ3 aAll 1 ((T (1)) ||| (one jb))) := Fr.rf.sa aAll 1 ((T (1)) ||| (one jb)) (by decide)
          have hTZ4 : MT (u1 (u1 (u1 T 17 ((T (17)) + (nI 1))) 18 (drawS (T 18))) 1 ((T (1)) ||| (one jb))) (sI hZ3 aAll 1 ((T (1)) ||| (one jb))) := hTZ3.up 1 ((T (1)) ||| (one jb))
          have hmZ4 : MB b k (sI hZ3 aAll 1 ((T (1)) ||| (one jb))) := hmZ3.fr gZ4 rfl
          have fZ4 : Fr [aPile, aAll, aWas] [39, 40, 41, 46, 47] h (sI hZ3 aAll 1 ((T (1)) ||| (one jb))) := fZ3.tr (gZ4.wk (by simp) (by simp))
          have hHZ4 : MH (kaW W na T) (kaN na) 0 (sI hZ3 aAll 1 ((T (1)) ||| (one jb))) := hHZ3.fr gZ4 (by decide) (by decide) (by decide) (by decide)
          generalize sI hZ3 aAll 1 ((T (1)) ||| (one jb)) = hZ4 at gZ4 hTZ4 hmZ4 fZ4 hHZ4 ⊢
          have hlZ4 := hmZ4.lay
          refine r_iload_n dX4_course_103 rfl ?_
          have hcou : couO b T = some jb := by unfold couO; rw [if_pos (Int32.not_le.mp c2)]; exact hbo
          exact r_reti dX4_course_104 rfl rfl (Nat.le_refl _) (Nat.le_refl _) ⟨if_p (by simp [c1]) ((congrArg optI hcou).symm), fZ4, MT.pos (by simp [c1]) (by unfold couT2; rw [hcou]; exact hTZ4), hHZ4.pos (by simp [c1])⟩
  · --
    refine r_bipush (v := (-2)) dX4_course_13 (by decide) ?_
    exact r_reti dX4_course_15 rfl rfl (Nat.le_refl _) (Nat.le_refl _) ⟨if_n (by simp [c1]) rfl, f, hT.neg (by simp [c1]), hH.neg (by simp [c1])⟩

theorem c_undo {G : ev_G} {b : Bk} {k : Nat} {h : ev_H} (hm : MB b k h) {T : Nat → Int32} (hT : MT T h) (hth : hI h aM 43 = -1) {W : Nat → Int32} {na nu : Nat} (hH : MH W na nu h) : Called G mX4_undo 1 0 0 [vR aM] h (pI (fun y h1 => y = (if (!decide (na = 0)) then 1 else 0) ∧ Fr [aPile, aAll, aWas] [39, 40, 41, 46, 47] h h1 ∧ MT (if (!decide (na = 0)) then undT W (na - 1) else T) h1 ∧ MH (if (!decide (na = 0)) then puW W (na - 1) T else W) (if (!decide (na = 0)) then na - 1 else na) (if (!decide (na = 0)) then nu + 1 else nu) h1)) := by
  have hl := hm.lay
  have hk2 := hm.k2
  have hb := hm.bw
  have hb1 := hb.p6
  have hb2 := hb.s5
  have hb3 := hb.t10
  have f : Fr [aPile, aAll, aWas] [39, 40, 41, 46, 47] h h := Fr.rf
  have hna0 := hH.2.2.1
  have e46 := hH.1
  have e47 := hH.2.1
  have eW := hH.2.2.2
  refine called_of rfl [some (vR aM)] rfl (Nat.le_of_ble_eq_true rfl) ?_
  refine r_aload_n dX4_undo_0 rfl ?_
  refine r_getIv fX4_374 (hl.1) (v := nI na) (e46) rfl dX4_undo_1 ?_
  refine r_if_ne (tgt := 9) dX4_undo_4 rfl (fun c1 => ?_) (fun c1 => ?_)
  · --
    have hn0 : na ≠ 0 := fun e => c1 (by rw [e]; rfl)
    refine r_aload_n dX4_undo_9 rfl ?_
    refine r_dup dX4_undo_10 rfl ?_
    refine r_getIv fX4_374 (hl.1) (v := nI na) (e46) rfl dX4_undo_11 ?_
    refine r_iconst (v := nI 1) dX4_undo_14 (by decide) ?_
    refine r_isub dX4_undo_15 ?_
    refine r_top (nI (na - 1)) (pk_sub (by omega)) ?_
    refine r_putN fX4_374 (hl.1) (by decide) dX4_undo_16 ?_
    have gZ1 : Fr [] [46] h (sI h aM 46 (nI (na - 1))) := Fr.rf.sf 46 (nI (na - 1)) (by decide)
    have hTZ1 : MT T (sI h aM 46 (nI (na - 1))) := hT.fr gZ1 (by decide)
    have hmZ1 : MB b k (sI h aM 46 (nI (na - 1))) := hm.fr gZ1 rfl
    have fZ1 : Fr [aPile, aAll, aWas] [39, 40, 41, 46, 47] h (sI h aM 46 (nI (na - 1))) := f.tr (gZ1.wk (by simp) (by simp))
    have e46Z1 : hI (sI h aM 46 (nI (na - 1))) aM 46 = nI (na - 1) := rfl
    have e47Z1 : hI (sI h aM 46 (nI (na - 1))) aM 47 = nI nu := (gZ1.fld 47 (by decide) (by decide)).trans e47
    have eWZ1 : ∀ i, i < 779 → hI (sI h aM 46 (nI (na - 1))) aWas i = W i := fun i hi => (gZ1.ar aWas (by decide) (by decide) i).trans (eW i hi)
    generalize sI h aM 46 (nI (na - 1)) = hZ1 at gZ1 hTZ1 hmZ1 fZ1 e46Z1 e47Z1 eWZ1 ⊢
    have hlZ1 := hmZ1.lay
    refine r_aload_n dX4_undo_19 rfl ?_
    refine r_dup dX4_undo_20 rfl ?_
    refine r_getIv fX4_377 (hlZ1.1) (v := nI nu) (e47Z1) rfl dX4_undo_21 ?_
    refine r_iconst (v := nI 1) dX4_undo_24 (by decide) ?_
    refine r_iadd dX4_undo_25 ?_
    refine r_top (nI (nu + 1)) (nI_add _ _) ?_
    refine r_putN fX4_377 (hlZ1.1) (by decide) dX4_undo_26 ?_
    have gZ2 : Fr [] [47] hZ1 (sI hZ1 aM 47 (nI (nu + 1))) := Fr.rf.sf 47 (nI (nu + 1)) (by decide)
    have hTZ2 : MT T (sI hZ1 aM 47 (nI (nu + 1))) := hTZ1.fr gZ2 (by decide)
    have hmZ2 : MB b k (sI hZ1 aM 47 (nI (nu + 1))) := hmZ1.fr gZ2 rfl
    have fZ2 : Fr [aPile, aAll, aWas] [39, 40, 41, 46, 47] h (sI hZ1 aM 47 (nI (nu + 1))) := fZ1.tr (gZ2.wk (by simp) (by simp))
    have e46Z2 : hI (sI hZ1 aM 47 (nI (nu + 1))) aM 46 = nI (na - 1) := (gZ2.fld 46 (by decide) (by decide)).trans e46Z1
    have e47Z2 : hI (sI hZ1 aM 47 (nI (nu + 1))) aM 47 = nI (nu + 1) := rfl
    have eWZ2 : ∀ i, i < 779 → hI (sI hZ1 aM 47 (nI (nu + 1))) aWas i = W i := fun i hi => (gZ2.ar aWas (by decide) (by decide) i).trans (eWZ1 i hi)
    generalize sI hZ1 aM 47 (nI (nu + 1)) = hZ2 at gZ2 hTZ2 hmZ2 fZ2 e46Z2 e47Z2 eWZ2 ⊢
    have hlZ2 := hmZ2.lay
    refine r_aload_n dX4_undo_29 rfl ?_
    refine r_callVv lX4_443 (c_swapAll hlZ2 hTZ2 (W := W) (na := na - 1) (nu := nu + 1) ⟨e46Z2, e47Z2, by omega, eWZ2⟩ (by omega)) (hlZ2.1) rfl rfl rfl rfl dX4_undo_30 (Nat.le_refl _) (Nat.le_refl _) (fun hZ3 q9 => ?_)
    obtain ⟨gZ3, hTZ3, hHs⟩ := q9
    have fZ3 := fZ2.tr (gZ3.wk (by simp) (by simp))
    have hmZ3 := hmZ2.fr gZ3 rfl
    have hlZ3 := hmZ3.lay
    have e46Z3 := hHs.1
    have e47Z3 := hHs.2.1
    have eWZ3 := hHs.2.2.2
    refine r_iconst (v := nI 1) dX4_undo_33 (by decide) ?_
    exact r_reti dX4_undo_34 rfl rfl (Nat.le_refl _) (Nat.le_refl _) ⟨if_p (by simp [hn0]) rfl, fZ3, MT.pos (by simp [hn0]) hTZ3, MH.pos (by simp [hn0]) ⟨e46Z3, e47Z3, by omega, eWZ3⟩⟩
  · --
    refine r_iconst (v := nI 0) dX4_undo_7 (by decide) ?_
    exact r_reti dX4_undo_8 rfl rfl (Nat.le_refl _) (Nat.le_refl _) ⟨if_n (by rw [show na = 0 from nI_z (by omega) c1]; rfl) rfl, f, hT.neg (by rw [show na = 0 from nI_z (by omega) c1]; rfl), hH.neg (by rw [show na = 0 from nI_z (by omega) c1]; rfl)⟩

theorem c_redo {G : ev_G} {b : Bk} {k : Nat} {h : ev_H} (hm : MB b k h) {T : Nat → Int32} (hT : MT T h) (hth : hI h aM 43 = -1) {W : Nat → Int32} {na nu : Nat} (hH : MH W na nu h) : Called G mX4_redo 1 0 0 [vR aM] h (pI (fun y h1 => y = (if (!decide (nu = 0)) then 1 else 0) ∧ Fr [aPile, aAll, aWas] [39, 40, 41, 46, 47] h h1 ∧ MT (if (!decide (nu = 0)) then undT W (na) else T) h1 ∧ MH (if (!decide (nu = 0)) then puW W (na) T else W) (if (!decide (nu = 0)) then na + 1 else na) (if (!decide (nu = 0)) then nu - 1 else nu) h1)) := by
  have hl := hm.lay
  have hk2 := hm.k2
  have hb := hm.bw
  have hb1 := hb.p6
  have hb2 := hb.s5
  have hb3 := hb.t10
  have f : Fr [aPile, aAll, aWas] [39, 40, 41, 46, 47] h h := Fr.rf
  have hna0 := hH.2.2.1
  have e46 := hH.1
  have e47 := hH.2.1
  have eW := hH.2.2.2
  refine called_of rfl [some (vR aM)] rfl (Nat.le_of_ble_eq_true rfl) ?_
  refine r_aload_n dX4_redo_0 rfl ?_
  refine r_getIv fX4_377 (hl.1) (v := nI nu) (e47) rfl dX4_redo_1 ?_
  refine r_if_ne (tgt := 9) dX4_redo_4 rfl (fun c1 => ?_) (fun c1 => ?_)
  · --
    have hn0 : nu ≠ 0 := fun e => c1 (by rw [e]; rfl)
    refine r_aload_n dX4_redo_9 rfl ?_
    refine r_callVv lX4_443 (c_swapAll hl hT (W := W) (na := na) (nu := nu) ⟨e46, e47, by omega, eW⟩ (by omega)) (hl.1) rfl rfl rfl rfl dX4_redo_10 (Nat.le_refl _) (Nat.le_refl _) (fun hZ1 q9 => ?_)
    obtain ⟨gZ1, hTZ1, hHs⟩ := q9
    have fZ1 := f.tr (gZ1.wk (by simp) (by simp))
    have hmZ1 := hm.fr gZ1 rfl
    have hlZ1 := hmZ1.lay
    have e46Z1 := hHs.1
    have e47Z1 := hHs.2.1
    have eWZ1 := hHs.2.2.2
    refine r_aload_n dX4_redo_13 rfl ?_
    refine r_dup dX4_redo_14 rfl ?_
    refine r_getIv fX4_374 (hlZ1.1) (v := nI na) (e46Z1) rfl dX4_redo_15 ?_
    refine r_iconst (v := nI 1) dX4_redo_18 (by decide) ?_
    refine r_iadd dX4_redo_19 ?_
    refine r_top (nI (na + 1)) (nI_add _ _) ?_
    refine r_putN fX4_374 (hlZ1.1) (by decide) dX4_redo_20 ?_
    have gZ2 : Fr [] [46] hZ1 (sI hZ1 aM 46 (nI (na + 1))) := Fr.rf.sf 46 (nI (na + 1)) (by decide)
    have hTZ2 : MT (fun k => W (19 * (na) + k)) (sI hZ1 aM 46 (nI (na + 1))) := hTZ1.fr gZ2 (by decide)
    have hmZ2 : MB b k (sI hZ1 aM 46 (nI (na + 1))) := hmZ1.fr gZ2 rfl
    have fZ2 : Fr [aPile, aAll, aWas] [39, 40, 41, 46, 47] h (sI hZ1 aM 46 (nI (na + 1))) := fZ1.tr (gZ2.wk (by simp) (by simp))
    have e46Z2 : hI (sI hZ1 aM 46 (nI (na + 1))) aM 46 = nI (na + 1) := rfl
    have e47Z2 : hI (sI hZ1 aM 46 (nI (na + 1))) aM 47 = nI nu := (gZ2.fld 47 (by decide) (by decide)).trans e47Z1
    have eWZ2 : ∀ i, i < 779 → hI (sI hZ1 aM 46 (nI (na + 1))) aWas i = puW W (na) T i := fun i hi => (gZ2.ar aWas (by decide) (by decide) i).trans (eWZ1 i hi)
    generalize sI hZ1 aM 46 (nI (na + 1)) = hZ2 at gZ2 hTZ2 hmZ2 fZ2 e46Z2 e47Z2 eWZ2 ⊢
    have hlZ2 := hmZ2.lay
    refine r_aload_n dX4_redo_23 rfl ?_
    refine r_dup dX4_redo_24 rfl ?_
    refine r_getIv fX4_377 (hlZ2.1) (v := nI nu) (e47Z2) rfl dX4_redo_25 ?_
    refine r_iconst (v := nI 1) dX4_redo_28 (by decide) ?_
    refine r_isub dX4_redo_29 ?_
    refine r_top (nI (nu - 1)) (pk_sub (by omega)) ?_
    refine r_putN fX4_377 (hlZ2.1) (by decide) dX4_redo_30 ?_
    have gZ3 : Fr [] [47] hZ2 (sI hZ2 aM 47 (nI (nu - 1))) := Fr.rf.sf 47 (nI (nu - 1)) (by decide)
    have hTZ3 : MT (fun k => W (19 * (na) + k)) (sI hZ2 aM 47 (nI (nu - 1))) := hTZ2.fr gZ3 (by decide)
    have hmZ3 : MB b k (sI hZ2 aM 47 (nI (nu - 1))) := hmZ2.fr gZ3 rfl
    have fZ3 : Fr [aPile, aAll, aWas] [39, 40, 41, 46, 47] h (sI hZ2 aM 47 (nI (nu - 1))) := fZ2.tr (gZ3.wk (by simp) (by simp))
    have e46Z3 : hI (sI hZ2 aM 47 (nI (nu - 1))) aM 46 = nI (na + 1) := (gZ3.fld 46 (by decide) (by decide)).trans e46Z2
    have e47Z3 : hI (sI hZ2 aM 47 (nI (nu - 1))) aM 47 = nI (nu - 1) := rfl
    have eWZ3 : ∀ i, i < 779 → hI (sI hZ2 aM 47 (nI (nu - 1))) aWas i = puW W (na) T i := fun i hi => (gZ3.ar aWas (by decide) (by decide) i).trans (eWZ2 i hi)
    generalize sI hZ2 aM 47 (nI (nu - 1)) = hZ3 at gZ3 hTZ3 hmZ3 fZ3 e46Z3 e47Z3 eWZ3 ⊢
    have hlZ3 := hmZ3.lay
    refine r_iconst (v := nI 1) dX4_redo_33 (by decide) ?_
    exact r_reti dX4_redo_34 rfl rfl (Nat.le_refl _) (Nat.le_refl _) ⟨if_p (by simp [hn0]) rfl, fZ3, MT.pos (by simp [hn0]) hTZ3, MH.pos (by simp [hn0]) ⟨e46Z3, e47Z3, by omega, eWZ3⟩⟩
  · --
    refine r_iconst (v := nI 0) dX4_redo_7 (by decide) ?_
    exact r_reti dX4_redo_8 rfl rfl (Nat.le_refl _) (Nat.le_refl _) ⟨if_n (by rw [show nu = 0 from nI_z (by omega) c1]; rfl) rfl, f, hT.neg (by rw [show nu = 0 from nI_z (by omega) c1]; rfl), hH.neg (by rw [show nu = 0 from nI_z (by omega) c1]; rfl)⟩
