/-! ===== THE SYSTEM: what grinding lets out (walks by program) ===== -/
set_option maxRecDepth 100000

theorem and1_01 (x : Int32) : x &&& 1 = 0 ∨ x &&& 1 = 1 := by
  obtain ⟨j, hj, e⟩ := pk_andE x (m := 1) 1 (by decide)
  rw [e]
  match j, hj with
  | 0, _ => exact Or.inl rfl
  | 1, _ => exact Or.inr rfl
theorem tb_0 {x : Int32} {k : Nat} (h : (x >>> (nI k &&& 31)) &&& 1 = 0) : tb x k = false := by
  unfold tb tbI
  rw [h]
  rfl
theorem tb_1 {x : Int32} {k : Nat} (h : ¬ (x >>> (nI k &&& 31)) &&& 1 = 0) : tb x k = true := by
  unfold tb tbI
  rcases and1_01 (x >>> (nI k &&& 31)) with e | e
  · exact absurd e h
  · rw [e]; rfl
theorem XA_q {b : Bk} {T : Nat → Int32} {s i : Nat} {shv : Int32} {K : XK} {q : Nat → Int32} {h : ev_H} (hq : XA K (u1 (u1 q 0 (nI (bHo b i))) 1 shv) h) (h2 : q 2 = popc (T 0)) (h3 : q 3 = T (12 + s)) (h4 : q 4 = heatV b (inV b T (nI s))) (h5 : q 5 = T 17) : ∀ k, k < 6 → hI h (kAk K) k = qV b T shv s i k
  | 0, hk => hq 0 hk
  | 1, hk => hq 1 hk
  | 2, hk => (hq 2 hk).trans h2
  | 3, hk => (hq 3 hk).trans h3
  | 4, hk => (hq 4 hk).trans h4
  | 5, hk => (hq 5 hk).trans h5

theorem x3_out {G : ev_G} {b : Bk} {K : XK} {h : ev_H} (hb : XB b K h) {t : Nat} {T : Nat → Int32} {sh : Int32} (hT : XT t T sh h) (hw9 : TW b T) {s : Nat} (hs : s < nS b) : Called G mX3_out 310 0 0 [vR t, vR (kB K), vI (nI s)] h (pI (fun y h1 => y = outS b T sh s ∧ Fr [kAk K] [] h h1)) := by
  have hw := hb.bw
  have hb1 := hw.p6
  have hb2 := hw.s5
  have hb3 := hw.t10
  have hct := hT.c
  have f : Fr [kAk K] [] h h := Fr.rf
  obtain ⟨hnA, hnB, hnC⟩ := hT.neA hb
  obtain ⟨q0, hq⟩ : ∃ q0, XA K q0 h := ⟨fun k => hI h (kAk K) k, fun _ _ => rfl⟩
  have hsit : ∃ n, n < 1024 ∧ T 0 = nI n := by obtain ⟨n, h1, h2⟩ := hw9.sit hw; exact ⟨n, by omega, h2⟩
  refine called_of rfl [some (vR t), some (vR (kB K)), some (vI (nI s)), none, none, none, none] rfl (Nat.le_of_ble_eq_true rfl) ?_
  refine r_aload_n dX3_out_0 rfl ?_
  refine r_aload_n dX3_out_1 rfl ?_
  refine r_iload_n dX3_out_2 rfl ?_
  refine r_callVx lX3_74 (x3_inside hb hT _) (hT.k) rfl rfl rfl rfl dX3_out_3 (Nat.le_refl _) (Nat.le_refl _) ?_
  refine r_istore_n dX3_out_6 (by decide) rfl ?_
  refine r_iconst (v := nI 0) dX3_out_7 (by decide) ?_
  refine r_istore dX3_out_8 (by decide) rfl ?_
  refine r_aload_n dX3_out_10 rfl ?_
  refine r_getRv fX3_78 (hb.k) (v := kAk K) (hb.ak) rfl dX3_out_11 ?_
  refine r_astore dX3_out_14 (by decide) rfl ?_
  refine r_aload dX3_out_16 rfl ?_
  refine r_aload_n dX3_out_18 rfl ?_
  refine r_getIv fX3_42 (hT.k) (v := T 0) (hT.si) rfl dX3_out_19 ?_
  refine r_callSx lX3_82 (xJ15_bc (hsit)) rfl rfl rfl rfl dX3_out_22 (Nat.le_refl _) (Nat.le_refl _) ?_
  refine r_putN fX3_87 (hb.akk) (hb.akc) dX3_out_25 ?_
  have gZ1 : Fr [kAk K] [] h (sI h (kAk K) 2 (popc (T 0))) := Fr.rf.sa (kAk K) 2 (popc (T 0)) (by simp)
  have hbZ1 : XB b K (sI h (kAk K) 2 (popc (T 0))) := hb.fr gZ1 (hb.okA)
  have fZ1 : Fr [kAk K] [] h (sI h (kAk K) 2 (popc (T 0))) := f.tr2 gZ1 (fun _ z => z) (by simp)
  have hTZ1 : XT t T sh (sI h (kAk K) 2 (popc (T 0))) := hT.frA hb gZ1
  have hqZ1 : XA K (u1 q0 2 (popc (T 0))) (sI h (kAk K) 2 (popc (T 0))) := hq.up 2 (popc (T 0))
  generalize sI h (kAk K) 2 (popc (T 0)) = hZ1 at gZ1 hbZ1 fZ1 hTZ1 hqZ1 ⊢
  refine r_aload dX3_out_28 rfl ?_
  refine r_aload_n dX3_out_30 rfl ?_
  refine r_getRv fX3_15 (hTZ1.k) (v := t + 2) (hTZ1.rgr) rfl dX3_out_31 ?_
  refine r_iload_n dX3_out_34 rfl ?_
  refine r_ialdv (hTZ1.kgr) (hTZ1.lgr) (ix_n (by omega) (by decide)) (v := T (12 + s)) (hTZ1.gr_ (by omega)) dX3_out_35 ?_
  refine r_putN fX3_92 (hbZ1.akk) (hbZ1.akc) dX3_out_36 ?_
  have gZ2 : Fr [kAk K] [] hZ1 (sI hZ1 (kAk K) 3 (T (12 + s))) := Fr.rf.sa (kAk K) 3 (T (12 + s)) (by simp)
  have hbZ2 : XB b K (sI hZ1 (kAk K) 3 (T (12 + s))) := hbZ1.fr gZ2 (hbZ1.okA)
  have fZ2 : Fr [kAk K] [] h (sI hZ1 (kAk K) 3 (T (12 + s))) := fZ1.tr2 gZ2 (fun _ z => z) (by simp)
  have hTZ2 : XT t T sh (sI hZ1 (kAk K) 3 (T (12 + s))) := hTZ1.frA hbZ1 gZ2
  have hqZ2 : XA K (u1 (u1 q0 2 (popc (T 0))) 3 (T (12 + s))) (sI hZ1 (kAk K) 3 (T (12 + s))) := hqZ1.up 3 (T (12 + s))
  generalize sI hZ1 (kAk K) 3 (T (12 + s)) = hZ2 at gZ2 hbZ2 fZ2 hTZ2 hqZ2 ⊢
  refine r_aload dX3_out_39 rfl ?_
  refine r_aload_n dX3_out_41 rfl ?_
  refine r_iload_n dX3_out_42 rfl ?_
  refine r_callVx lX3_94 (x1_heat hbZ2 _) (hbZ2.k) rfl rfl rfl rfl dX3_out_43 (Nat.le_refl _) (Nat.le_refl _) ?_
  refine r_putN fX3_97 (hbZ2.akk) (hbZ2.akc) dX3_out_46 ?_
  have gZ3 : Fr [kAk K] [] hZ2 (sI hZ2 (kAk K) 4 (heatV b (inV b T (nI s)))) := Fr.rf.sa (kAk K) 4 (heatV b (inV b T (nI s))) (by simp)
  have hbZ3 : XB b K (sI hZ2 (kAk K) 4 (heatV b (inV b T (nI s)))) := hbZ2.fr gZ3 (hbZ2.okA)
  have fZ3 : Fr [kAk K] [] h (sI hZ2 (kAk K) 4 (heatV b (inV b T (nI s)))) := fZ2.tr2 gZ3 (fun _ z => z) (by simp)
  have hTZ3 : XT t T sh (sI hZ2 (kAk K) 4 (heatV b (inV b T (nI s)))) := hTZ2.frA hbZ2 gZ3
  have hqZ3 : XA K (u1 (u1 (u1 q0 2 (popc (T 0))) 3 (T (12 + s))) 4 (heatV b (inV b T (nI s)))) (sI hZ2 (kAk K) 4 (heatV b (inV b T (nI s)))) := hqZ2.up 4 (heatV b (inV b T (nI s)))
  generalize sI hZ2 (kAk K) 4 (heatV b (inV b T (nI s))) = hZ3 at gZ3 hbZ3 fZ3 hTZ3 hqZ3 ⊢
  refine r_aload dX3_out_49 rfl ?_
  refine r_aload_n dX3_out_51 rfl ?_
  refine r_getIv fX3_48 (hTZ3.k) (v := T 17) (hTZ3.co) rfl dX3_out_52 ?_
  refine r_putN fX3_99 (hbZ3.akk) (hbZ3.akc) dX3_out_55 ?_
  have gZ4 : Fr [kAk K] [] hZ3 (sI hZ3 (kAk K) 5 (T 17)) := Fr.rf.sa (kAk K) 5 (T 17) (by simp)
  have hbZ4 : XB b K (sI hZ3 (kAk K) 5 (T 17)) := hbZ3.fr gZ4 (hbZ3.okA)
  have fZ4 : Fr [kAk K] [] h (sI hZ3 (kAk K) 5 (T 17)) := fZ3.tr2 gZ4 (fun _ z => z) (by simp)
  have hTZ4 : XT t T sh (sI hZ3 (kAk K) 5 (T 17)) := hTZ3.frA hbZ3 gZ4
  have hqZ4 : XA K (u1 (u1 (u1 (u1 q0 2 (popc (T 0))) 3 (T (12 + s))) 4 (heatV b (inV b T (nI s)))) 5 (T 17)) (sI hZ3 (kAk K) 5 (T 17)) := hqZ3.up 5 (T 17)
  generalize sI hZ3 (kAk K) 5 (T 17) = hZ4 at gZ4 hbZ4 fZ4 hTZ4 hqZ4 ⊢
  refine r_iconst (v := nI 0) dX3_out_58 (by decide) ?_
  refine r_istore dX3_out_59 (by decide) rfl ?_
  refine (ev_for (P := fun i => ∀ hL : ev_H, (Fr [kAk K] [] h hL ∧ ∃ q, XA K q hL ∧ q 2 = popc (T 0) ∧ q 3 = T (12 + s) ∧ q 4 = heatV b (inV b T (nI s)) ∧ q 5 = T 17) → Ev G mX3_out (ev_room 310 0 0) (ev_MQ G (pI (fun y h1 => y = outS b T sh s ∧ Fr [kAk K] [] h h1)) 0 0) 61 [some (vR t), some (vR (kB K)), some (vI (nI s)), some (vI (inV b T (nI s))), some (vI (setOf i (fun t => tb (inV b T (nI s)) t && letS b T (if sh < 0 then nI (bSh b (bBy b t)) else sh) s t))), some (vR (kAk K)), some (vI (nI i))] [] hL 0 0) (nT b) (fun i hki ihi hL qhL => ?_)) 0 (Nat.zero_le _) _ (⟨fZ4, _, hqZ4, rfl, rfl, rfl, rfl⟩)
  obtain ⟨fL, qL, hqL, hq2, hq3, hq4, hq5⟩ := qhL
  have hbL := hb.frA fL
  have hTL := hT.frA hb fL
  refine r_iload dX3_out_61 rfl ?_
  refine r_aload_n dX3_out_63 rfl ?_
  refine r_getRv fX3_22 (hbL.k) (v := kTl K) (hbL.tl) rfl dX3_out_64 ?_
  refine r_callVx lX3_28 (xJ2_size hbL.aT) (hbL.aT.1) rfl rfl rfl rfl dX3_out_67 (Nat.le_refl _) (Nat.le_refl _) ?_
  refine r_icmpN_ge (tgt := 187) dX3_out_70 rfl (by omega) (by omega) (fun c1 => ?_) (fun c1 => ?_)
  · --
    refine r_iload dX3_out_187 rfl ?_
    exact r_reti dX3_out_189 rfl (rfl) (Nat.le_refl _) (Nat.le_refl _) (⟨congrArg (fun n => setOf n _) (by omega), fL⟩)
  · --
    refine r_iload_n dX3_out_73 rfl ?_
    refine r_iload dX3_out_74 rfl ?_
    refine r_ishr dX3_out_76 ?_
    refine r_iconst (v := 1) dX3_out_77 (by decide) ?_
    refine r_iand dX3_out_78 ?_
    refine r_if_eq (tgt := 181) dX3_out_79 rfl (fun c2 => ?_) (fun c2 => ?_)
    · --
      refine r_iincN (n := 1) dX3_out_181 rfl rfl (by decide) rfl ?_
      refine r_goto (tgt := 61) dX3_out_184 rfl ?_
      exact r_L (by rw [← setOf_f (by show (tb (inV b T (nI s)) i && letS b T (if sh < 0 then nI (bSh b (bBy b i)) else sh) s i) = _; rw [tb_0 c2]; rfl)]; rfl) (ihi (by omega) _ (⟨fL, _, hqL, hq2, hq3, hq4, hq5⟩))
    · --
      have hb9 : tb (inV b T (nI s)) i = true := tb_1 c2
      refine r_aload_n dX3_out_82 rfl ?_
      refine r_aload_n dX3_out_83 rfl ?_
      refine r_iload dX3_out_84 rfl ?_
      refine r_callVx lX3_100 (x3_areNear hbL hTL (i := i) (by omega)) (hTL.k) rfl rfl rfl rfl dX3_out_86 (Nat.le_refl _) (Nat.le_refl _) ?_
      refine r_ifB_ne (tgt := 95) dX3_out_89 rfl (fun c3 => ?_) (fun c3 => ?_)
      · --
        have hnr : nearV b T i = true := c3
        refine r_aload dX3_out_95 rfl ?_
        refine r_aload_n dX3_out_97 rfl ?_
        refine r_iload dX3_out_98 rfl ?_
        refine r_callVx lX3_104 (x1_hot hbL (t := i) (by omega)) (hbL.k) rfl rfl rfl rfl dX3_out_100 (Nat.le_refl _) (Nat.le_refl _) ?_
        refine r_putN fX3_107 (hbL.akk) (hbL.akc) dX3_out_103 ?_
        have gZ5 : Fr [kAk K] [] hL (sI hL (kAk K) 0 (nI (bHo b i))) := Fr.rf.sa (kAk K) 0 (nI (bHo b i)) (by simp)
        have hbZ5 : XB b K (sI hL (kAk K) 0 (nI (bHo b i))) := hbL.fr gZ5 (hbL.okA)
        have fZ5 : Fr [kAk K] [] h (sI hL (kAk K) 0 (nI (bHo b i))) := fL.tr2 gZ5 (fun _ z => z) (by simp)
        have hTZ5 : XT t T sh (sI hL (kAk K) 0 (nI (bHo b i))) := hTL.frA hbL gZ5
        have hqZ5 : XA K (u1 qL 0 (nI (bHo b i))) (sI hL (kAk K) 0 (nI (bHo b i))) := hqL.up 0 (nI (bHo b i))
        generalize sI hL (kAk K) 0 (nI (bHo b i)) = hZ5 at gZ5 hbZ5 fZ5 hTZ5 hqZ5 ⊢
        refine r_aload dX3_out_106 rfl ?_
        refine r_aload_n dX3_out_108 rfl ?_
        refine r_getIv fX3_18 (hTZ5.k) (v := sh) (hTZ5.sh_) rfl dX3_out_109 ?_
        refine r_if_ge (tgt := 124) dX3_out_112 rfl (fun c4 => ?_) (fun c4 => ?_)
        · --
          have hsh : (if sh < 0 then nI (bSh b (bBy b i)) else sh) = sh := if_neg (Int32.not_lt.mpr c4)
          refine r_aload_n dX3_out_124 rfl ?_
          refine r_getIv fX3_18 (hTZ5.k) (v := sh) (hTZ5.sh_) rfl dX3_out_125 ?_
          refine r_putN fX3_111 (hbZ5.akk) (hbZ5.akc) dX3_out_128 ?_
          have gZ6 : Fr [kAk K] [] hZ5 (sI hZ5 (kAk K) 1 sh) := Fr.rf.sa (kAk K) 1 sh (by simp)
          have hbZ6 : XB b K (sI hZ5 (kAk K) 1 sh) := hbZ5.fr gZ6 (hbZ5.okA)
          have fZ6 : Fr [kAk K] [] h (sI hZ5 (kAk K) 1 sh) := fZ5.tr2 gZ6 (fun _ z => z) (by simp)
          have hTZ6 : XT t T sh (sI hZ5 (kAk K) 1 sh) := hTZ5.frA hbZ5 gZ6
          have hqZ6 : XA K (u1 (u1 qL 0 (nI (bHo b i))) 1 sh) (sI hZ5 (kAk K) 1 sh) := hqZ5.up 1 sh
          generalize sI hZ5 (kAk K) 1 sh = hZ6 at gZ6 hbZ6 fZ6 hTZ6 hqZ6 ⊢
          cases hru : bRu b with
          | none =>
            have hsd0 := hb.r0 hru
            refine r_iload dX3_out_131 rfl ?_
            refine r_aload_n dX3_out_133 rfl ?_
            refine r_getRv fX3_112 (hbZ6.k) (v := kSd K) (hbZ6.sd) rfl dX3_out_134 ?_
            refine r_ifnonnull (tgt := 156) dX3_out_137 rfl (fun c5 => ?_) (fun c5 => ?_)
            · --
              exact absurd hsd0 c5
            · --
              refine r_aload dX3_out_140 rfl ?_
              refine r_getIv fX3_107 (hbZ6.akk) (v := nI (bHo b i)) (hqZ6 0 (by decide)) rfl dX3_out_142 ?_
              refine r_aload dX3_out_145 rfl ?_
              refine r_getIv fX3_111 (hbZ6.akk) (v := sh) (hqZ6 1 (by decide)) rfl dX3_out_147 ?_
              refine r_icmp_le (tgt := 177) dX3_out_150 rfl (fun c6 => ?_) (fun c6 => ?_)
              · --
                refine r_iconst (v := nI 0) dX3_out_177 (by decide) ?_
                refine r_ior dX3_out_178 ?_
                refine r_istore dX3_out_179 (by decide) rfl ?_
                refine r_iincN (n := 1) dX3_out_181 rfl rfl (by decide) rfl ?_
                refine r_goto (tgt := 61) dX3_out_184 rfl ?_
                exact r_L (by rw [← setOf_f (by show (tb (inV b T (nI s)) i && letS b T (if sh < 0 then nI (bSh b (bBy b i)) else sh) s i) = _; rw [hb9, hsh]; unfold letS; rw [hnr, hru]; exact decide_eq_false (Int32.not_lt.mpr c6)), or0]; rfl) (ihi (by omega) _ (⟨fZ6, _, hqZ6, hq2, hq3, hq4, hq5⟩))
              · --
                refine r_goto (tgt := 170) dX3_out_153 rfl ?_
                refine r_iconst (v := nI 1) dX3_out_170 (by decide) ?_
                refine r_iload dX3_out_171 rfl ?_
                refine r_ishl dX3_out_173 ?_
                refine r_top (one i) rfl ?_
                refine r_goto (tgt := 178) dX3_out_174 rfl ?_
                refine r_ior dX3_out_178 ?_
                refine r_istore dX3_out_179 (by decide) rfl ?_
                refine r_iincN (n := 1) dX3_out_181 rfl rfl (by decide) rfl ?_
                refine r_goto (tgt := 61) dX3_out_184 rfl ?_
                exact r_L (by rw [← setOf_t (by show (tb (inV b T (nI s)) i && letS b T (if sh < 0 then nI (bSh b (bBy b i)) else sh) s i) = _; rw [hb9, hsh]; unfold letS; rw [hnr, hru]; exact decide_eq_true (Int32.not_le.mp c6))]; rfl) (ihi (by omega) _ (⟨fZ6, _, hqZ6, hq2, hq3, hq4, hq5⟩))
          | some cq =>
            have hsd0 := (hb.r1 hru).1
            refine r_iload dX3_out_131 rfl ?_
            refine r_aload_n dX3_out_133 rfl ?_
            refine r_getRv fX3_112 (hbZ6.k) (v := kSd K) (hbZ6.sd) rfl dX3_out_134 ?_
            refine r_ifnonnull (tgt := 156) dX3_out_137 rfl (fun c7 => ?_) (fun c7 => ?_)
            · --
              refine r_aload_n dX3_out_156 rfl ?_
              refine r_getRv fX3_112 (hbZ6.k) (v := kSd K) (hbZ6.sd) rfl dX3_out_157 ?_
              refine r_aload dX3_out_160 rfl ?_
              obtain ⟨v9, hv9, hn9⟩ := node_ok (G := G) hbZ6.akk (q := qV b T sh s i) (XA_q hqZ6 hq2 hq3 hq4 hq5) 300 _ _ (hbZ6.r1 hru).2
              refine r_node nfX3 hn9 hbZ6.akk rfl (Nat.zero_le _) (Nat.zero_le _) (by decide) (by decide) rfl dX3_out_162 ?_
              refine r_if_eq (tgt := 177) dX3_out_167 rfl (fun c8 => ?_) (fun c8 => ?_)
              · --
                refine r_iconst (v := nI 0) dX3_out_177 (by decide) ?_
                refine r_ior dX3_out_178 ?_
                refine r_istore dX3_out_179 (by decide) rfl ?_
                refine r_iincN (n := 1) dX3_out_181 rfl rfl (by decide) rfl ?_
                refine r_goto (tgt := 61) dX3_out_184 rfl ?_
                exact r_L (by rw [← setOf_f (by show (tb (inV b T (nI s)) i && letS b T (if sh < 0 then nI (bSh b (bBy b i)) else sh) s i) = _; rw [hb9, hsh]; unfold letS; rw [hnr, hru]; show (!decide (ruleV _ cq = 0)) = _; rw [show ruleV (qV b T sh s i) cq = v9 by unfold ruleV; rw [hv9 []]; rfl, decide_eq_true c8]; rfl), or0]; rfl) (ihi (by omega) _ (⟨fZ6, _, hqZ6, hq2, hq3, hq4, hq5⟩))
              · --
                refine r_iconst (v := nI 1) dX3_out_170 (by decide) ?_
                refine r_iload dX3_out_171 rfl ?_
                refine r_ishl dX3_out_173 ?_
                refine r_top (one i) rfl ?_
                refine r_goto (tgt := 178) dX3_out_174 rfl ?_
                refine r_ior dX3_out_178 ?_
                refine r_istore dX3_out_179 (by decide) rfl ?_
                refine r_iincN (n := 1) dX3_out_181 rfl rfl (by decide) rfl ?_
                refine r_goto (tgt := 61) dX3_out_184 rfl ?_
                exact r_L (by rw [← setOf_t (by show (tb (inV b T (nI s)) i && letS b T (if sh < 0 then nI (bSh b (bBy b i)) else sh) s i) = _; rw [hb9, hsh]; unfold letS; rw [hnr, hru]; show (!decide (ruleV _ cq = 0)) = _; rw [show ruleV (qV b T sh s i) cq = v9 by unfold ruleV; rw [hv9 []]; rfl, decide_eq_false c8]; rfl)]; rfl) (ihi (by omega) _ (⟨fZ6, _, hqZ6, hq2, hq3, hq4, hq5⟩))
            · --
              exact absurd c7 hsd0
        · --
          have hsh : (if sh < 0 then nI (bSh b (bBy b i)) else sh) = nI (bSh b (bBy b i)) := if_pos (Int32.not_le.mp c4)
          refine r_aload_n dX3_out_115 rfl ?_
          refine r_iload dX3_out_116 rfl ?_
          refine r_callVx lX3_109 (x1_shy hbZ5 (t := i) (by omega)) (hbZ5.k) rfl rfl rfl rfl dX3_out_118 (Nat.le_refl _) (Nat.le_refl _) ?_
          refine r_goto (tgt := 128) dX3_out_121 rfl ?_
          refine r_putN fX3_111 (hbZ5.akk) (hbZ5.akc) dX3_out_128 ?_
          have gZ7 : Fr [kAk K] [] hZ5 (sI hZ5 (kAk K) 1 (nI (bSh b (bBy b i)))) := Fr.rf.sa (kAk K) 1 (nI (bSh b (bBy b i))) (by simp)
          have hbZ7 : XB b K (sI hZ5 (kAk K) 1 (nI (bSh b (bBy b i)))) := hbZ5.fr gZ7 (hbZ5.okA)
          have fZ7 : Fr [kAk K] [] h (sI hZ5 (kAk K) 1 (nI (bSh b (bBy b i)))) := fZ5.tr2 gZ7 (fun _ z => z) (by simp)
          have hTZ7 : XT t T sh (sI hZ5 (kAk K) 1 (nI (bSh b (bBy b i)))) := hTZ5.frA hbZ5 gZ7
          have hqZ7 : XA K (u1 (u1 qL 0 (nI (bHo b i))) 1 (nI (bSh b (bBy b i)))) (sI hZ5 (kAk K) 1 (nI (bSh b (bBy b i)))) := hqZ5.up 1 (nI (bSh b (bBy b i)))
          generalize sI hZ5 (kAk K) 1 (nI (bSh b (bBy b i))) = hZ7 at gZ7 hbZ7 fZ7 hTZ7 hqZ7 ⊢
          cases hru : bRu b with
          | none =>
            have hsd0 := hb.r0 hru
            refine r_iload dX3_out_131 rfl ?_
            refine r_aload_n dX3_out_133 rfl ?_
            refine r_getRv fX3_112 (hbZ7.k) (v := kSd K) (hbZ7.sd) rfl dX3_out_134 ?_
            refine r_ifnonnull (tgt := 156) dX3_out_137 rfl (fun c9 => ?_) (fun c9 => ?_)
            · --
              exact absurd hsd0 c9
            · --
              refine r_aload dX3_out_140 rfl ?_
              refine r_getIv fX3_107 (hbZ7.akk) (v := nI (bHo b i)) (hqZ7 0 (by decide)) rfl dX3_out_142 ?_
              refine r_aload dX3_out_145 rfl ?_
              refine r_getIv fX3_111 (hbZ7.akk) (v := nI (bSh b (bBy b i))) (hqZ7 1 (by decide)) rfl dX3_out_147 ?_
              refine r_icmp_le (tgt := 177) dX3_out_150 rfl (fun c10 => ?_) (fun c10 => ?_)
              · --
                refine r_iconst (v := nI 0) dX3_out_177 (by decide) ?_
                refine r_ior dX3_out_178 ?_
                refine r_istore dX3_out_179 (by decide) rfl ?_
                refine r_iincN (n := 1) dX3_out_181 rfl rfl (by decide) rfl ?_
                refine r_goto (tgt := 61) dX3_out_184 rfl ?_
                exact r_L (by rw [← setOf_f (by show (tb (inV b T (nI s)) i && letS b T (if sh < 0 then nI (bSh b (bBy b i)) else sh) s i) = _; rw [hb9, hsh]; unfold letS; rw [hnr, hru]; exact decide_eq_false (Int32.not_lt.mpr c10)), or0]; rfl) (ihi (by omega) _ (⟨fZ7, _, hqZ7, hq2, hq3, hq4, hq5⟩))
              · --
                refine r_goto (tgt := 170) dX3_out_153 rfl ?_
                refine r_iconst (v := nI 1) dX3_out_170 (by decide) ?_
                refine r_iload dX3_out_171 rfl ?_
                refine r_ishl dX3_out_173 ?_
                refine r_top (one i) rfl ?_
                refine r_goto (tgt := 178) dX3_out_174 rfl ?_
                refine r_ior dX3_out_178 ?_
                refine r_istore dX3_out_179 (by decide) rfl ?_
                refine r_iincN (n := 1) dX3_out_181 rfl rfl (by decide) rfl ?_
                refine r_goto (tgt := 61) dX3_out_184 rfl ?_
                exact r_L (by rw [← setOf_t (by show (tb (inV b T (nI s)) i && letS b T (if sh < 0 then nI (bSh b (bBy b i)) else sh) s i) = _; rw [hb9, hsh]; unfold letS; rw [hnr, hru]; exact decide_eq_true (Int32.not_le.mp c10))]; rfl) (ihi (by omega) _ (⟨fZ7, _, hqZ7, hq2, hq3, hq4, hq5⟩))
          | some cq =>
            have hsd0 := (hb.r1 hru).1
            refine r_iload dX3_out_131 rfl ?_
            refine r_aload_n dX3_out_133 rfl ?_
            refine r_getRv fX3_112 (hbZ7.k) (v := kSd K) (hbZ7.sd) rfl dX3_out_134 ?_
            refine r_ifnonnull (tgt := 156) dX3_out_137 rfl (fun c11 => ?_) (fun c11 => ?_)
            · --
              refine r_aload_n dX3_out_156 rfl ?_
              refine r_getRv fX3_112 (hbZ7.k) (v := kSd K) (hbZ7.sd) rfl dX3_out_157 ?_
              refine r_aload dX3_out_160 rfl ?_
              obtain ⟨v9, hv9, hn9⟩ := node_ok (G := G) hbZ7.akk (q := qV b T (nI (bSh b (bBy b i))) s i) (XA_q hqZ7 hq2 hq3 hq4 hq5) 300 _ _ (hbZ7.r1 hru).2
              refine r_node nfX3 hn9 hbZ7.akk rfl (Nat.zero_le _) (Nat.zero_le _) (by decide) (by decide) rfl dX3_out_162 ?_
              refine r_if_eq (tgt := 177) dX3_out_167 rfl (fun c12 => ?_) (fun c12 => ?_)
              · --
                refine r_iconst (v := nI 0) dX3_out_177 (by decide) ?_
                refine r_ior dX3_out_178 ?_
                refine r_istore dX3_out_179 (by decide) rfl ?_
                refine r_iincN (n := 1) dX3_out_181 rfl rfl (by decide) rfl ?_
                refine r_goto (tgt := 61) dX3_out_184 rfl ?_
                exact r_L (by rw [← setOf_f (by show (tb (inV b T (nI s)) i && letS b T (if sh < 0 then nI (bSh b (bBy b i)) else sh) s i) = _; rw [hb9, hsh]; unfold letS; rw [hnr, hru]; show (!decide (ruleV _ cq = 0)) = _; rw [show ruleV (qV b T (nI (bSh b (bBy b i))) s i) cq = v9 by unfold ruleV; rw [hv9 []]; rfl, decide_eq_true c12]; rfl), or0]; rfl) (ihi (by omega) _ (⟨fZ7, _, hqZ7, hq2, hq3, hq4, hq5⟩))
              · --
                refine r_iconst (v := nI 1) dX3_out_170 (by decide) ?_
                refine r_iload dX3_out_171 rfl ?_
                refine r_ishl dX3_out_173 ?_
                refine r_top (one i) rfl ?_
                refine r_goto (tgt := 178) dX3_out_174 rfl ?_
                refine r_ior dX3_out_178 ?_
                refine r_istore dX3_out_179 (by decide) rfl ?_
                refine r_iincN (n := 1) dX3_out_181 rfl rfl (by decide) rfl ?_
                refine r_goto (tgt := 61) dX3_out_184 rfl ?_
                exact r_L (by rw [← setOf_t (by show (tb (inV b T (nI s)) i && letS b T (if sh < 0 then nI (bSh b (bBy b i)) else sh) s i) = _; rw [hb9, hsh]; unfold letS; rw [hnr, hru]; show (!decide (ruleV _ cq = 0)) = _; rw [show ruleV (qV b T (nI (bSh b (bBy b i))) s i) cq = v9 by unfold ruleV; rw [hv9 []]; rfl, decide_eq_false c12]; rfl)]; rfl) (ihi (by omega) _ (⟨fZ7, _, hqZ7, hq2, hq3, hq4, hq5⟩))
            · --
              exact absurd c11 hsd0
      · --
        refine r_goto (tgt := 181) dX3_out_92 rfl ?_
        refine r_iincN (n := 1) dX3_out_181 rfl rfl (by decide) rfl ?_
        refine r_goto (tgt := 61) dX3_out_184 rfl ?_
        exact r_L (by rw [← setOf_f (by show (tb (inV b T (nI s)) i && letS b T (if sh < 0 then nI (bSh b (bBy b i)) else sh) s i) = _; rw [hb9]; unfold letS; rw [c3]; rfl)]; rfl) (ihi (by omega) _ (⟨fL, _, hqL, hq2, hq3, hq4, hq5⟩))
