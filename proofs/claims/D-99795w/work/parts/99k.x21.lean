/-! ===== THE SYSTEM: the greatest part (walks by program) ===== -/
set_option maxRecDepth 100000

def mxN (f : Nat → Nat) : Nat → Nat
  | 0 => 0
  | n + 1 => if mxN f n < f n then f n else mxN f n
theorem mx_lt {f : Nat → Nat} {m : Nat} (h : ∀ j, f j ≤ m) (hm : m < 2 ^ 31) : ∀ n, mxN f n < 2 ^ 31
  | 0 => by show 0 < _; omega
  | n + 1 => by
    have := mx_lt h hm n
    have := h n
    show (if mxN f n < f n then f n else mxN f n) < _
    split <;> omega
theorem mx_s {f : Nat → Nat} {n : Nat} (h1 : f n < 2 ^ 31) (h2 : mxN f n < 2 ^ 31) : (if nI (mxN f n) < nI (f n) then nI (f n) else nI (mxN f n)) = nI (mxN f (n + 1)) := by
  show _ = nI (if mxN f n < f n then f n else mxN f n)
  by_cases e : mxN f n < f n
  · rw [if_pos e, if_pos ((nlt h2 h1).mpr e)]
  · rw [if_neg e, if_neg (fun z => e ((nlt h2 h1).mp z))]
theorem byN_0 {b : Bk} {p : Nat → Bool} {s v m : Nat} (hp : p v = false) : byN b p s m (v + 1) = byN b p s m v := by
  rw [byN, if_neg (fun z => by rw [hp] at z; exact absurd z.1 (by decide))]
theorem nRow_36 {b : Bk} (hb : BW b) : nRow b ≤ 36 := by
  unfold nRow
  split
  · omega
  · exact pw2_36 hb.s5

theorem x0_leftBy {G : ev_G} {b : Bk} {K : XK} {T : Nat → Int32} {h : ev_H} (hm : XM b K T h) {p : Nat → Bool} {s : Nat} (hs : s < nS b) (hF : ∀ v, v < nRow b → hI h 132 v = b2i (p v)) (hC : ∀ v s, v < nRow b → s < nS b → hI h (96 + v) s = nI (myN b v s)) : Called G mX0_leftBy 4 0 0 [vR 64, vI (nI s)] h (px (vI (nI (mxN (fun j => byN b p s j (nRow b)) 11))) h) := by
  have hb := hm.xb
  have hT := hm.xt
  have hl := hm.lay
  have hw := hm.bw
  have hb1 := hw.p6
  have hb2 := hw.s5
  have hb3 := hw.t10
  have hw9 := hm.tw
  have h36 := nRow_36 hw
  refine called_of rfl [some (vR 64), some (vI (nI s)), none, none, none, none] rfl (Nat.le_of_ble_eq_true rfl) ?_
  refine r_iconst (v := nI 0) dX0_leftBy_0 (by decide) ?_
  refine r_istore_n dX0_leftBy_1 (by decide) rfl ?_
  refine r_iconst (v := nI 0) dX0_leftBy_2 (by decide) ?_
  refine r_istore_n dX0_leftBy_3 (by decide) rfl ?_
  refine (ev_for (P := fun i => Ev G mX0_leftBy (ev_room 4 0 0) (ev_MQ G (px (vI (nI (mxN (fun j => byN b p s j (nRow b)) 11))) h) 0 0) 4 [some (vR 64), some (vI (nI s)), some (vI (nI (mxN (fun j => byN b p s j (nRow b)) i))), some (vI (nI i)), none, none] [] h 0 0) 11 (fun i hki ihi => ?_)) 0 (Nat.zero_le _)
  refine r_iload_n dX0_leftBy_4 rfl ?_
  refine r_bipush (v := nI 10) dX0_leftBy_5 (by decide) ?_
  refine r_icmpN_gt (tgt := 77) dX0_leftBy_7 rfl (by omega) (by omega) (fun c1 => ?_) (fun c1 => ?_)
  · --
    refine r_iload_n dX0_leftBy_77 rfl ?_
    exact r_retx dX0_leftBy_78 rfl rfl (congrArg (fun z => nI (mxN (fun j => byN b p s j (nRow b)) z)) (by omega))
  · --
    refine r_iconst (v := nI 0) dX0_leftBy_10 (by decide) ?_
    refine r_istore dX0_leftBy_11 (by decide) rfl ?_
    refine r_iconst (v := nI 0) dX0_leftBy_13 (by decide) ?_
    refine r_istore dX0_leftBy_14 (by decide) rfl ?_
    refine (ev_for (P := fun u => Ev G mX0_leftBy (ev_room 4 0 0) (ev_MQ G (px (vI (nI (mxN (fun j => byN b p s j (nRow b)) 11))) h) 0 0) 16 [some (vR 64), some (vI (nI s)), some (vI (nI (mxN (fun j => byN b p s j (nRow b)) i))), some (vI (nI i)), some (vI (nI (byN b p s i u))), some (vI (nI u))] [] h 0 0) (nRow b) (fun u hku ihu => ?_)) 0 (Nat.zero_le _)
    have hmy := (myV_n hw u s).2
    have hby := byN_le b p s i u
    refine r_iload dX0_leftBy_16 rfl ?_
    refine r_aload_n dX0_leftBy_18 rfl ?_
    refine r_callVx lX0_356 (x0_rowsInAll hm) (hl.k) rfl rfl rfl rfl dX0_leftBy_19 (Nat.le_refl _) (Nat.le_refl _) ?_
    refine r_icmpN_ge (tgt := 64) dX0_leftBy_22 rfl (by omega) (by omega) (fun c2 => ?_) (fun c2 => ?_)
    · --
      have hu9 : u = nRow b := by omega
      subst hu9
      refine r_iload_n dX0_leftBy_64 rfl ?_
      refine r_iload dX0_leftBy_65 rfl ?_
      refine r_mmax q1624 (by decide) (by decide) rfl (Nat.zero_le _) (Nat.zero_le _) dX0_leftBy_67 ?_
      refine r_top (nI (mxN (fun j => byN b p s j (nRow b)) (i + 1))) (mx_s (by have := byN_le b p s i (nRow b); omega) (mx_lt (fun j => byN_le b p s j (nRow b)) (by omega) _)) ?_
      refine r_istore_n dX0_leftBy_70 (by decide) rfl ?_
      refine r_iincN (n := 1) dX0_leftBy_71 rfl rfl (by decide) rfl ?_
      refine r_goto (tgt := 4) dX0_leftBy_74 rfl ?_
      refine r_sub [some (vR 64), some (vI (nI s)), some (vI (nI (mxN (fun j => byN b p s j (nRow b)) (i + 1)))), some (vI (nI (i + 1))), none, none] (And.intro rfl (And.intro rfl (And.intro rfl (And.intro rfl trivial)))) ?_
      exact ihi (by omega)
    · --
      refine r_iload dX0_leftBy_25 rfl ?_
      refine r_aload_n dX0_leftBy_27 rfl ?_
      refine r_getRv fX0_95 (hl.k) (v := 132) (hl.r 21 (by decide) (by decide)) rfl dX0_leftBy_28 ?_
      refine r_iload dX0_leftBy_31 rfl ?_
      refine r_zaldv (hl.fit.1) (hl.fit.2) (ix_n (by omega) (by decide)) (v := b2i (p u)) (hF u (by omega)) dX0_leftBy_33 ?_
      refine r_ifB_eq (tgt := 54) dX0_leftBy_34 rfl (fun c3 => ?_) (fun c3 => ?_)
      · --
        refine r_iconst (v := nI 0) dX0_leftBy_54 (by decide) ?_
        refine r_iadd dX0_leftBy_55 ?_
        refine r_top (nI (byN b p s i u + 0)) (nI_add _ _) ?_
        refine r_istore dX0_leftBy_56 (by decide) rfl ?_
        refine r_iincN (n := 1) dX0_leftBy_58 rfl rfl (by decide) rfl ?_
        refine r_goto (tgt := 16) dX0_leftBy_61 rfl ?_
        exact r_L (by rw [byN_0 c3]; rfl) (ihu (by omega))
      · --
        refine r_aload_n dX0_leftBy_37 rfl ?_
        refine r_getRv fX0_92 (hl.k) (v := 95) (hl.r 20 (by decide) (by decide)) rfl dX0_leftBy_38 ?_
        refine r_iload dX0_leftBy_41 rfl ?_
        refine r_aaldv (t := 6) (hl.k95.1) (by decide) (hl.k95.2) (ix_n (by omega) (by decide)) (v := 96 + u) ((hl.cnt (by omega)).1) dX0_leftBy_43 ?_
        refine r_iload_n dX0_leftBy_44 rfl ?_
        refine r_ialdv ((hl.cnt (j := u) (by omega)).2.1) ((hl.cnt (j := u) (by omega)).2.2) (ix_n (by omega) (by decide)) (v := nI (myN b u s)) (hC u s (by omega) hs) dX0_leftBy_45 ?_
        refine r_iload_n dX0_leftBy_46 rfl ?_
        refine r_icmpN_ne (tgt := 54) dX0_leftBy_47 rfl (by omega) (by omega) (fun c4 => ?_) (fun c4 => ?_)
        · --
          refine r_iconst (v := nI 0) dX0_leftBy_54 (by decide) ?_
          refine r_iadd dX0_leftBy_55 ?_
          refine r_top (nI (byN b p s i u + 0)) (nI_add _ _) ?_
          refine r_istore dX0_leftBy_56 (by decide) rfl ?_
          refine r_iincN (n := 1) dX0_leftBy_58 rfl rfl (by decide) rfl ?_
          refine r_goto (tgt := 16) dX0_leftBy_61 rfl ?_
          exact r_L (by rw [byN_f c4]; rfl) (ihu (by omega))
        · --
          refine r_iconst (v := nI 1) dX0_leftBy_50 (by decide) ?_
          refine r_goto (tgt := 55) dX0_leftBy_51 rfl ?_
          refine r_iadd dX0_leftBy_55 ?_
          refine r_top (nI (byN b p s i u + 1)) (nI_add _ _) ?_
          refine r_istore dX0_leftBy_56 (by decide) rfl ?_
          refine r_iincN (n := 1) dX0_leftBy_58 rfl rfl (by decide) rfl ?_
          refine r_goto (tgt := 16) dX0_leftBy_61 rfl ?_
          exact r_L (by rw [byN_t c3 c4]; rfl) (ihu (by omega))
