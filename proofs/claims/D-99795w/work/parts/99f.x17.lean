/-! ===== THE SYSTEM: ranks (walks by program) ===== -/
set_option maxRecDepth 100000

def rkO (b : Bk) (T : Nat → Int32) (had : Int32) (n : Nat) : Option Nat := bestOf n (fun p => !tb had p) (rkF b T)
/-- who has been taken, behind k of them -/
def rkH (b : Bk) (T : Nat → Int32) : Nat → Int32
  | 0 => nI 0
  | k + 1 => rkH b T k ||| (1 : Int32) <<< (optI (rkO b T (rkH b T k) (nP b)) &&& 31)
theorem rk_st {h : ev_H} {i : Nat} {f : Nat → Int32} (hR : ∀ q, q < i → hI h 84 q = f q) : ∀ q, q < i + 1 → hI (sI h 84 i (f i)) 84 q = f q := fun q hq => by
  by_cases e : q = i
  · subst e; exact fs_at
  · exact (rdI_k e).trans (hR q (by omega))

theorem x0_rank {G : ev_G} {b : Bk} {K : XK} {T : Nat → Int32} {h : ev_H} (hm : XM b K T h) : Called G mX0_rank 6 0 0 [vR 64] h (pI (fun y h1 => y = nI (nP b) ∧ Fw (S2 K) [15] h h1 ∧ hI h1 64 15 = nI (nP b) ∧ ∀ q, q < nP b → hI h1 84 q = optI (rkO b T (rkH b T q) (nP b)))) := by
  have hb := hm.xb
  have hT := hm.xt
  have hl := hm.lay
  have hw := hm.bw
  have hb1 := hw.p6
  have hb2 := hw.s5
  have hb3 := hw.t10
  have hw9 := hm.tw
  refine called_of rfl [some (vR 64), none, none, none, none] rfl (Nat.le_of_ble_eq_true rfl) ?_
  refine r_iconst (v := nI 0) dX0_rank_0 (by decide) ?_
  refine r_istore_n dX0_rank_1 (by decide) rfl ?_
  refine r_iconst (v := nI 0) dX0_rank_2 (by decide) ?_
  refine r_istore_n dX0_rank_3 (by decide) rfl ?_
  refine (ev_for (P := fun i => ∀ hL : ev_H, (Fr [84] [] h hL ∧ ∀ q, q < i → hI hL 84 q = optI (rkO b T (rkH b T q) (nP b))) → Ev G mX0_rank (ev_room 6 0 0) (ev_MQ G (pI (fun y h1 => y = nI (nP b) ∧ Fw (S2 K) [15] h h1 ∧ hI h1 64 15 = nI (nP b) ∧ ∀ q, q < nP b → hI h1 84 q = optI (rkO b T (rkH b T q) (nP b)))) 0 0) 4 [some (vR 64), some (vI (rkH b T i)), some (vI (nI i)), none, none] [] hL 0 0) (nP b) (fun i hki ihi hL qhL => ?_)) 0 (Nat.zero_le _) _ (⟨Fr.rf, fun q hq => absurd hq (by omega)⟩)
  obtain ⟨fL, hRL⟩ := qhL
  have hmL := hm.f2 (F := [15]) (fL.fw (fun a ha => Or.inr (List.mem_singleton.mp ha)))
  have hbL := hmL.xb
  have hTL := hmL.xt
  have hlL := hmL.lay
  refine r_iload_n dX0_rank_4 rfl ?_
  refine r_aload_n dX0_rank_5 rfl ?_
  refine r_callVx lX0_151 (x0_people hmL) (hlL.k) rfl rfl rfl rfl dX0_rank_6 (Nat.le_refl _) (Nat.le_refl _) ?_
  refine r_icmpN_ge (tgt := 81) dX0_rank_9 rfl (by omega) (by omega) (fun c1 => ?_) (fun c1 => ?_)
  · --
    refine r_aload_n dX0_rank_81 rfl ?_
    refine r_aload_n dX0_rank_82 rfl ?_
    refine r_callVx lX0_151 (x0_people hmL) (hlL.k) rfl rfl rfl rfl dX0_rank_83 (Nat.le_refl _) (Nat.le_refl _) ?_
    refine r_putN fX0_123 (hlL.k) (by decide) dX0_rank_86 ?_
    refine r_aload_n dX0_rank_89 rfl ?_
    refine r_getIv fX0_123 (hlL.k) (v := nI (nP b)) (rfl) rfl dX0_rank_90 ?_
    exact r_reti dX0_rank_93 rfl rfl (Nat.le_refl _) (Nat.le_refl _) (⟨rfl, (fL.fw (fun a ha => Or.inr (List.mem_singleton.mp ha))).tr (Fw.sf 15 _ (by simp)), rfl, fun q hq => (rdI_s (by decide)).trans (hRL q (by omega))⟩)
  · --
    refine r_iconst (v := (-1)) dX0_rank_12 (by decide) ?_
    refine r_istore_n dX0_rank_13 (by decide) rfl ?_
    refine r_iconst (v := nI 0) dX0_rank_14 (by decide) ?_
    refine r_istore dX0_rank_15 (by decide) rfl ?_
    refine (ev_for (P := fun u => Ev G mX0_rank (ev_room 6 0 0) (ev_MQ G (pI (fun y h1 => y = nI (nP b) ∧ Fw (S2 K) [15] h h1 ∧ hI h1 64 15 = nI (nP b) ∧ ∀ q, q < nP b → hI h1 84 q = optI (rkO b T (rkH b T q) (nP b)))) 0 0) 17 [some (vR 64), some (vI (rkH b T i)), some (vI (nI i)), some (vI (optI (rkO b T (rkH b T i) u))), some (vI (nI u))] [] hL 0 0) (nP b) (fun u hku ihu => ?_)) 0 (Nat.zero_le _)
    refine r_iload dX0_rank_17 rfl ?_
    refine r_aload_n dX0_rank_19 rfl ?_
    refine r_callVx lX0_151 (x0_people hmL) (hlL.k) rfl rfl rfl rfl dX0_rank_20 (Nat.le_refl _) (Nat.le_refl _) ?_
    refine r_icmpN_ge (tgt := 62) dX0_rank_23 rfl (by omega) (by omega) (fun c2 => ?_) (fun c2 => ?_)
    · --
      have hu9 : u = nP b := by omega
      subst hu9
      refine r_iload_n dX0_rank_62 rfl ?_
      refine r_iconst (v := nI 1) dX0_rank_63 (by decide) ?_
      refine r_iload_n dX0_rank_64 rfl ?_
      refine r_ishl dX0_rank_65 ?_
      refine r_ior dX0_rank_66 ?_
      refine r_istore_n dX0_rank_67 (by decide) rfl ?_
      refine r_aload_n dX0_rank_68 rfl ?_
      refine r_getRv fX0_67 (hlL.k) (v := 84) (hlL.r 12 (by decide) (by decide)) rfl dX0_rank_69 ?_
      refine r_iload_n dX0_rank_72 rfl ?_
      refine r_iload_n dX0_rank_73 rfl ?_
      refine r_iastv (hlL.lies.1) (by decide) (hlL.lies.2) (ix_n (by omega) (by decide)) dX0_rank_74 ?_
      have fW : Fr [84] [] h (sI hL 84 i (optI (rkO b T (rkH b T i) (nP b)))) := fL.sa 84 i _ (by simp)
      have hRW : ∀ q, q < i + 1 → hI (sI hL 84 i (optI (rkO b T (rkH b T i) (nP b)))) 84 q = optI (rkO b T (rkH b T q) (nP b)) := rk_st hRL
      generalize sI hL 84 i (optI (rkO b T (rkH b T i) (nP b))) = hW at fW hRW ⊢
      refine r_iincN (n := 1) dX0_rank_75 rfl rfl (by decide) rfl ?_
      refine r_goto (tgt := 4) dX0_rank_78 rfl ?_
      refine r_sub [some (vR 64), some (vI ((rkH b T i) ||| ((nI 1) <<< ((optI (rkO b T (rkH b T i) (nP b))) &&& 31)))), some (vI (nI (i + 1))), none, none] (And.intro rfl (And.intro rfl (And.intro rfl trivial))) ?_
      exact ihi (by omega) _ (⟨fW, hRW⟩)
    · --
      cases hbo : rkO b T (rkH b T i) u with
      | none =>
        refine r_iload_n dX0_rank_26 rfl ?_
        refine r_iload dX0_rank_27 rfl ?_
        refine r_ishr dX0_rank_29 ?_
        refine r_iconst (v := 1) dX0_rank_30 (by decide) ?_
        refine r_iand dX0_rank_31 ?_
        refine r_if_ne (tgt := 56) dX0_rank_32 rfl (fun c3 => ?_) (fun c3 => ?_)
        · --
          refine r_iincN (n := 1) dX0_rank_56 rfl rfl (by decide) rfl ?_
          refine r_goto (tgt := 17) dX0_rank_59 rfl ?_
          exact r_L (by have h7 : rkO b T (rkH b T i) (u + 1) = none := bestOf_n0 (p := (fun p => !tb (rkH b T i) p)) (f := rkF b T) hbo (by rw [tb_1 c3]; rfl); rw [h7]; rfl) (ihu (by omega))
        · --
          refine r_iload_n dX0_rank_35 rfl ?_
          refine r_if_lt (tgt := 53) dX0_rank_36 rfl (fun c4 => ?_) (fun c4 => ?_)
          · --
            refine r_iload dX0_rank_53 rfl ?_
            refine r_istore_n dX0_rank_55 (by decide) rfl ?_
            refine r_iincN (n := 1) dX0_rank_56 rfl rfl (by decide) rfl ?_
            refine r_goto (tgt := 17) dX0_rank_59 rfl ?_
            exact r_L (by have h7 : rkO b T (rkH b T i) (u + 1) = some u := bestOf_n1 (p := (fun p => !tb (rkH b T i) p)) (f := rkF b T) hbo (by rw [tb_0 c3]; rfl); rw [h7]; rfl) (ihu (by omega))
          · --
            exact absurd (show ((-1) : Int32) < 0 by decide) c4
      | some jb =>
        have hjb := bestOf_lt hbo
        refine r_iload_n dX0_rank_26 rfl ?_
        refine r_iload dX0_rank_27 rfl ?_
        refine r_ishr dX0_rank_29 ?_
        refine r_iconst (v := 1) dX0_rank_30 (by decide) ?_
        refine r_iand dX0_rank_31 ?_
        refine r_if_ne (tgt := 56) dX0_rank_32 rfl (fun c5 => ?_) (fun c5 => ?_)
        · --
          refine r_iincN (n := 1) dX0_rank_56 rfl rfl (by decide) rfl ?_
          refine r_goto (tgt := 17) dX0_rank_59 rfl ?_
          exact r_L (by have h7 : rkO b T (rkH b T i) (u + 1) = some jb := bestOf_s0 (p := (fun p => !tb (rkH b T i) p)) (f := rkF b T) hbo (Or.inl (by rw [tb_1 c5]; rfl)); rw [h7]; rfl) (ihu (by omega))
        · --
          refine r_iload_n dX0_rank_35 rfl ?_
          refine r_if_lt (tgt := 53) dX0_rank_36 rfl (fun c6 => ?_) (fun c6 => ?_)
          · --
            exact absurd c6 (nI_pos (by omega))
          · --
            refine r_aload_n dX0_rank_39 rfl ?_
            refine r_iload dX0_rank_40 rfl ?_
            refine r_callVx lX0_324 (x0_heatBy hmL _) (hlL.k) rfl rfl rfl rfl dX0_rank_42 (Nat.le_refl _) (Nat.le_refl _) ?_
            refine r_aload_n dX0_rank_45 rfl ?_
            refine r_iload_n dX0_rank_46 rfl ?_
            refine r_callVx lX0_324 (x0_heatBy hmL _) (hlL.k) rfl rfl rfl rfl dX0_rank_47 (Nat.le_refl _) (Nat.le_refl _) ?_
            refine r_icmp_le (tgt := 56) dX0_rank_50 rfl (fun c7 => ?_) (fun c7 => ?_)
            · --
              refine r_iincN (n := 1) dX0_rank_56 rfl rfl (by decide) rfl ?_
              refine r_goto (tgt := 17) dX0_rank_59 rfl ?_
              exact r_L (by have h7 : rkO b T (rkH b T i) (u + 1) = some jb := bestOf_s0 (p := (fun p => !tb (rkH b T i) p)) (f := rkF b T) hbo (Or.inr c7); rw [h7]; rfl) (ihu (by omega))
            · --
              refine r_iload dX0_rank_53 rfl ?_
              refine r_istore_n dX0_rank_55 (by decide) rfl ?_
              refine r_iincN (n := 1) dX0_rank_56 rfl rfl (by decide) rfl ?_
              refine r_goto (tgt := 17) dX0_rank_59 rfl ?_
              exact r_L (by have h7 : rkO b T (rkH b T i) (u + 1) = some u := bestOf_s1 (p := (fun p => !tb (rkH b T i) p)) (f := rkF b T) hbo (by rw [tb_0 c5]; rfl) (Int32.not_le.mp c7); rw [h7]; rfl) (ihu (by omega))
