/-! ===== THE JDK: a builder of strings (walks by program) ===== -/
set_option maxRecDepth 100000

/-- a builder x of strings with k signs f (its row: v) -/
def SBAt (x v k : Nat) (f : Nat → Int32) (h : ev_H) : Prop := hK h x = 22 ∧ hR h x 0 = v ∧ hI h x 1 = 0 ∧ hI h x 3 = nI k ∧ hK h v = 101 ∧ hL h v = 8 ∧ (∀ i, i < k → hI h v i = f i) ∧ ev_c < x ∧ ev_c < v
section SB
variable {h h1 : ev_H} {x v k m : Nat} {f : Nat → Int32} {S Q : Nat → Prop} {F : List Nat}
theorem ec_le_ : ∀ k : Fin 8, nI (k.val + 1) - nI 8 ≤ 0 := by decide +kernel
theorem ec_le (hk : k < 8) : nI (k + 1) - nI 8 ≤ 0 := ec_le_ ⟨k, hk⟩
theorem ap_nb_ : ∀ m : Fin 128, (nI m.val).toInt8.toInt32.toInt8.toInt32 = nI m.val := by decide +kernel
theorem ap_nb (hm : m < 128) : narrow .byte (.int (nI m).toInt8.toInt32) = .int (nI m) := congrArg Value.int (ap_nb_ ⟨m, hm⟩)
theorem ap_fit_ : ∀ m : Fin 128, fits .byte (.int (nI m.val)) = true := by decide +kernel
theorem ap_fit (hm : m < 128) : fits .byte (.int (nI m)) = true := ap_fit_ ⟨m, hm⟩
theorem cr_min (hk : k ≤ 8) : (if nI k < nI 8 then nI k else nI 8) = nI k := by
  by_cases e : k = 8
  · rw [e]; rfl
  · exact if_pos ((nlt (by omega) (by decide)).mpr (by omega))
theorem SBAt.app (hB : SBAt x v k f h) : SBAt x v (k + 1) (u1 f k (nI m)) (sI (sI h x 3 (nI (k + 1))) v k (nI m)) := by
  obtain ⟨b1, b2, b3, b4, b5, b6, b7, b8, b9⟩ := hB
  have nx : x ≠ v := fun e => by rw [e, b5] at b1; cases b1
  refine ⟨b1, b2, (rdI_s nx).trans ((rdI_k (by decide)).trans b3), (rdI_s nx).trans fs_at, b5, b6, fun i hi => ?_, b8, b9⟩
  by_cases e : i = k
  · subst e; rw [u1_self]; exact fs_at
  · rw [u1_ne e]; exact (rdI_k e).trans ((rdI_s (fun e => nx e.symm)).trans (b7 i (by omega)))
theorem SBAt.oth {w j : Nat} {y : Int32} (hB : SBAt x v k f h) (n1 : w ≠ x) (n2 : w ≠ v) : SBAt x v k f (sI h w j y) := by
  obtain ⟨b1, b2, b3, b4, b5, b6, b7, b8, b9⟩ := hB
  exact ⟨b1, b2, (rdI_s n1.symm).trans b3, (rdI_s n1.symm).trans b4, b5, b6, fun i hi => (rdI_s n2.symm).trans (b7 i hi), b8, b9⟩
theorem SBAt.fg (hB : SBAt x v k f h) (p : Fg noC [] noC h h1) : SBAt x v k f h1 := by
  obtain ⟨b1, b2, b3, b4, b5, b6, b7, b8, b9⟩ := hB
  exact ⟨p.k b1 (by decide), by rw [p.r b1 (by decide) (fun z => z)]; exact b2, by rw [p.i b1 (by decide) (fun z => z) 1 (fun _ => by simp)]; exact b3, by rw [p.i b1 (by decide) (fun z => z) 3 (fun _ => by simp)]; exact b4, p.k b5 (by decide), by rw [p.l b5 (by decide)]; exact b6, fun i hi => by rw [p.i b5 (by decide) (fun z => z) i (fun _ => by simp)]; exact b7 i hi, b8, b9⟩
theorem fg_cpI {a0 sp a dp n : Nat} (p : Fg S F Q h h1) (z : hK h a = 0) : Fg S F Q h (cpI h1 a0 sp a dp n) := ⟨p.1, fun c hc => by
  obtain ⟨p1, p2, p3, p4, p5⟩ := p.2 c hc
  exact ⟨p1, p2, p3, fun k x y => (congrFun (show u1 (hI h1) a (va_cpy (hI h1 a0) (hI h1 a) sp dp n) c = hI h1 c from if_neg (fun e => hc (by rw [e]; exact z))) k).trans (p4 k x y), p5⟩⟩
end SB

section WR
variable {G : ev_G} {M : ev_M} {R : Room} {Qf : List Frame → Array Value → State → State → Prop} {pc uc us : Nat} {L : List (Option ev_V)} {st : List ev_V} {h : ev_H}
theorem r_callUx {index n d : Nat} {a : Nat} {x0 : MethodName} {ci : Nat} {M2 : ev_M} {as st0 : List ev_V} {v : ev_V} (V : ev_UL M.1.cls index x0 M2 ci n) (hC : Called G M2 d 0 0 (vR a :: as) h (px v h)) (hk : hK h a = ci + 1) (hst : st0 = as.reverse ++ vR a :: st) (hn : as.length = n) (hw : Nat.ble (ev_sw st) 8 = true) (hro : ev_rok R d M2.2.2.1 = true) (hd : decode M.2.1 pc = .ok (.invokevirtual index, 3)) (hc : uc ≤ R.cells) (hs : us ≤ R.slots)
    (kk : Ev G M R Qf (pc + 3) L (v :: st) h uc us) : Ev G M R Qf pc L st0 h uc us := r_callU V hC hk hst hn hw hro hc hs hd (fun r h1 q => by obtain ⟨rfl, rfl⟩ := q; exact kk)
theorem r_callUi {index n d mc2 ms2 : Nat} {a : Nat} {x0 : MethodName} {ci : Nat} {M2 : ev_M} {as st0 : List ev_V} {q : Int32 → ev_H → Prop} (V : ev_UL M.1.cls index x0 M2 ci n) (hC : Called G M2 d mc2 ms2 (vR a :: as) h (pI q)) (hk : hK h a = ci + 1) (hst : st0 = as.reverse ++ vR a :: st) (hn : as.length = n) (hw : Nat.ble (ev_sw st) 8 = true) (hro : ev_rok R d M2.2.2.1 = true) (hd : decode M.2.1 pc = .ok (.invokevirtual index, 3)) (hc : uc + mc2 ≤ R.cells) (hs : us + ms2 ≤ R.slots)
    (kk : ∀ (x : Int32) (h1 : ev_H), q x h1 → Ev G M R Qf (pc + 3) L (vI x :: st) h1 (uc + mc2) (us + ms2)) : Ev G M R Qf pc L st0 h uc us := r_callU V hC hk hst hn hw hro hc hs hd (fun r h1 q => by obtain ⟨x, rfl, q⟩ := q; exact kk x h1 q)
theorem r_callUr {index n d mc2 ms2 : Nat} {a : Nat} {x0 : MethodName} {ci : Nat} {M2 : ev_M} {as st0 : List ev_V} {q : Nat → ev_H → Prop} (V : ev_UL M.1.cls index x0 M2 ci n) (hC : Called G M2 d mc2 ms2 (vR a :: as) h (pR q)) (hk : hK h a = ci + 1) (hst : st0 = as.reverse ++ vR a :: st) (hn : as.length = n) (hw : Nat.ble (ev_sw st) 8 = true) (hro : ev_rok R d M2.2.2.1 = true) (hd : decode M.2.1 pc = .ok (.invokevirtual index, 3)) (hc : uc + mc2 ≤ R.cells) (hs : us + ms2 ≤ R.slots)
    (kk : ∀ (x : Nat) (h1 : ev_H), q x h1 → Ev G M R Qf (pc + 3) L (vR x :: st) h1 (uc + mc2) (us + ms2)) : Ev G M R Qf pc L st0 h uc us := r_callU V hC hk hst hn hw hro hc hs hd (fun r h1 q => by obtain ⟨x, rfl, q⟩ := q; exact kk x h1 q)
theorem r_callUv {index n d mc2 ms2 : Nat} {a : Nat} {x0 : MethodName} {ci : Nat} {M2 : ev_M} {as st0 : List ev_V} {q : ev_H → Prop} (V : ev_UL M.1.cls index x0 M2 ci n) (hC : Called G M2 d mc2 ms2 (vR a :: as) h (p0 q)) (hk : hK h a = ci + 1) (hst : st0 = as.reverse ++ vR a :: st) (hn : as.length = n) (hw : Nat.ble (ev_sw st) 8 = true) (hro : ev_rok R d M2.2.2.1 = true) (hd : decode M.2.1 pc = .ok (.invokevirtual index, 3)) (hc : uc + mc2 ≤ R.cells) (hs : us + ms2 ≤ R.slots)
    (kk : ∀ (h1 : ev_H), q h1 → Ev G M R Qf (pc + 3) L st h1 (uc + mc2) (us + ms2)) : Ev G M R Qf pc L st0 h uc us := r_callU V hC hk hst hn hw hro hc hs hd (fun r h1 q => by obtain ⟨rfl, q⟩ := q; exact kk h1 q)
theorem r_callPx {index n d : Nat} {a : Nat} {ci : Nat} {M2 : ev_M} {as st0 : List ev_V} {v : ev_V} (V : ev_PL M.1.cls index M2 ci n) (hC : Called G M2 d 0 0 (vR a :: as) h (px v h)) (hk : hK h a = ci + 1) (hst : st0 = as.reverse ++ vR a :: st) (hn : as.length = n) (hw : Nat.ble (ev_sw st) 8 = true) (hro : ev_rok R d M2.2.2.1 = true) (hd : decode M.2.1 pc = .ok (.invokespecial index, 3)) (hc : uc ≤ R.cells) (hs : us ≤ R.slots)
    (kk : Ev G M R Qf (pc + 3) L (v :: st) h uc us) : Ev G M R Qf pc L st0 h uc us := r_callP V hC hk hst hn hw hro hc hs hd (fun r h1 q => by obtain ⟨rfl, rfl⟩ := q; exact kk)
theorem r_callPi {index n d mc2 ms2 : Nat} {a : Nat} {ci : Nat} {M2 : ev_M} {as st0 : List ev_V} {q : Int32 → ev_H → Prop} (V : ev_PL M.1.cls index M2 ci n) (hC : Called G M2 d mc2 ms2 (vR a :: as) h (pI q)) (hk : hK h a = ci + 1) (hst : st0 = as.reverse ++ vR a :: st) (hn : as.length = n) (hw : Nat.ble (ev_sw st) 8 = true) (hro : ev_rok R d M2.2.2.1 = true) (hd : decode M.2.1 pc = .ok (.invokespecial index, 3)) (hc : uc + mc2 ≤ R.cells) (hs : us + ms2 ≤ R.slots)
    (kk : ∀ (x : Int32) (h1 : ev_H), q x h1 → Ev G M R Qf (pc + 3) L (vI x :: st) h1 (uc + mc2) (us + ms2)) : Ev G M R Qf pc L st0 h uc us := r_callP V hC hk hst hn hw hro hc hs hd (fun r h1 q => by obtain ⟨x, rfl, q⟩ := q; exact kk x h1 q)
theorem r_callPr {index n d mc2 ms2 : Nat} {a : Nat} {ci : Nat} {M2 : ev_M} {as st0 : List ev_V} {q : Nat → ev_H → Prop} (V : ev_PL M.1.cls index M2 ci n) (hC : Called G M2 d mc2 ms2 (vR a :: as) h (pR q)) (hk : hK h a = ci + 1) (hst : st0 = as.reverse ++ vR a :: st) (hn : as.length = n) (hw : Nat.ble (ev_sw st) 8 = true) (hro : ev_rok R d M2.2.2.1 = true) (hd : decode M.2.1 pc = .ok (.invokespecial index, 3)) (hc : uc + mc2 ≤ R.cells) (hs : us + ms2 ≤ R.slots)
    (kk : ∀ (x : Nat) (h1 : ev_H), q x h1 → Ev G M R Qf (pc + 3) L (vR x :: st) h1 (uc + mc2) (us + ms2)) : Ev G M R Qf pc L st0 h uc us := r_callP V hC hk hst hn hw hro hc hs hd (fun r h1 q => by obtain ⟨x, rfl, q⟩ := q; exact kk x h1 q)
theorem r_callPv {index n d mc2 ms2 : Nat} {a : Nat} {ci : Nat} {M2 : ev_M} {as st0 : List ev_V} {q : ev_H → Prop} (V : ev_PL M.1.cls index M2 ci n) (hC : Called G M2 d mc2 ms2 (vR a :: as) h (p0 q)) (hk : hK h a = ci + 1) (hst : st0 = as.reverse ++ vR a :: st) (hn : as.length = n) (hw : Nat.ble (ev_sw st) 8 = true) (hro : ev_rok R d M2.2.2.1 = true) (hd : decode M.2.1 pc = .ok (.invokespecial index, 3)) (hc : uc + mc2 ≤ R.cells) (hs : us + ms2 ≤ R.slots)
    (kk : ∀ (h1 : ev_H), q h1 → Ev G M R Qf (pc + 3) L st h1 (uc + mc2) (us + ms2)) : Ev G M R Qf pc L st0 h uc us := r_callP V hC hk hst hn hw hro hc hs hd (fun r h1 q => by obtain ⟨rfl, q⟩ := q; exact kk h1 q)
theorem r_callNIx {index n d : Nat} {a : Nat} {M2 : ev_M} {as st0 : List ev_V} {v : ev_V} (V : ev_NI M.1.cls index M2 n) (hC : Called G M2 d 0 0 (vR a :: as) h (px v h)) (hk : hK h a ≠ 0) (hst : st0 = as.reverse ++ vR a :: st) (hn : as.length = n) (hw : Nat.ble (ev_sw st) 8 = true) (hro : ev_rok R d M2.2.2.1 = true) (hd : decode M.2.1 pc = .ok (.invokespecial index, 3)) (hc : uc ≤ R.cells) (hs : us ≤ R.slots)
    (kk : Ev G M R Qf (pc + 3) L (v :: st) h uc us) : Ev G M R Qf pc L st0 h uc us := r_callNI V hC hk hst hn hw hro hc hs hd (fun r h1 q => by obtain ⟨rfl, rfl⟩ := q; exact kk)
theorem r_callNIi {index n d mc2 ms2 : Nat} {a : Nat} {M2 : ev_M} {as st0 : List ev_V} {q : Int32 → ev_H → Prop} (V : ev_NI M.1.cls index M2 n) (hC : Called G M2 d mc2 ms2 (vR a :: as) h (pI q)) (hk : hK h a ≠ 0) (hst : st0 = as.reverse ++ vR a :: st) (hn : as.length = n) (hw : Nat.ble (ev_sw st) 8 = true) (hro : ev_rok R d M2.2.2.1 = true) (hd : decode M.2.1 pc = .ok (.invokespecial index, 3)) (hc : uc + mc2 ≤ R.cells) (hs : us + ms2 ≤ R.slots)
    (kk : ∀ (x : Int32) (h1 : ev_H), q x h1 → Ev G M R Qf (pc + 3) L (vI x :: st) h1 (uc + mc2) (us + ms2)) : Ev G M R Qf pc L st0 h uc us := r_callNI V hC hk hst hn hw hro hc hs hd (fun r h1 q => by obtain ⟨x, rfl, q⟩ := q; exact kk x h1 q)
theorem r_callNIr {index n d mc2 ms2 : Nat} {a : Nat} {M2 : ev_M} {as st0 : List ev_V} {q : Nat → ev_H → Prop} (V : ev_NI M.1.cls index M2 n) (hC : Called G M2 d mc2 ms2 (vR a :: as) h (pR q)) (hk : hK h a ≠ 0) (hst : st0 = as.reverse ++ vR a :: st) (hn : as.length = n) (hw : Nat.ble (ev_sw st) 8 = true) (hro : ev_rok R d M2.2.2.1 = true) (hd : decode M.2.1 pc = .ok (.invokespecial index, 3)) (hc : uc + mc2 ≤ R.cells) (hs : us + ms2 ≤ R.slots)
    (kk : ∀ (x : Nat) (h1 : ev_H), q x h1 → Ev G M R Qf (pc + 3) L (vR x :: st) h1 (uc + mc2) (us + ms2)) : Ev G M R Qf pc L st0 h uc us := r_callNI V hC hk hst hn hw hro hc hs hd (fun r h1 q => by obtain ⟨x, rfl, q⟩ := q; exact kk x h1 q)
theorem r_callNIv {index n d mc2 ms2 : Nat} {a : Nat} {M2 : ev_M} {as st0 : List ev_V} {q : ev_H → Prop} (V : ev_NI M.1.cls index M2 n) (hC : Called G M2 d mc2 ms2 (vR a :: as) h (p0 q)) (hk : hK h a ≠ 0) (hst : st0 = as.reverse ++ vR a :: st) (hn : as.length = n) (hw : Nat.ble (ev_sw st) 8 = true) (hro : ev_rok R d M2.2.2.1 = true) (hd : decode M.2.1 pc = .ok (.invokespecial index, 3)) (hc : uc + mc2 ≤ R.cells) (hs : us + ms2 ≤ R.slots)
    (kk : ∀ (h1 : ev_H), q h1 → Ev G M R Qf (pc + 3) L st h1 (uc + mc2) (us + ms2)) : Ev G M R Qf pc L st0 h uc us := r_callNI V hC hk hst hn hw hro hc hs hd (fun r h1 q => by obtain ⟨rfl, q⟩ := q; exact kk h1 q)
theorem r_callNSx {index n d : Nat} {M2 : ev_M} {as st0 : List ev_V} {v : ev_V} (V : ev_NS M.1.cls index M2 n) (hC : Called G M2 d 0 0 as h (px v h)) (hst : st0 = as.reverse ++ st) (hn : as.length = n) (hw : Nat.ble (ev_sw st) 8 = true) (hro : ev_rok R d M2.2.2.1 = true) (hd : decode M.2.1 pc = .ok (.invokestatic index, 3)) (hc : uc ≤ R.cells) (hs : us ≤ R.slots)
    (kk : Ev G M R Qf (pc + 3) L (v :: st) h uc us) : Ev G M R Qf pc L st0 h uc us := r_callNS V hC hst hn hw hro hc hs hd (fun r h1 q => by obtain ⟨rfl, rfl⟩ := q; exact kk)
theorem r_callNSi {index n d mc2 ms2 : Nat} {M2 : ev_M} {as st0 : List ev_V} {q : Int32 → ev_H → Prop} (V : ev_NS M.1.cls index M2 n) (hC : Called G M2 d mc2 ms2 as h (pI q)) (hst : st0 = as.reverse ++ st) (hn : as.length = n) (hw : Nat.ble (ev_sw st) 8 = true) (hro : ev_rok R d M2.2.2.1 = true) (hd : decode M.2.1 pc = .ok (.invokestatic index, 3)) (hc : uc + mc2 ≤ R.cells) (hs : us + ms2 ≤ R.slots)
    (kk : ∀ (x : Int32) (h1 : ev_H), q x h1 → Ev G M R Qf (pc + 3) L (vI x :: st) h1 (uc + mc2) (us + ms2)) : Ev G M R Qf pc L st0 h uc us := r_callNS V hC hst hn hw hro hc hs hd (fun r h1 q => by obtain ⟨x, rfl, q⟩ := q; exact kk x h1 q)
theorem r_callNSr {index n d mc2 ms2 : Nat} {M2 : ev_M} {as st0 : List ev_V} {q : Nat → ev_H → Prop} (V : ev_NS M.1.cls index M2 n) (hC : Called G M2 d mc2 ms2 as h (pR q)) (hst : st0 = as.reverse ++ st) (hn : as.length = n) (hw : Nat.ble (ev_sw st) 8 = true) (hro : ev_rok R d M2.2.2.1 = true) (hd : decode M.2.1 pc = .ok (.invokestatic index, 3)) (hc : uc + mc2 ≤ R.cells) (hs : us + ms2 ≤ R.slots)
    (kk : ∀ (x : Nat) (h1 : ev_H), q x h1 → Ev G M R Qf (pc + 3) L (vR x :: st) h1 (uc + mc2) (us + ms2)) : Ev G M R Qf pc L st0 h uc us := r_callNS V hC hst hn hw hro hc hs hd (fun r h1 q => by obtain ⟨x, rfl, q⟩ := q; exact kk x h1 q)
theorem r_callNSv {index n d mc2 ms2 : Nat} {M2 : ev_M} {as st0 : List ev_V} {q : ev_H → Prop} (V : ev_NS M.1.cls index M2 n) (hC : Called G M2 d mc2 ms2 as h (p0 q)) (hst : st0 = as.reverse ++ st) (hn : as.length = n) (hw : Nat.ble (ev_sw st) 8 = true) (hro : ev_rok R d M2.2.2.1 = true) (hd : decode M.2.1 pc = .ok (.invokestatic index, 3)) (hc : uc + mc2 ≤ R.cells) (hs : us + ms2 ≤ R.slots)
    (kk : ∀ (h1 : ev_H), q h1 → Ev G M R Qf (pc + 3) L st h1 (uc + mc2) (us + ms2)) : Ev G M R Qf pc L st0 h uc us := r_callNS V hC hst hn hw hro hc hs hd (fun r h1 q => by obtain ⟨rfl, q⟩ := q; exact kk h1 q)
end WR

theorem xJ5_init {G : ev_G} {h : ev_H} {x : Nat} (kx : hK h x = 22) (hc : ev_c < x) (h3 : hI h x 3 = 0) (f : Nat → Int32) : Called G mJ5_init 1 1 8 [vR x, vI (nI 8)] h (p0 (fun h1 => ∃ v, hK h v = 0 ∧ SBAt x v 0 f h1 ∧ Fg (fun a => a = x) [] (fun a => a = x) h h1)) := by
  refine called_of rfl [some (vR x), some (vI (nI 8))] rfl (Nat.le_of_ble_eq_true rfl) ?_
  refine r_aload_n dJ5_init_0 rfl ?_
  refine r_objInit q504 q175 q176 (nz_ (kx) (by decide)) (by decide) (by decide) rfl dJ5_init_1 ?_
  refine r_gets (q := ("java/lang/String", "COMPACT_STRINGS", "Z", vI 1)) List.mem_cons_self q505 dJ5_init_4 ?_
  refine r_if_eq (tgt := 25) dJ5_init_7 rfl (fun c1 => ?_) (fun c1 => ?_)
  · --
    exact absurd c1 (by decide)
  · --
    refine r_aload_n dJ5_init_10 rfl ?_
    refine r_iload_n dJ5_init_11 rfl ?_
    refine r_wf (fun wf9 => ?_)
    refine r_newa (atype := .byte) (t := 1) (n := 8) (by decide) rfl q211 (by decide) dJ5_init_12 (by decide) (by decide) ?_
    have kA : hK (nO h 101 8) (hN h) = 101 := nO_Kn
    have lA : hL (nO h 101 8) (hN h) = 8 := nO_Ln
    have gA : Fg (fun a => a = x) [] (fun a => a = x) h (nO h 101 8) := Fg.nO wf9
    have cA : ev_c < hN h := wf9.1
    have zA : hK h (hN h) = 0 := wf_0 wf9
    have nA : x ≠ hN h := fun q => by rw [← q, kx] at zA; cases zA
    have kxA : hK (nO h 101 8) x = 22 := by rw [nO_K, if_neg nA]; exact kx
    have sxA : hI (nO h 101 8) x 3 = 0 := by rw [nO_I nA]; exact h3
    generalize nO h 101 8 = hA at kA lA gA kxA sxA ⊢
    generalize hN h = v at kA lA cA zA nA ⊢
    refine r_putR fJ5_15_J6 (kxA) (hc) rfl dJ5_init_14 ?_
    refine r_aload_n dJ5_init_17 rfl ?_
    refine r_iconst (v := 0) dJ5_init_18 (by decide) ?_
    refine r_putI (x := 0) fJ5_22_J6 (kxA) (hc) rfl rfl rfl dJ5_init_19 ?_
    refine r_goto (tgt := 38) dJ5_init_22 rfl ?_
    exact r_retv dJ5_init_38 rfl (Nat.le_refl _) (Nat.le_refl _) ⟨v, zA, ⟨kxA, fs_atR, fs_at, (rdI_k (by decide)).trans sxA, kA, lA, fun i hi => absurd hi (by omega), hc, cA⟩, fg_si (fg_sr gA (Or.inl rfl)) (Or.inl rfl)⟩

theorem xJ6_init {G : ev_G} {h : ev_H} {x : Nat} (kx : hK h x = 22) (hc : ev_c < x) (h3 : hI h x 3 = 0) (f : Nat → Int32) : Called G mJ6_init 2 1 8 [vR x, vI (nI 8)] h (p0 (fun h1 => ∃ v, hK h v = 0 ∧ SBAt x v 0 f h1 ∧ Fg (fun a => a = x) [] (fun a => a = x) h h1)) := by
  refine called_of rfl [some (vR x), some (vI (nI 8))] rfl (Nat.le_of_ble_eq_true rfl) ?_
  refine r_aload_n dJ6_init_0 rfl ?_
  refine r_iload_n dJ6_init_1 rfl ?_
  refine r_callIv lJ6_1 (xJ5_init kx hc h3 f) (nz_ kx (by decide)) rfl rfl rfl rfl dJ6_init_2 (Nat.le_refl _) (Nat.le_refl _) (fun h9 q9 => ?_)
  exact r_retv dJ6_init_5 rfl (Nat.le_refl _) (Nat.le_refl _) q9

theorem xJ5_isLatin1 {G : ev_G} {h : ev_H} {x v k : Nat} {f : Nat → Int32} (hB : SBAt x v k f h) : Called G mJ5_isLatin1 0 0 0 [vR x] h (px (vI (b2i true)) h) := by
  refine called_of rfl [some (vR x)] rfl (Nat.le_of_ble_eq_true rfl) ?_
  refine r_gets (q := ("java/lang/String", "COMPACT_STRINGS", "Z", vI 1)) List.mem_cons_self q505 dJ5_isLatin1_0 ?_
  refine r_if_eq (tgt := 17) dJ5_isLatin1_3 rfl (fun c1 => ?_) (fun c1 => ?_)
  · --
    exact absurd c1 (by decide)
  · --
    refine r_aload_n dJ5_isLatin1_6 rfl ?_
    refine r_getIv fJ5_22_J6 (hB.1) (v := 0) (hB.2.2.1) rfl dJ5_isLatin1_7 ?_
    refine r_if_ne (tgt := 17) dJ5_isLatin1_10 rfl (fun c2 => ?_) (fun c2 => ?_)
    · --
      exact absurd rfl c2
    · --
      refine r_iconst (v := nI 1) dJ5_isLatin1_13 (by decide) ?_
      refine r_goto (tgt := 18) dJ5_isLatin1_14 rfl ?_
      exact r_ret1 dJ5_isLatin1_18 rfl (rfl)

theorem xJ5_getValue {G : ev_G} {h : ev_H} {x v k : Nat} {f : Nat → Int32} (hB : SBAt x v k f h) : Called G mJ5_getValue 0 0 0 [vR x] h (px (vR v) h) := by
  refine called_of rfl [some (vR x)] rfl (Nat.le_of_ble_eq_true rfl) ?_
  refine r_aload_n dJ5_getValue_0 rfl ?_
  refine r_getRv fJ5_15_J6 (hB.1) (v := v) (hB.2.1) rfl dJ5_getValue_1 ?_
  exact r_areturn dJ5_getValue_4 rfl (Or.inr ⟨_, rfl⟩) (Nat.le_refl _) (Nat.le_refl _) ⟨rfl, rfl⟩

theorem xJ5_length {G : ev_G} {h : ev_H} {x v k : Nat} {f : Nat → Int32} (hB : SBAt x v k f h) : Called G mJ5_length 0 0 0 [vR x] h (px (vI (nI k)) h) := by
  refine called_of rfl [some (vR x)] rfl (Nat.le_of_ble_eq_true rfl) ?_
  refine r_aload_n dJ5_length_0 rfl ?_
  refine r_getIv fJ5_79_J6 (hB.1) (v := nI k) (hB.2.2.2.1) rfl dJ5_length_1 ?_
  exact r_retx dJ5_length_4 rfl rfl (rfl)

theorem xJ6_length {G : ev_G} {h : ev_H} {x v k : Nat} {f : Nat → Int32} (hB : SBAt x v k f h) : Called G mJ6_length 1 0 0 [vR x] h (px (vI (nI k)) h) := by
  refine called_of rfl [some (vR x)] rfl (Nat.le_of_ble_eq_true rfl) ?_
  refine r_aload_n dJ6_length_0 rfl ?_
  refine r_callPx lJ6_343 (xJ5_length hB) (hB.1) rfl rfl rfl rfl dJ6_length_1 (Nat.le_refl _) (Nat.le_refl _) ?_
  exact r_retx dJ6_length_4 rfl rfl (rfl)

theorem xJ12_canEncode {G : ev_G} {h : ev_H} {m : Nat} (hm : m < 128) : Called G mJ12_canEncode 0 0 0 [vI (nI m)] h (px (vI (b2i true)) h) := by
  refine called_of rfl [some (vI (nI m))] rfl (Nat.le_of_ble_eq_true rfl) ?_
  refine r_iload_n dJ12_canEncode_0 rfl ?_
  refine r_sipush (v := nI 255) dJ12_canEncode_1 (by decide) ?_
  refine r_icmpN_gt (tgt := 11) dJ12_canEncode_4 rfl (by omega) (by omega) (fun c1 => ?_) (fun c1 => ?_)
  · --
    exact absurd c1 (by omega)
  · --
    refine r_iconst (v := nI 1) dJ12_canEncode_7 (by decide) ?_
    refine r_goto (tgt := 12) dJ12_canEncode_8 rfl ?_
    exact r_ret1 dJ12_canEncode_12 rfl (rfl)

theorem xJ5_ensureCapacityInternal {G : ev_G} {h : ev_H} {x v k : Nat} {f : Nat → Int32} (hB : SBAt x v k f h) (hk8 : k < 8) : Called G mJ5_ensureCapacityInternal 0 0 0 [vR x, vI (nI (k + 1))] h (p0 (fun h1 => h1 = h)) := by
  refine called_of rfl [some (vR x), some (vI (nI (k + 1))), none] rfl (Nat.le_of_ble_eq_true rfl) ?_
  refine r_aload_n dJ5_ensureCapacityInternal_0 rfl ?_
  refine r_getRv fJ5_15_J6 (hB.1) (v := v) (hB.2.1) rfl dJ5_ensureCapacityInternal_1 ?_
  refine r_alen (t := 1) (hB.2.2.2.2.1) dJ5_ensureCapacityInternal_4 ?_
  refine r_top (nI 8) (congrArg nI (hB.2.2.2.2.2.1)) ?_
  refine r_aload_n dJ5_ensureCapacityInternal_5 rfl ?_
  refine r_getIv fJ5_22_J6 (hB.1) (v := 0) (hB.2.2.1) rfl dJ5_ensureCapacityInternal_6 ?_
  refine r_ishr dJ5_ensureCapacityInternal_9 ?_
  refine r_top (nI 8) (by decide) ?_
  refine r_istore_n dJ5_ensureCapacityInternal_10 (by decide) rfl ?_
  refine r_iload_n dJ5_ensureCapacityInternal_11 rfl ?_
  refine r_iload_n dJ5_ensureCapacityInternal_12 rfl ?_
  refine r_isub dJ5_ensureCapacityInternal_13 ?_
  refine r_if_le (tgt := 38) dJ5_ensureCapacityInternal_14 rfl (fun c1 => ?_) (fun c1 => ?_)
  · --
    exact r_retv dJ5_ensureCapacityInternal_38 rfl (Nat.le_refl _) (Nat.le_refl _) (rfl)
  · --
    exact absurd (ec_le hk8) c1

theorem xJ5_append {G : ev_G} {h : ev_H} {x v k : Nat} {f : Nat → Int32} (hB : SBAt x v k f h) (hk8 : k < 8) {m : Nat} (hm : m < 128) : Called G mJ5_append 1 0 0 [vR x, vI (nI m)] h (pR (fun y h1 => y = x ∧ SBAt x v (k + 1) (u1 f k (nI m)) h1 ∧ Fr [x, v] [] h h1)) := by
  refine called_of rfl [some (vR x), some (vI (nI m))] rfl (Nat.le_of_ble_eq_true rfl) ?_
  refine r_aload_n dJ5_append_0 rfl ?_
  refine r_aload_n dJ5_append_1 rfl ?_
  refine r_getIv fJ5_79_J6 (hB.1) (v := nI k) (hB.2.2.2.1) rfl dJ5_append_2 ?_
  refine r_iconst (v := nI 1) dJ5_append_5 (by decide) ?_
  refine r_iadd dJ5_append_6 ?_
  refine r_top (nI (k + 1)) (nI_add _ _) ?_
  refine r_callUv lJ5_100 (xJ5_ensureCapacityInternal hB hk8) (hB.1) rfl rfl rfl rfl dJ5_append_7 (Nat.le_refl _) (Nat.le_refl _) (fun h9 q9 => ?_)
  subst q9
  refine r_aload_n dJ5_append_10 rfl ?_
  refine r_callUx lJ5_83 (xJ5_isLatin1 hB) (hB.1) rfl rfl rfl rfl dJ5_append_11 (Nat.le_refl _) (Nat.le_refl _) ?_
  refine r_ifB_eq (tgt := 45) dJ5_append_14 rfl (fun c1 => ?_) (fun c1 => ?_)
  · --
    exact absurd c1 (by decide)
  · --
    refine r_iload_n dJ5_append_17 rfl ?_
    refine r_callSx lJ5_191 (xJ12_canEncode hm) rfl rfl rfl rfl dJ5_append_18 (Nat.le_refl _) (Nat.le_refl _) ?_
    refine r_ifB_eq (tgt := 45) dJ5_append_21 rfl (fun c2 => ?_) (fun c2 => ?_)
    · --
      exact absurd c2 (by decide)
    · --
      refine r_aload_n dJ5_append_24 rfl ?_
      refine r_getRv fJ5_15_J6 (hB.1) (v := v) (hB.2.1) rfl dJ5_append_25 ?_
      refine r_aload_n dJ5_append_28 rfl ?_
      refine r_dup dJ5_append_29 rfl ?_
      refine r_getIv fJ5_79_J6 (hB.1) (v := nI k) (hB.2.2.2.1) rfl dJ5_append_30 ?_
      refine r_dup_x1 dJ5_append_33 rfl rfl ?_
      refine r_iconst (v := nI 1) dJ5_append_34 (by decide) ?_
      refine r_iadd dJ5_append_35 ?_
      refine r_top (nI (k + 1)) (nI_add _ _) ?_
      refine r_putN fJ5_79_J6 (hB.1) (hB.2.2.2.2.2.2.2.1) dJ5_append_36 ?_
      refine r_iload_n dJ5_append_39 rfl ?_
      refine r_i2b dJ5_append_40 rfl ?_
      refine r_bastv (hB.2.2.2.2.1) (hB.2.2.2.2.2.2.2.2) (hB.2.2.2.2.2.1) (ix_n (by omega) (by decide)) (v := nI m) (ap_nb hm) dJ5_append_41 ?_
      refine r_goto (tgt := 75) dJ5_append_42 rfl ?_
      refine r_aload_n dJ5_append_75 rfl ?_
      exact r_retr dJ5_append_76 rfl (Or.inl ⟨_, rfl⟩) (Nat.le_refl _) (Nat.le_refl _) ⟨rfl, hB.app, (Fr.rf.sa x 3 _ (by simp)).sa v k _ (by simp)⟩

theorem xJ6_append {G : ev_G} {h : ev_H} {x v k : Nat} {f : Nat → Int32} (hB : SBAt x v k f h) (hk8 : k < 8) {m : Nat} (hm : m < 128) : Called G mJ6_append 2 0 0 [vR x, vI (nI m)] h (pR (fun y h1 => y = x ∧ SBAt x v (k + 1) (u1 f k (nI m)) h1 ∧ Fr [x, v] [] h h1)) := by
  refine called_of rfl [some (vR x), some (vI (nI m))] rfl (Nat.le_of_ble_eq_true rfl) ?_
  refine r_aload_n dJ6_append_0 rfl ?_
  refine r_iload_n dJ6_append_1 rfl ?_
  refine r_callPr lJ6_50 (xJ5_append hB hk8 hm) (hB.1) rfl rfl rfl rfl dJ6_append_2 (Nat.le_refl _) (Nat.le_refl _) (fun y9 h9 q9 => ?_)
  obtain ⟨rfl, q9⟩ := q9
  refine r_pop dJ6_append_5 rfl ?_
  refine r_aload_n dJ6_append_6 rfl ?_
  exact r_retr dJ6_append_7 rfl (Or.inl ⟨_, rfl⟩) (Nat.le_refl _) (Nat.le_refl _) ⟨rfl, q9⟩

theorem xJ11_checkLength {G : ev_G} {h : ev_H} {k : Nat} (hk8 : k ≤ 8) : Called G mJ11_checkLength 0 0 0 [vI (nI 0), vI (nI k)] h (p0 (fun h1 => h1 = h)) := by
  refine called_of rfl [some (vI (nI 0)), some (vI (nI k))] rfl (Nat.le_of_ble_eq_true rfl) ?_
  refine r_iload_n dJ11_checkLength_0 rfl ?_
  refine r_iload_n dJ11_checkLength_1 rfl ?_
  refine r_icmpN_ge (tgt := 37) dJ11_checkLength_2 rfl (by omega) (by omega) (fun c1 => ?_) (fun c1 => ?_)
  · --
    exact r_retv dJ11_checkLength_37 rfl (Nat.le_refl _) (Nat.le_refl _) (rfl)
  · --
    exact absurd c1 (by omega)

theorem xJ11_copyOfRangeByte {G : ev_G} {h : ev_H} {v k : Nat} {f : Nat → Int32} (kv : hK h v = 101) (cv : ev_c < v) (lv : hL h v = 8) (fv : ∀ i, i < k → hI h v i = f i) (hk8 : k ≤ 8) (hb : ∀ i, i < k → ∃ m, m < 128 ∧ f i = nI m) : Called G mJ11_copyOfRangeByte 1 1 8 [vR v, vI (nI 0), vI (nI k)] h (pR (fun y h1 => hK h y = 0 ∧ ev_c < y ∧ hK h1 y = 101 ∧ hL h1 y = k ∧ (∀ i, i < k → hI h1 y i = f i) ∧ Fg noC [] noC h h1)) := by
  refine called_of rfl [some (vR v), some (vI (nI 0)), some (vI (nI k)), none, none] rfl (Nat.le_of_ble_eq_true rfl) ?_
  refine r_iload_n dJ11_copyOfRangeByte_0 rfl ?_
  refine r_iload_n dJ11_copyOfRangeByte_1 rfl ?_
  refine r_callSv lJ11_343 (xJ11_checkLength hk8) rfl rfl rfl rfl dJ11_copyOfRangeByte_2 (by decide) (by decide) (fun h9 q9 => ?_)
  rw [q9]
  refine r_iload_n dJ11_copyOfRangeByte_5 rfl ?_
  refine r_iload_n dJ11_copyOfRangeByte_6 rfl ?_
  refine r_isub dJ11_copyOfRangeByte_7 ?_
  refine r_top (nI (k - 0)) (pk_sub (by omega)) ?_
  refine r_top (nI k) rfl ?_
  refine r_istore_n dJ11_copyOfRangeByte_8 (by decide) rfl ?_
  refine r_iload_n dJ11_copyOfRangeByte_9 rfl ?_
  refine r_wf (fun wf9 => ?_)
  refine r_newa (atype := .byte) (t := 1) (n := k) (by decide) rfl q211 (by omega) dJ11_copyOfRangeByte_10 (by decide) (by show 0 + 0 + k ≤ 8; omega) ?_
  have kA : hK (nO h 101 k) (hN h) = 101 := nO_Kn
  have lA : hL (nO h 101 k) (hN h) = k := nO_Ln
  have gA : Fg noC [] noC h (nO h 101 k) := Fg.nO wf9
  have cA : ev_c < hN h := wf9.1
  have zA : hK h (hN h) = 0 := wf_0 wf9
  generalize nO h 101 k = hA at kA lA gA ⊢
  generalize hN h = y at kA lA cA zA ⊢
  refine r_astore dJ11_copyOfRangeByte_12 (by decide) rfl ?_
  refine r_aload_n dJ11_copyOfRangeByte_14 rfl ?_
  refine r_iload_n dJ11_copyOfRangeByte_15 rfl ?_
  refine r_aload dJ11_copyOfRangeByte_16 rfl ?_
  refine r_iconst (v := nI 0) dJ11_copyOfRangeByte_18 (by decide) ?_
  refine r_aload_n dJ11_copyOfRangeByte_19 rfl ?_
  refine r_alen (t := 1) (gA.k kv (by decide)) dJ11_copyOfRangeByte_20 ?_
  refine r_top (nI 8) (congrArg nI ((gA.l kv (by decide)).trans lv)) ?_
  refine r_iload_n dJ11_copyOfRangeByte_21 rfl ?_
  refine r_isub dJ11_copyOfRangeByte_22 ?_
  refine r_top (nI (8 - 0)) (pk_sub (by omega)) ?_
  refine r_top (nI 8) rfl ?_
  refine r_iload_n dJ11_copyOfRangeByte_23 rfl ?_
  refine r_mmin q563 (by decide) (by decide) rfl (by decide) (by show 0 + k ≤ 8; omega) dJ11_copyOfRangeByte_24 ?_
  refine r_top (nI k) (cr_min hk8) ?_
  refine r_copyI (t := 1) q566 (by decide) (gA.k kv (by decide)) kA cv cA ((gA.l kv (by decide)).trans lv) lA (by omega) (by omega) (by decide) (by omega) (fun i hi => ?_) (by decide) (by decide) rfl dJ11_copyOfRangeByte_27 ?_
  · rw [Nat.zero_add, gA.i kv (by decide) (fun z => z) i (fun _ => by simp), fv i hi]; obtain ⟨m, hm, em⟩ := hb i hi; rw [em]; exact ap_fit hm
  refine r_aload dJ11_copyOfRangeByte_30 rfl ?_
  exact r_retr dJ11_copyOfRangeByte_32 rfl (Or.inr ⟨_, rfl⟩) (by decide) (by show 0 + 0 + k ≤ 8; omega) ⟨zA, cA, kA, lA, fun i hi => by rw [cpI_at, pk_cpy_in (by omega) (by omega), show 0 + (i - 0) = i by omega, gA.i kv (by decide) (fun z => z) i (fun _ => by simp), fv i hi], fg_cpI gA zA⟩

theorem xJ11_copyOfRange {G : ev_G} {h : ev_H} {v k : Nat} {f : Nat → Int32} (kv : hK h v = 101) (cv : ev_c < v) (lv : hL h v = 8) (fv : ∀ i, i < k → hI h v i = f i) (hk8 : k ≤ 8) (hb : ∀ i, i < k → ∃ m, m < 128 ∧ f i = nI m) : Called G mJ11_copyOfRange 2 1 8 [vR v, vI (nI 0), vI (nI k)] h (pR (fun y h1 => hK h y = 0 ∧ ev_c < y ∧ hK h1 y = 101 ∧ hL h1 y = k ∧ (∀ i, i < k → hI h1 y i = f i) ∧ Fg noC [] noC h h1)) := by
  refine called_of rfl [some (vR v), some (vI (nI 0)), some (vI (nI k))] rfl (Nat.le_of_ble_eq_true rfl) ?_
  refine r_iload_n dJ11_copyOfRange_0 rfl ?_
  refine r_if_ne (tgt := 10) dJ11_copyOfRange_1 rfl (fun c1 => ?_) (fun c1 => ?_)
  · --
    exact absurd rfl c1
  · --
    refine r_iload_n dJ11_copyOfRange_4 rfl ?_
    refine r_aload_n dJ11_copyOfRange_5 rfl ?_
    refine r_alen (t := 1) (kv) dJ11_copyOfRange_6 ?_
    refine r_top (nI 8) (congrArg nI (lv)) ?_
    refine r_icmpN_eq (tgt := 17) dJ11_copyOfRange_7 rfl (by omega) (by omega) (fun c2 => ?_) (fun c2 => ?_)
    · --
      refine r_aload_n dJ11_copyOfRange_17 rfl ?_
      have e8 : k = 8 := by omega
      subst e8
      refine r_wf (fun wf9 => ?_)
      refine r_cloneB (n := 8) q556 kv cv lv (by decide) (fun i hi => ?_) (by decide) (by decide) rfl dJ11_copyOfRange_18 (by decide) (by decide) ?_
      · rw [fv i hi]; obtain ⟨m, hm, em⟩ := hb i hi; rw [em]; exact ap_fit hm
      have kA : hK (cpI (nO h 101 8) v 0 (hN h) 0 8) (hN h) = 101 := nO_Kn (n := 8)
      have lA : hL (cpI (nO h 101 8) v 0 (hN h) 0 8) (hN h) = 8 := nO_Ln (c := 101)
      have zA : hK h (hN h) = 0 := wf_0 wf9
      have gA : Fg noC [] noC h (cpI (nO h 101 8) v 0 (hN h) 0 8) := fg_cpI (Fg.nO wf9) zA
      have cA : ev_c < hN h := wf9.1
      have fA : ∀ i, i < 8 → hI (cpI (nO h 101 8) v 0 (hN h) 0 8) (hN h) i = f i := fun i hi => by rw [cpI_at, pk_cpy_in (by omega) (by omega), show 0 + (i - 0) = i by omega, nO_I (fun q => by rw [← q, kv] at zA; cases zA), fv i hi]
      generalize cpI (nO h 101 8) v 0 (hN h) 0 8 = hA at kA lA gA fA ⊢
      generalize hN h = y at kA lA cA zA fA ⊢
      refine r_castA (t := 1) (by decide) rfl q562 kA cA dJ11_copyOfRange_21 ?_
      exact r_retr dJ11_copyOfRange_24 rfl (Or.inr ⟨_, rfl⟩) (Nat.le_refl _) (Nat.le_refl _) ⟨zA, cA, kA, lA, fA, gA⟩
    · --
      refine r_aload_n dJ11_copyOfRange_10 rfl ?_
      refine r_iload_n dJ11_copyOfRange_11 rfl ?_
      refine r_iload_n dJ11_copyOfRange_12 rfl ?_
      refine r_callSr lJ11_339 (xJ11_copyOfRangeByte kv cv lv fv hk8 hb) rfl rfl rfl rfl dJ11_copyOfRange_13 (Nat.le_refl _) (Nat.le_refl _) (fun y h9 q9 => ?_)
      exact r_retr dJ11_copyOfRange_16 rfl (Or.inr ⟨_, rfl⟩) (Nat.le_refl _) (Nat.le_refl _) q9

theorem xJ7_init_2 {G : ev_G} {h : ev_H} {x v k : Nat} {f : Nat → Int32} (hB : SBAt x v k f h) (hk8 : k ≤ 8) (hb : ∀ i, i < k → ∃ m, m < 128 ∧ f i = nI m) {w : Nat} (kw : hK h w = 23) (cw : ev_c < w) : Called G mJ7_init_2 3 1 8 [vR w, vR x, vR 0] h (p0 (fun h1 => StrAt w f k h1 ∧ ev_c < hR h1 w 0 ∧ hK h (hR h1 w 0) = 0 ∧ (∀ j, 1 < j → hI h1 w j = hI h w j) ∧ Fg (fun a => a = w) [] (fun a => a = w) h h1)) := by
  have nwx : w ≠ x := fun q => by rw [q, hB.1] at kw; cases kw
  have nwv : w ≠ v := fun q => by rw [q, hB.2.2.2.2.1] at kw; cases kw
  refine called_of rfl [some (vR w), some (vR x), some (vR 0), none, none] rfl (Nat.le_of_ble_eq_true rfl) ?_
  refine r_aload_n dJ7_init_2_0 rfl ?_
  refine r_objInit q632 q175 q176 (nz_ (kw) (by decide)) (by decide) (by decide) rfl dJ7_init_2_1 ?_
  refine r_aload_n dJ7_init_2_4 rfl ?_
  refine r_callUx lJ7_552 (xJ5_getValue hB) (hB.1) rfl rfl rfl rfl dJ7_init_2_5 (by decide) (by decide) ?_
  refine r_astore_n dJ7_init_2_8 (by decide) rfl ?_
  refine r_aload_n dJ7_init_2_9 rfl ?_
  refine r_callUx lJ7_549 (xJ6_length hB) (hB.1) rfl rfl rfl rfl dJ7_init_2_10 (by decide) (by decide) ?_
  refine r_istore dJ7_init_2_13 (by decide) rfl ?_
  refine r_aload_n dJ7_init_2_15 rfl ?_
  refine r_callUx lJ7_1047 (xJ5_isLatin1 hB) (hB.1) rfl rfl rfl rfl dJ7_init_2_16 (by decide) (by decide) ?_
  refine r_ifB_eq (tgt := 41) dJ7_init_2_19 rfl (fun c1 => ?_) (fun c1 => ?_)
  · --
    exact absurd c1 (by decide)
  · --
    refine r_aload_n dJ7_init_2_22 rfl ?_
    refine r_iconst (v := 0) dJ7_init_2_23 (by decide) ?_
    refine r_putFI (x := 0) fJ7_15 ⟨rfl, _, rfl, rfl⟩ (kw) (cw) rfl rfl rfl dJ7_init_2_24 ?_
    have gD : Fg (fun a => a = w) [] (fun a => a = w) h (sI h w 1 0) := fg_si Fg.rf (Or.inl rfl)
    have hBD : SBAt x v k f (sI h w 1 0) := hB.oth nwx nwv
    have kwD : hK (sI h w 1 0) w = 23 := kw
    have cD : hI (sI h w 1 0) w 1 = 0 := fs_at
    have oD : ∀ j, 1 < j → hI (sI h w 1 0) w j = hI h w j := fun j hj => rdI_k (by omega)
    generalize sI h w 1 0 = hD at gD hBD kwD cD oD ⊢
    refine r_aload_n dJ7_init_2_27 rfl ?_
    refine r_aload_n dJ7_init_2_28 rfl ?_
    refine r_iconst (v := nI 0) dJ7_init_2_29 (by decide) ?_
    refine r_iload dJ7_init_2_30 rfl ?_
    refine r_callSr lJ7_54 (xJ11_copyOfRange hBD.2.2.2.2.1 hBD.2.2.2.2.2.2.2.2 hBD.2.2.2.2.2.1 hBD.2.2.2.2.2.2.1 hk8 hb) rfl rfl rfl rfl dJ7_init_2_32 (by decide) (by decide) (fun y hE q9 => ?_)
    obtain ⟨zE, cE, kE, lE, fE, gE⟩ := q9
    have kwE := gE.k kwD (by decide)
    refine r_putFO fJ7_9 ⟨rfl, _, rfl, rfl⟩ (kwE) (cw) rfl dJ7_init_2_35 ?_
    refine r_goto (tgt := 97) dJ7_init_2_38 rfl ?_
    have nwy : y ≠ w := fun q => by rw [q, kwE] at kE; cases kE
    have iE := fun j => gE.i kwD (by decide) (fun z => z) j (fun _ => by simp)
    refine r_retv dJ7_init_2_97 rfl (Nat.le_refl _) (Nat.le_refl _) ⟨⟨kwE, (iE 1).trans cD, ?_, ?_, by omega, ?_⟩, ?_, ?_, fun j hj => (iE j).trans (oD j hj), fg_sr (gD.tr (gE.wk (fun _ z => z.elim) (fun _ z => z) (fun _ z => z.elim))) (Or.inl rfl)⟩ <;> rw [show hR (sR hE w 0 y) w 0 = y from fs_atR]
    · exact kE
    · exact lE
    · exact fE
    · exact cE
    · exact fg_0 gD zE

theorem xJ7_init {G : ev_G} {h : ev_H} {x v k : Nat} {f : Nat → Int32} (hB : SBAt x v k f h) (hk8 : k ≤ 8) (hb : ∀ i, i < k → ∃ m, m < 128 ∧ f i = nI m) {w : Nat} (kw : hK h w = 23) (cw : ev_c < w) : Called G mJ7_init 4 1 8 [vR w, vR x] h (p0 (fun h1 => StrAt w f k h1 ∧ ev_c < hR h1 w 0 ∧ hK h (hR h1 w 0) = 0 ∧ (∀ j, 1 < j → hI h1 w j = hI h w j) ∧ Fg (fun a => a = w) [] (fun a => a = w) h h1)) := by
  refine called_of rfl [some (vR w), some (vR x)] rfl (Nat.le_of_ble_eq_true rfl) ?_
  refine r_aload_n dJ7_init_0 rfl ?_
  refine r_aload_n dJ7_init_1 rfl ?_
  refine r_null dJ7_init_2 ?_
  refine r_callIv lJ7_489 (xJ7_init_2 hB hk8 hb kw cw) (nz_ kw (by decide)) rfl rfl rfl rfl dJ7_init_3 (Nat.le_refl _) (Nat.le_refl _) (fun h9 q9 => ?_)
  exact r_retv dJ7_init_6 rfl (Nat.le_refl _) (Nat.le_refl _) q9

theorem xJ6_toString {G : ev_G} {h : ev_H} {x v k : Nat} {f : Nat → Int32} (hB : SBAt x v k f h) (hk8 : k ≤ 8) (hb : ∀ i, i < k → ∃ m, m < 128 ∧ f i = nI m) : Called G mJ6_toString 5 2 12 [vR x] h (pR (fun w h1 => hK h w = 0 ∧ ev_c < w ∧ StrAt w f k h1 ∧ ev_c < hR h1 w 0 ∧ hK h (hR h1 w 0) = 0 ∧ StrH w f k 0 false h1 ∧ Fg noC [] noC h h1)) := by
  refine called_of rfl [some (vR x)] rfl (Nat.le_of_ble_eq_true rfl) ?_
  refine r_wf (fun wf9 => ?_)
  refine r_new nJ6_18 dJ6_toString_0 (by decide) (by decide) ?_
  have kA : hK (nO h 23 0) (hN h) = 23 := nO_Kn
  have gA : Fg noC [] noC h (nO h 23 0) := Fg.nO wf9
  have cA : ev_c < hN h := wf9.1
  have zA : hK h (hN h) = 0 := wf_0 wf9
  have iA : ∀ j, hI (nO h 23 0) (hN h) j = 0 := fun j => nO_I0 j
  generalize nO h 23 0 = hA at kA gA iA ⊢
  generalize hN h = w at kA cA zA iA ⊢
  refine r_dup dJ6_toString_3 rfl ?_
  refine r_aload_n dJ6_toString_4 rfl ?_
  refine r_callIv lJ6_137 (xJ7_init (hB.fg gA) hk8 hb kA cA) (nz_ kA (by decide)) rfl rfl rfl rfl dJ6_toString_5 (by decide) (by decide) (fun hD q9 => ?_)
  obtain ⟨sD, cD, zD, oD, gD⟩ := q9
  exact r_retr dJ6_toString_8 rfl (Or.inl ⟨_, rfl⟩) (by decide) (by decide) ⟨zA, cA, sD, cD, fg_0 gA zD, ⟨(oD 2 (by decide)).trans (iA 2), (oD 3 (by decide)).trans (iA 3), Or.inl rfl, fun z => absurd z (by decide)⟩, fg_new gA gD zA⟩
