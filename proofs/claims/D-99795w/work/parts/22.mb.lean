/-! ===== pieces of the reference's book ===== -/
set_option maxRecDepth 100000
theorem setOf_t {n : Nat} {p : Nat → Bool} (h : p n = true) : setOf n p ||| (1 : Int32) <<< (nI n &&& 31) = setOf (n + 1) p := by
  show _ = (if p n then _ else _)
  rw [if_pos h]
  rfl
theorem setOf_f {n : Nat} {p : Nat → Bool} (h : p n = false) : setOf n p = setOf (n + 1) p := by
  show _ = (if p n then _ else _)
  rw [if_neg (by rw [h]; decide)]
section MBP
variable {b : Bk} {k : Nat} {h : ev_H}
theorem MB.lay (hm : MB b k h) : MLay h := hm.1
theorem MB.bw (hm : MB b k h) : BW b := hm.2.1
theorem MB.k2 (hm : MB b k h) : k < 2 := hm.2.2.1
theorem MB.bank (hm : MB b k h) : hI h aM 33 = nI k := hm.2.2.2.1
theorem MB.people (hm : MB b k h) : hI h aPeople k = nI (nP b) := hm.2.2.2.2.1.1
theorem MB.sacks (hm : MB b k h) : hI h aSacks k = nI (nS b) := hm.2.2.2.2.1.2.1
theorem MB.things (hm : MB b k h) : hI h aThings k = nI (nT b) := hm.2.2.2.2.1.2.2
theorem MB.units (hm : MB b k h) : hI h aUnits k = nI (bUn b) := hm.2.2.2.2.2.1.1
theorem MB.sneeze (hm : MB b k h) : hI h aSneeze k = nI (bSn b) := hm.2.2.2.2.2.1.2.1
theorem MB.draw (hm : MB b k h) : hI h aDraw k = nI (bDr b) := hm.2.2.2.2.2.1.2.2
theorem MB.shy (hm : MB b k h) {p : Nat} (hp : p < nP b) : hI h aShy (6 * k + p) = nI (bSh b p) := hm.2.2.2.2.2.2.1 p hp
theorem MB.from (hm : MB b k h) {t : Nat} (ht : t < nT b) : hI h aFrom (10 * k + t) = nI (bBy b t) := (hm.2.2.2.2.2.2.2.1 t ht).1
theorem MB.whom (hm : MB b k h) {t : Nat} (ht : t < nT b) : hI h aWhom (10 * k + t) = nI (bTo b t) := (hm.2.2.2.2.2.2.2.1 t ht).2.1
theorem MB.hot (hm : MB b k h) {t : Nat} (ht : t < nT b) : hI h aHot (10 * k + t) = nI (bHo b t) := (hm.2.2.2.2.2.2.2.1 t ht).2.2.1
theorem MB.inSack (hm : MB b k h) {t : Nat} (ht : t < nT b) : hI h aInSack (10 * k + t) = bIn b t := (hm.2.2.2.2.2.2.2.1 t ht).2.2.2
theorem MB.told (hm : MB b k h) : tb (hI h aTold k) 0 = (bRu b).isSome := hm.2.2.2.2.2.2.2.2.1
end MBP
theorem BW.p6 {b : Bk} (h : BW b) : nP b ≤ 6 := h.1
theorem BW.s5 {b : Bk} (h : BW b) : nS b ≤ 5 := h.2.1
theorem BW.t10 {b : Bk} (h : BW b) : nT b ≤ 10 := h.2.2.1
theorem BW.by {b : Bk} (h : BW b) {t : Nat} (ht : t < nT b) : bBy b t < nP b := (h.2.2.2.1 t ht).1
theorem BW.to {b : Bk} (h : BW b) {t : Nat} (ht : t < nT b) : bTo b t < nP b := (h.2.2.2.1 t ht).2.1
theorem BW.ho {b : Bk} (h : BW b) {t : Nat} (ht : t < nT b) : 1 ≤ bHo b t ∧ bHo b t ≤ 9 := ⟨(h.2.2.2.1 t ht).2.2.2.1, (h.2.2.2.1 t ht).2.2.2.2.1⟩
