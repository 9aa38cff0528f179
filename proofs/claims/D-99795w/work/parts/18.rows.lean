/-! ===== ROWS: switches ===== -/
set_option maxRecDepth 100000
section EVZ
variable {G : ev_G} {M : ev_M} {R : Room} {Qf : List Frame → Array Value → State → State → Prop} {post : Option ev_V → ev_H → Prop} {pc uc us mc ms : Nat} {L : List (Option ev_V)} {st : List ev_V} {h : ev_H}
/-- a table's case -/
theorem r_tswC {dflt lo hi : Int} {offs : Array Int} {len : Nat} {y : Int32} {off : Int} {tgt : Nat} (v : Nat) (hd : decode M.2.1 pc = .ok (.tableswitch dflt lo hi offs, len)) (e : y = nI v) (hc : ¬ (nI v).toInt < lo ∧ ¬ hi < (nI v).toInt ∧ offs[((nI v).toInt - lo).toNat]? = some off) (ht : (pc : Int) + off = (tgt : Int))
    (k : Ev G M R Qf tgt L st h uc us) : Ev G M R Qf pc L (vI y :: st) h uc us := by
  subst e
  exact r_tableIn hd hc.1 hc.2.1 hc.2.2 ht k
/-- none of a table's cases -/
theorem r_tswD {dflt lo hi : Int} {offs : Array Int} {len : Nat} {y : Int32} {tgt : Nat} (n0 : Nat) (vs : List Nat) (hd : decode M.2.1 pc = .ok (.tableswitch dflt lo hi offs, len)) (hn : lo = (n0 : Int) ∧ hi < (n0 : Int) + (offs.size : Int) ∧ hi < 1000000) (hchk : ∀ j, j < offs.size → offs[j]? = some dflt ∨ n0 + j ∈ vs) (hall : ∀ v ∈ vs, ¬ y = nI v) (ht : (pc : Int) + dflt = (tgt : Int))
    (k : Ev G M R Qf tgt L st h uc us) : Ev G M R Qf pc L (vI y :: st) h uc us := by
  by_cases hx : y.toInt < lo ∨ hi < y.toInt
  · exact r_tableOut hd hx ht k
  · have h1 : ¬ y.toInt < lo := fun z => hx (Or.inl z)
    have h2 : ¬ hi < y.toInt := fun z => hx (Or.inr z)
    have hy0 : ¬ y < 0 := fun z => by
      have z : y.toInt < (0 : Int32).toInt := Int32.lt_iff_toInt_lt.mp z
      have e0 : (0 : Int32).toInt = 0 := by decide
      rw [e0] at z
      omega
    obtain ⟨j, hj, rfl⟩ := nI_of hy0
    rw [nI_toInt hj] at h1 h2
    have hsz : j - n0 < offs.size := by omega
    rcases hchk (j - n0) hsz with e | e
    · refine r_tableIn hd (by rw [nI_toInt hj]; exact h1) (by rw [nI_toInt hj]; exact h2) (off := dflt) ?_ ht k
      rw [nI_toInt hj, ← e]
      congr 1
      omega
    · exact absurd rfl (hall j (by rw [show n0 + (j - n0) = j by omega] at e; exact e))
end EVZ
