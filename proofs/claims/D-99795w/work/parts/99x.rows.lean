/-! ===== ROWS: lookupswitch; a row of bytes cloned ===== -/
set_option maxRecDepth 100000
theorem arrV_cong {cI : ClassId} {N : Nat} {f g : Nat → Value} (e : ∀ j, j < N → f j = g j) : arrV cI N f = arrV cI N g := by
  unfold arrV
  congr 1
  apply Array.ext
  · simp
  · intro i h1 h2
    simp at h1 h2 ⊢
    exact e i h1
section EVL
variable {G : ev_G} {M : ev_M} {R : Room} {Qf : List Frame → Array Value → State → State → Prop} {pc uc us : Nat} {L : List (Option ev_V)} {st : List ev_V} {h : ev_H}
theorem r_lsw {dflt : Int} {ps : Array (Int × Int)} {len : Nat} {x : Int32} {off : Int} {tgt : Nat} (hd : decode M.2.1 pc = .ok (.lookupswitch dflt ps, len)) (hp : (ps.toList.zip (ps.toList.drop 1)).all (fun (a, next) => a.1 < next.1) = true) (ho : Op.lookupswitch.offset ps.toList dflt x.toInt = off) (ht : (pc : Int) + off = (tgt : Int)) (k : Ev G M R Qf tgt L st h uc us) : Ev G M R Qf pc L (vI x :: st) h uc us := fun p e s m args below meth c H locs ls X hr hS hl => lv_lookup X.1 X.2.1 hd hp ho ht (k p e s m args below meth c H locs ls X hr hS hl)
/-- one of its cases -/
theorem r_lswC {dflt : Int} {ps : Array (Int × Int)} {len : Nat} {y : Int32} {off : Int} {tgt : Nat} (v : Int32) (hd : decode M.2.1 pc = .ok (.lookupswitch dflt ps, len)) (hp : (ps.toList.zip (ps.toList.drop 1)).all (fun (a, next) => a.1 < next.1) = true) (e : y = v) (ho : Op.lookupswitch.offset ps.toList dflt v.toInt = off) (ht : (pc : Int) + off = (tgt : Int)) (k : Ev G M R Qf tgt L st h uc us) : Ev G M R Qf pc L (vI y :: st) h uc us := by
  subst e
  exact r_lsw hd hp ho ht k
theorem lsw_no {x : Int32} {d : Int} : ∀ (ps : List (Int × Int)) (vs : List Int32), vs.map Int32.toInt = ps.map Prod.fst → (∀ v ∈ vs, ¬ x = v) → Op.lookupswitch.offset ps d x.toInt = d
  | [], _, _, _ => rfl
  | (a, o) :: r, [], h, _ => by cases h
  | (a, o) :: r, v :: vs, h, hv => by
    have h1 : v.toInt = a := List.head_eq_of_cons_eq h
    have h2 : vs.map Int32.toInt = r.map Prod.fst := List.tail_eq_of_cons_eq h
    rw [lv_osw (hv v List.mem_cons_self) h1]
    exact lsw_no r vs h2 (fun u hu => hv u (List.mem_cons_of_mem _ hu))
/-- none of them -/
theorem r_lswD {dflt : Int} {ps : Array (Int × Int)} {len : Nat} {y : Int32} {tgt : Nat} (vs : List Int32) (hd : decode M.2.1 pc = .ok (.lookupswitch dflt ps, len)) (hp : (ps.toList.zip (ps.toList.drop 1)).all (fun (a, next) => a.1 < next.1) = true) (hvs : vs.map Int32.toInt = ps.toList.map Prod.fst) (hall : ∀ v ∈ vs, ¬ y = v) (ht : (pc : Int) + dflt = (tgt : Int)) (k : Ev G M R Qf tgt L st h uc us) : Ev G M R Qf pc L (vI y :: st) h uc us := r_lsw hd hp (lsw_no _ _ hvs hall) ht k
theorem r_cloneB {index a n : Nat} (w1 : Cond.methodLink M.1.cls index ⟨"[B", "clone", "()Ljava/lang/Object;"⟩ ∈ lw_all) (hk : hK h a = 101) (ha : ev_c < a) (hln : hL h a = n) (hn : n < 2 ^ 31) (hfit : ∀ i, i < n → fits .byte (.int (hI h a i)) = true) (hf : 1 ≤ R.frames) (hlo : 40 ≤ R.locals) (hsw : Nat.ble (ev_sw st) 8 = true) (hd : decode M.2.1 pc = .ok (.invokevirtual index, 3)) (hc : uc + 1 ≤ R.cells) (hs : us + n ≤ R.slots)
    (kk : Ev G M R Qf (pc + 3) L (vR (hN h) :: st) (cpI (nO h 101 n) a 0 (hN h) 0 n) (uc + 1) (us + n)) : Ev G M R Qf pc L (vR a :: st) h uc us := by
  intro p e s m args below meth c H locs ls X hr hS hl
  have hts := X.2.2.2.2.2.2.1
  have hT := X.2.2.2.2.2.2.2.1
  have hc0 := hr.cell (t := 1) ha hk
  rw [ac_int 1 (by decide), hln] at hc0
  have es : (vR a :: st).map (tv G) = .ref (ga G a) :: st.map (tv G) := by rw [List.map_cons, tv_ref (ev_pos hr.1 (by omega))]
  rw [es]
  intro T hTT Y
  have hsw9 := ev_sw_ok G st
  have hsw8 := Nat.le_of_ble_eq_true hsw
  have hAr := hT.arr (t := 1) (by decide)
  have hnm : s.vm.findClass "[B" = some (G.2.2.1 1) := ra_prim 1 (by decide) hAr.2
  obtain ⟨c0, t0', f1, f2, f3⟩ := Cond.castable_spec (va_Nw.use (A := args) rfl (hT.2.1 _ q561 rfl))
  cases hnm.symm.trans f1
  obtain ⟨-, kA, hkA, comp, hkind⟩ := State.isArrayOf_alike Y.warmed.alike (hAr.1 0 (fun _ => .null))
  obtain ⟨-, kS, hkS, compS, hkindS⟩ := hAr.1 0 (fun _ => .null)
  have hsz : (vp_cell (G.2.2.1 1) (n, .inl (hI h a))).slots.size = n := arrV_size _ _ _
  obtain ⟨vm', X', step⟩ := Y.cloneArray X.1 X.2.2.2.2.2.1 (hts _ w1) (hts _ q557) (hts _ q558) (hts _ q559) (hts _ q560) (a := ga G a) (cell := vp_cell (G.2.2.1 1) (n, .inl (hI h a))) (by rw [hTT]; exact hc0) (fun k h => by cases h) (fun h => by cases h) hnm f2 f3
    (fun i v hv => by
      have hk' : T.vm.classes[G.2.2.1 1]? = some kA := hkA
      have hv2 : (arrV (G.2.2.1 1) n (fun j => .int (hI h a j))).slots[i]? = some v := hv
      have hi : i < n := by
        rcases Nat.lt_or_ge i n with q | q
        · exact q
        · rw [Array.getElem?_eq_none (by rw [arrV_size]; omega)] at hv2; cases hv2
      rw [arrV_read _ _ hi] at hv2
      cases hv2
      have hk2 : T.vm.classes[(vp_cell (G.2.2.1 1) (n, .inl (hI h a))).cls]? = some kA := hk'
      simpa [State.fitsSlot, State.slotType?, hk2, hkind] using (show fits (ev_at 1) (.int (hI h a i)) = true from hfit i hi))
    (g := F0 m pc ls (.ref (ga G a) :: st.map (tv G))) rfl (by rw [X.2.2.2.2.1]; exact hl.1) rfl (by rw [X.2.1]; exact hd) hf (by show 2 * 0 + _ + 14 ≤ _; omega) hc (by rw [hsz]; exact hs) (hloader := Vm.clonesLoader_of_array hkS hkindS)
  have hcellE : ({ cls := (vp_cell (G.2.2.1 1) (n, .inl (hI h a))).cls, slots := (vp_cell (G.2.2.1 1) (n, .inl (hI h a))).slots } : Cell) = vp_cell (G.2.2.1 1) (n, .inl (hI h a)) := rfl
  rw [hcellE, hsz] at X'
  generalize hZ1 : H.push (arrV (G.2.2.1 1) n (fun _ => defaultValue (ev_at 1))) = Z1
  have zz : Z1.size = H.size + 1 := by rw [← hZ1, Array.size_push]
  have ez : Z1[H.size]? = some (arrV (G.2.2.1 1) n (fun _ => defaultValue (ev_at 1))) := by rw [← hZ1, Array.getElem?_push_size]
  have oz : ∀ q : Nat, q < H.size → Z1[q]? = H[q]? := fun q hq => by rw [← hZ1, Array.getElem?_push, if_neg (Nat.ne_of_lt hq)]
  have hr1 : ev_R G (nO h 101 n) s Z1 := hr.push (Or.inr ⟨by decide, by decide⟩) zz oz (ev_arr_new (t := 1) hr ez)
  generalize hH1 : H.push (vp_cell (G.2.2.1 1) (n, .inl (hI h a))) = H1
  have z1 : H1.size = H.size + 1 := by rw [← hH1, Array.size_push]
  have e1 : H1[H.size]? = some (vp_cell (G.2.2.1 1) (n, .inl (hI h a))) := by rw [← hH1, Array.getElem?_push_size]
  have o1 : ∀ q : Nat, q < H.size → H1[q]? = H[q]? := fun q hq => by rw [← hH1, Array.getElem?_push, if_neg (Nat.ne_of_lt hq)]
  have gn := ga_next hr
  have hne9 : a ≠ hN h := fun e9 => by have := (hr.1.2.1 a (by omega)).2; omega
  have hr2 : ev_R G (cpI (nO h 101 n) a 0 (hN h) 0 n) s H1 := hr1.put (ch_cpI _ _ _ _ _ _) hr.1.1 (by rw [nO_Kn (n := n)]; decide) (by rw [z1, zz]) (fun q hq => by
      rcases Nat.lt_or_ge q H.size with g | g
      · rw [o1 q g, oz q g]
      · rw [Array.getElem?_eq_none (by rw [z1]; rw [gn] at hq; omega), Array.getElem?_eq_none (by rw [zz]; rw [gn] at hq; omega)]) (by
      rw [ev_e_arr (t := 1) (show hK (cpI (nO h 101 n) a 0 (hN h) 0 n) (hN h) = 100 + 1 from nO_Kn (n := n))]
      show H1[ga G (hN h)]? = some (vp_cell _ (ev_ac G (cpI (nO h 101 n) a 0 (hN h) 0 n) (hN h) (ev_at 1)))
      rw [ac_int 1 (by decide), cpI_at, show hL (cpI (nO h 101 n) a 0 (hN h) 0 n) (hN h) = n from nO_Ln (c := 101), gn, e1]
      show some (arrV (G.2.2.1 1) n (fun j => .int (hI h a j))) = some (arrV (G.2.2.1 1) n (fun j => .int (va_cpy (hI (nO h 101 n) a) (hI (nO h 101 n) (hN h)) 0 0 n j)))
      congr 1
      exact arrV_cong (fun j hj => by rw [pk_cpy_in (by omega) (by omega), nO_I hne9, show 0 + (j - 0) = j by omega]))
  have k9 := kk p e s m args below meth c H1 locs ls X hr2 (ev_S1 hS z1 o1) hl
  rw [tv_next hr] at k9
  obtain ⟨t2, a1, b1⟩ := k9 ((T.setVm vm').pushCell (vp_cell (G.2.2.1 1) (n, .inl (hI h a)))) (by rw [← hH1, ← hTT]; rfl) X'
  refine ⟨t2, step t2 ?_, b1⟩
  rw [hcellE, hTT]
  exact a1
end EVL
