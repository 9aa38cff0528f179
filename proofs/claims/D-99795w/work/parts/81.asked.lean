/-! ===== a getter of a class of which it is not said that it is initialised: walked inline ===== -/
set_option maxRecDepth 100000
section ASK
variable {l : Launch} {R : Room} {p : Program} {e : Env} {below : List Frame} {s : State} {sargs : Array Value}
theorem ask_back {y : MethodName} {bytes : ByteArray} {ref name desc : String} {index W9 len : Nat} {H : Heap} {ak b : Addr} {cf i : Nat} {k : Class} {f : Field} {cell : Cell} {v : Int32}
    (hexec : p.tables.exec = Jvm.exec) (hy : plainName y.cls = true) (hcode : ∀ a' U, s.WarmedH U.vm → (Cond.code y bytes 2 (some .int)).before a' U = true)
    (d0 : decode bytes 0 = .ok (.aload_n 1, 1)) (d1 : decode bytes 1 = .ok (.getfield index, 3)) (d4 : decode bytes 4 = .ok (.ireturn, 1))
    (hlink : (Cond.fieldLink y.cls index ref name desc).before sargs s = true) (hi : s.fieldFound? ref name desc = some (cf, k, i, f)) (hst : f.isStatic = false)
    (hcell : H[ak]? = some cell) (hknown : cell.vm ≠ .unknown) (hslot : cell.slots[f.slot]? = some (.int v)) (hframes : 1 ≤ R.frames) (hlocals : W9 + (2 + 11) ≤ R.locals) :
    Back l R p e below s sargs y len W9 (fun A a => A.U.heap = H ∧ a = #[.ref b, .ref ak]) (fun A _ r B => r = some (.int v) ∧ B.U.heap = A.U.heap ∧ B.locs = A.locs ∧ B.cells = A.cells ∧ B.slots = A.slots) := by
  intro m meth c A g ig mk a X hg hsize hdg hW hn hp
  obtain ⟨hH, rfl⟩ := hp
  obtain ⟨methY, cY, hmY, hcY, hbY, hlY, hrY, hloY, -, -⟩ := Cond.code_spec hn (hcode #[.ref b, .ref ak] A.U X.warmed)
  have hown : s.vm.findClass y.cls = some mk.cls := by
    have h9 := findClass_of_methodNamed hn
    rw [X.warmed.alike.findClass] at h9
    exact h9
  have hpl : e.platform.magicAccessors = ({} : Platform).magicAccessors := by rw [X.admits.platform]
  obtain ⟨ci', cfl, k', i', f', hi', hlinks, hright⟩ := Cond.fieldLink_spec hown hlink e.platform hpl
  cases hi.symm.trans hi'
  obtain ⟨hk, hf⟩ := State.fieldFound?_spec hi
  obtain ⟨vm', hgives, hW', hready, hfi⟩ := State.fieldEntry (e := e) X.warmed hlinks hright hk hf
  subst hg
  have hplain : A.U.plainMethod mk := by
    intro k9 hk9
    obtain ⟨k8, hk8, hn8⟩ := className_of_methodNamed hn
    cases hk9.symm.trans hk8
    exact plain_of_name (by rw [hn8]; exact hy)
  have hAt := X.here.enter (#[.ref b, .ref ak] : Array Value) hmY hcY hplain
  have hF := frames_entered (g := g) X.here.top (.java (entryFrame mk #[.ref b, .ref ak] cY.maxLocals))
  refine ⟨some (.int v), ⟨A.U.setVm vm', A.locs, A.cells, A.slots⟩, X.noted hW', ⟨rfl, rfl, rfl, rfl, rfl⟩, ?_⟩
  rw [doInvoke_enter X.here.top [] hmY hcY hloY (X.notFull hsize hframes (by rw [hlY]; omega))]
  rw [hlY] at hAt hF ⊢
  have e0 : entryFrame mk (#[.ref b, .ref ak] : Array Value) 2 = F0 mk 0 #[.val (.ref b), .val (.ref ak)] [] := rfl
  rw [e0] at hAt hF ⊢
  generalize hU1 : (A.U.setTop g).pushFrame (.java (F0 mk 0 #[.val (.ref b), .val (.ref ak)] [])) = U1 at hAt hF ⊢
  have hvm1 : U1.vm = A.U.vm := by rw [← hU1]; rfl
  have hh1 : U1.heap = H := by rw [← hH, ← hU1]; rfl
  have s1 : ∀ target, Steps p.tables e below (U1.setTop (F0 mk 1 #[.val (.ref b), .val (.ref ak)] [.ref ak])) target → Steps p.tables e below (U1.setTop (F0 mk 0 #[.val (.ref b), .val (.ref ak)] [])) target := by
    intro target ht
    jvm_step hAt [hAt.top, hexec, hbY, d0, Value.isRef]
    exact ht
  have hal1 : U1.vm.Alike vm' := by rw [hvm1]; exact X.warmed.alike.symm.trans hW'.alike
  have hAt2 : At (U1.setVm vm') mk cY below := hAt.setVm hal1
  have s2 : ∀ target, Steps p.tables e below ((U1.setVm vm').setTop (F0 mk 4 #[.val (.ref b), .val (.ref ak)] [.int v])) target → Steps p.tables e below (U1.setTop (F0 mk 1 #[.val (.ref b), .val (.ref ak)] [.ref ak])) target := by
    intro target ht
    rw [← hvm1] at hgives
    jvm_step hAt [hexec, hbY, d1, getfield.wp_cold (e := e) (s := U1) (f := F0 mk 1 #[.val (.ref b), .val (.ref ak)] [.ref ak]) hAt.top hgives hready hfi,
      getfield.wp_ready (e := e) (s := U1.setVm vm') (index := index) (a := ak) (field := f) (rest := []) (cell := cell) (v := .int v) (f := F0 mk 1 #[.val (.ref b), .val (.ref ak)] [.ref ak]) hAt.top hready hst rfl (show (U1.setVm vm').heap[ak]? = some cell by show U1.heap[ak]? = some cell; rw [hh1]; exact hcell) hknown hslot]
    exact ht
  refine s1 _ (s2 _ ?_)
  jvm_step hAt2 [hAt2.top, hexec, hbY, d4]
  refine ⟨_, State.topJava?_of_frames (State.frames_setTop' _ hAt2.top), v, [], rfl, methY, by rw [hal1.method?, hvm1]; exact hmY, .int, hrY, fun acts => ?_⟩
  have hF2 : (U1.setVm vm').frames = .java (F0 mk 0 #[.val (.ref b), .val (.ref ak)] []) :: .java g :: A.U.frames.tail := hF
  have hcg : (U1.setVm vm').code? g.method = some c := by
    have h9 := X.here.code
    rw [State.code?_eq] at h9 ⊢
    show (vm'.method? g.method).bind _ = _
    rw [hal1.method?, hvm1]
    exact h9
  show Steps p.tables e below (doReturn e ((U1.setVm vm').setTop (F0 mk 4 #[.val (.ref b), .val (.ref ak)] [])) acts (some (.int v))).1 ((A.U.setVm vm').setTop { g with pc := g.pc + len, stack := .int v :: g.stack })
  rw [doReturn_leave (g := g) (f := F0 mk 4 #[.val (.ref b), .val (.ref ak)] []) (meth := methY) (cg := c) (ig := ig) (len := len) acts hF2 (show vm'.method? mk = some methY by rw [hal1.method?, hvm1]; exact hmY) hloY rfl rfl hcg hdg]
  have e5 : (U1.setVm vm').setFrames (.java g :: A.U.frames.tail) = (A.U.setVm vm').setTop g := by
    have h9 := congrArg (fun z : State => z.setVm vm') (setFrames_entered (g := g) X.here.top (.java (F0 mk 0 #[.val (.ref b), .val (.ref ak)] [])))
    rw [hU1] at h9
    exact h9
  rw [e5, State.setTop_setTop]
  exact Steps.refl _
end ASK
/-- what the tables say of the answer of the i-th Asked -/
def ev_AF (own : String) (index i : Nat) : Prop := ∃ (q : vw_C × (Nat → FieldType)) (y : MethodName) (bytes : ByteArray) (ix : Nat), ev_cd[14 + i]? = some q ∧ (q.1.1, y) ∈ ev_fw ∧ plainName y.cls = true ∧ (Cond.methodLink own index ev_of ∈ lw_all ∧ Cond.selects q.1.1 ev_of y ∈ lw_all ∧ Cond.instanceMethod y ∈ lw_all ∧ Cond.code y bytes 2 (some .int) ∈ lw_all) ∧ (decode bytes 0 = .ok (.aload_n 1, 1) ∧ decode bytes 1 = .ok (.getfield ix, 3) ∧ decode bytes 4 = .ok (.ireturn, 1)) ∧ Cond.fieldLink y.cls ix (TX2 i).1 (TX2 i).2.1 (TX2 i).2.2.1 ∈ lw_all
theorem tyX2_int : ∀ i : Nat, i < 6 → tyX2 i = .int
  | 0, _ => rfl
  | 1, _ => rfl
  | 2, _ => rfl
  | 3, _ => rfl
  | 4, _ => rfl
  | 5, _ => rfl
theorem r_asked {G : ev_G} {M : ev_M} {R : Room} {Qf : List Frame → Array Value → State → State → Prop} {pc uc us : Nat} {L : List (Option ev_V)} {st : List ev_V} {h : ev_H} {index cnt i x ak : Nat} {v : Int32} (F : ev_AF M.1.cls index i) (hi : i < 6) (hk : hK h x = 15 + i) (hak : hK h ak = 3) (hv : hI h ak i = v) (hf : 1 ≤ R.frames) (hlo : 40 ≤ R.locals) (hsw : Nat.ble (ev_sw st) 8 = true) (hd : decode M.2.1 pc = .ok (.invokeinterface index cnt, 5))
    (kk : Ev G M R Qf (pc + 5) L (vI v :: st) h uc us) : Ev G M R Qf pc L (vR ak :: vR x :: st) h uc us := by
  intro p e s m args below meth c H locs ls X hr hS hl
  obtain ⟨q, y, bytes, ix, hq, hfw, hpn, ⟨w1, w2, w3, w4⟩, ⟨d0, d1, d4⟩, w5⟩ := F
  have hts := X.2.2.2.2.2.2.1
  have hT := X.2.2.2.2.2.2.2.1
  obtain ⟨cell, g1, g2, g3⟩ := ev_ob hr hT (a := x) (ci := 14 + i) (by omega) (by omega) hq
  obtain ⟨hS9, hfc, kC, hkC, hkind⟩ := hT.1.1 (14 + i) _ (ev_cl_at hq)
  have e9 : G.2.1.1 (14 + i) = cell.cls := Option.some.inj (hfc.symm.trans g3)
  have hq2 : ev_cd[2]? = some ((RX2, TX2, 6), tyX2) := rfl
  obtain ⟨cell2, k1, k2, k3, k4, k5⟩ := (hr.rd hT (by omega : hK h ak ≠ 0)).obj (ci := 2) hak (by decide) hq2
  obtain ⟨hS2, hfc2, kC2, hkC2, hkind2⟩ := hT.1.1 2 _ (ev_cl_at hq2)
  obtain ⟨cf, kf, fi, f, hff, hsl⟩ := hS2 i hi
  have hslot : cell2.slots[f.slot]? = some (.int v) := by
    rw [hsl]
    refine (k5 i hi).trans ?_
    show some (ev_fv G h ak (tyX2 i) i) = _
    rw [tyX2_int i hi, ← hv]
    rfl
  have hfw9 := hT.2.2.2.1 _ hfw
  have es : (vR ak :: vR x :: st).map (tv G) = [Value.ref (ga G ak)].reverse ++ .ref (ga G x) :: st.map (tv G) := by
    rw [List.map_cons, List.map_cons, tv_ref (ev_pos hr.1 (by omega)), tv_ref (ev_pos hr.1 (by omega))]
    rfl
  have hsw9 := ev_sw_ok G st
  have hsw8 := Nat.le_of_ble_eq_true hsw
  have hcw : ∀ a' U, s.WarmedH U.vm → (Cond.code y bytes 2 (some .int)).before a' U = true := fun a' U hW => pay_in hts (lw_meth w4) _ List.mem_cons_self a' U hW
  intro T hTT Y
  obtain ⟨r, vm₁, ⟨U', l2, c2, s2⟩, hW1, Y', ⟨e1, e2, e3, e4, e5⟩, st9⟩ := va_callIF Y X.1 (C := q.1.1) (bytes := bytes) (maxL := 2) (ret := some .int) (index := index) (count := cnt) (x := ev_of) (y := y) X.2.2.2.2.2.1 (hts _ w1) (va_any rfl hfw9.1) (va_any rfl hfw9.2.1) (hts _ w2) (hts _ w3) (va_any rfl hfw9.2.2.1) (va_any rfl hfw9.2.2.2.1) (va_any rfl hfw9.2.2.2.2) (hts _ w4) (by decide)
    (ask_back (W9 := 8) (b := ga G x) (H := H) X.1 hpn hcw d0 d1 d4 (hts _ w5) hff (u_facts hfc2 hkC2 (u_lays hts in_X2 hi) hff).1 k1 k2 hslot hf (by omega))
    (by rw [hTT]; exact g1) g2 g3 (by rw [← e9]; exact hkC) (g := F0 m pc ls ((vR ak :: vR x :: st).map (tv G))) rfl (by rw [X.2.2.2.2.1]; exact hl.1) (argsL := [.ref (ga G ak)]) (rest := st.map (tv G)) (fun sig h9 => by
      have h8 : (parseMethodDescriptor ev_of.desc).map (fun d => d.parameters.length) = some 1 := by decide +kernel
      rw [h9] at h8
      exact (Option.some.inj h8).symm) es (by show 2 * 0 + _ ≤ _; omega) (by rw [X.2.1]; exact hd) (fun vm9 _ => ⟨hTT, rfl⟩)
  dsimp only [Pt.U, Pt.locs, Pt.cells, Pt.slots] at Y' e2 e3 e4 e5 st9
  subst e1 e3 e4 e5
  obtain ⟨t2, a1, b1⟩ := kk p e s m args below meth c H l2 ls X hr hS hl U' (e2.trans hTT) Y'
  exact ⟨t2, st9 t2 a1, b1⟩
