/-! ===== THE READER: words (walks by program) ===== -/
set_option maxRecDepth 100000

def cW : Nat → List Nat := fun i => match i with
  | 1 => [112, 101, 114, 115, 111, 110]
  | 2 => [115, 104, 121]
  | 3 => [115, 97, 99, 107]
  | 4 => [116, 104, 105, 110, 103]
  | 5 => [98, 121]
  | 6 => [116, 111]
  | 7 => [104, 111, 116]
  | 8 => [105, 110]
  | 9 => [115, 97, 105, 100]
  | 10 => [115, 110, 101, 101, 122, 101]
  | 11 => [100, 114, 97, 119]
  | 12 => [103, 117, 101, 115, 116, 115]
  | 13 => [103, 114, 111, 117, 110, 100]
  | 14 => [104, 101, 97, 116]
  | 15 => [99, 111, 117, 114, 115, 101]
  | 16 => [97, 110, 100]
  | 17 => [111, 114]
  | 18 => [110, 111, 116]
  | _ => []
def pkL : Nat → Int64 := fun i => match i with
  | 1 => 123581014175598
  | 2 => 7563385
  | 3 => 1935762283
  | 4 => 499967946343
  | 5 => 25209
  | 6 => 29807
  | 7 => 6844276
  | 8 => 26990
  | 9 => 1935763812
  | 10 => 126917984746085
  | 11 => 1685217655
  | 12 => 113753910899827
  | 13 => 113741193899620
  | 14 => 1751474548
  | 15 => 109330362954597
  | 16 => 6385252
  | 17 => 28530
  | 18 => 7237492
  | _ => 0
def cF (i k : Nat) : Int32 := nI ((cW i).getD k 0)
/-- the strings that the program names -/
def XCs (h : ev_H) : Prop := ∀ i, i < 19 → StrAt (15 + i) (cF i) (cW i).length h
theorem cW_ok : ∀ i : Fin 19, 1 ≤ i.val → (1 ≤ (cW i.val).length ∧ (cW i.val).length ≤ 8) ∧ (∀ k : Fin 8, k.val < (cW i.val).length → isLetV (cF i.val k.val) = true) ∧ pkF (cF i.val) (cW i.val).length = pkL i.val ∧ kepW (pkL i.val) = true := by decide +kernel
/-- only the reader's token changes, and hashes of strings that were not in hb -/
def GZ (hb : ev_H) (r : Nat) (h h1 : ev_H) : Prop := hK h r = 6 ∧ hN h ≤ hN h1 ∧ ∀ a, hK h a ≠ 0 → hK h1 a = hK h a ∧ hL h1 a = hL h a ∧ (∀ j, (a = r → j ≠ 8) → hR h1 a j = hR h a j) ∧ (∀ j, (a = r → 4 ≤ j) → (hK hb a = 0 ∧ hK h a = 23 → j < 2) → hI h1 a j = hI h a j) ∧ hJ h1 a = hJ h a
/-- the reader r stands at token q of the text -/
def RS (hb : ev_H) (tx : Nat → Int32) (n r q : Nat) (h : ev_H) : Prop := RTx r tx n h ∧ XTk hb tx n q r h ∧ q ≤ n ∧ XCs h ∧ Fg noC [] noC hb h ∧ hK hb r = 0
section GZS
variable {hb h h1 h2 : ev_H} {r n q m i w k : Nat} {tx f : Nat → Int32} {v : Int64}
theorem GZ.rf (hk : hK h r = 6) : GZ hb r h h := ⟨hk, Nat.le_refl _, fun _ _ => ⟨rfl, rfl, fun _ _ => rfl, fun _ _ _ => rfl, rfl⟩⟩
theorem GZ.tr (p : GZ hb r h h1) (q : GZ hb r h1 h2) : GZ hb r h h2 := ⟨p.1, Nat.le_trans p.2.1 q.2.1, fun a ha => by
  obtain ⟨p1, p2, p3, p4, p5⟩ := p.2.2 a ha
  obtain ⟨q1, q2, q3, q4, q5⟩ := q.2.2 a (by rw [p1]; exact ha)
  exact ⟨q1.trans p1, q2.trans p2, fun j z => (q3 j z).trans (p3 j z), fun j z y => (q4 j z (by rw [p1]; exact y)).trans (p4 j z y), q5.trans p5⟩⟩
theorem GF.gz (g : GF r h h1) : GZ hb r h h1 := ⟨g.1, g.2.1.1, fun a ha => by
  obtain ⟨p1, p2, p3, p4, p5⟩ := g.2.1.2 a ha
  refine ⟨p1, p2, fun j z => ?_, fun j z _ => ?_, p5⟩
  · by_cases e : a = r
    · rw [e]; exact g.2.2.2 j (z e)
    · rw [p3 e]
  · by_cases e : a = r
    · rw [e]; exact g.2.2.1 j (z e)
    · exact p4 j e (fun _ => by simp)⟩
theorem GZ.fg (g : GZ hb r h h1) : Fg (fun a => a = r ∨ hK h a = 23) [] (fun a => a = r) h h1 := ⟨g.2.1, fun a ha => by
  obtain ⟨p1, p2, p3, p4, p5⟩ := g.2.2 a ha
  exact ⟨p1, p2, fun z => funext fun j => p3 j (fun e => absurd e z), fun j z _ => p4 j (fun e => absurd (Or.inl e) z) (fun e => absurd (Or.inr e.2) z), p5⟩⟩
theorem GZ.base (b : Fg noC [] noC hb h) (g : GZ hb r h h1) (z : hK hb r = 0) : Fg noC [] noC hb h1 := ⟨Nat.le_trans b.1 g.2.1, fun a ha => by
  obtain ⟨b1, b2, b3, b4, b5⟩ := b.2 a ha
  obtain ⟨p1, p2, p3, p4, p5⟩ := g.2.2 a (by rw [b1]; exact ha)
  have ne : a ≠ r := fun e => ha (by rw [e]; exact z)
  exact ⟨p1.trans b1, p2.trans b2, fun _ => (funext fun j => p3 j (fun e => absurd e ne)).trans (b3 (fun z => z)), fun j _ _ => (p4 j (fun e => absurd e ne) (fun e => absurd e.1 ha)).trans (b4 j (fun z => z) (fun _ => by simp)), p5.trans b5⟩⟩
theorem GZ.kr (g : GZ hb r h h1) : hK h1 r = 6 := ((g.2.2 r (by rw [g.1]; decide)).1).trans g.1
theorem StrAt.gz (x : StrAt w f m h) (g : GZ hb r h h1) : StrAt w f m h1 := by
  obtain ⟨x1, x2, x3, x4, x5, x6⟩ := x
  have nr : w ≠ r := fun e => by rw [e, g.1] at x1; cases x1
  have nr2 : hR h w 0 ≠ r := fun e => by rw [e, g.1] at x3; cases x3
  obtain ⟨p1, p2, p3, p4, p5⟩ := g.2.2 w (by rw [x1]; decide)
  obtain ⟨s1, s2, s3, s4, s5⟩ := g.2.2 (hR h w 0) (by rw [x3]; decide)
  have e0 := p3 0 (fun e => absurd e nr)
  refine ⟨p1.trans x1, (p4 1 (fun e => absurd e nr) (fun _ => by decide)).trans x2, ?_, ?_, x5, fun i hi => ?_⟩
  · rw [e0]; exact s1.trans x3
  · rw [e0]; exact s2.trans x4
  · rw [e0]; exact (s4 i (fun e => absurd e nr2) (fun e => by rw [x3] at e; exact absurd e.2 (by decide))).trans (x6 i hi)
theorem XCs.gz (x : XCs h) (g : GZ hb r h h1) : XCs h1 := fun i hi => (x i hi).gz g
theorem RTx.gz (x : RTx r tx n h) (g : GZ hb r h h1) : RTx r tx n h1 := by
  obtain ⟨x1, x2, x3, x4, x5, x6, x7⟩ := x
  have n64 : 64 ≠ r := fun e => by rw [← e, x4.k] at x1; cases x1
  have n65 : 65 ≠ r := fun e => by rw [← e, x4.tape.1] at x1; cases x1
  obtain ⟨p1, p2, p3, p4, p5⟩ := g.2.2 r (by rw [x1]; decide)
  obtain ⟨s1, s2, s3, s4, s5⟩ := g.2.2 64 (by rw [x4.k]; decide)
  obtain ⟨t1, t2, t3, t4, t5⟩ := g.2.2 65 (by rw [x4.tape.1]; decide)
  refine ⟨g.kr, x2, (p3 10 (fun _ => by decide)).trans x3, x4.fg (K := fun _ _ => 0) g.fg (fun a ha => by rw [ha]; exact Or.inr (Or.inl (by rw [x1]; rfl))), (s4 1 (fun e => absurd e n64) (fun e => by rw [x4.k] at e; exact absurd e.2 (by decide))).trans x5, x6, fun k hk => ?_⟩
  rw [t4 k (fun e => absurd e n65) (fun e => by rw [x4.tape.1] at e; exact absurd e.2 (by decide))]
  exact x7 k hk
theorem RS.gz {q2 : Nat} (s : RS hb tx n r q h) (g : GZ hb r h h1) (t : XTk hb tx n q2 r h1) (hq : q2 ≤ n) : RS hb tx n r q2 h1 := ⟨s.1.gz g, t, hq, s.2.2.2.1.gz g, GZ.base s.2.2.2.2.1 g s.2.2.2.2.2, s.2.2.2.2.2⟩
theorem x5_goR {G : ev_G} (s : RS hb tx n r q h) (nb : tkT tx n q ≠ 1) : Called G mX5_go 6 4 24 [vR r] h (p0 (fun h1 => RS hb tx n r (teT tx n q) h1 ∧ GZ hb r h h1)) := called_p0 (x5_go s.1 s.2.2.2.2.1 (teT_le s.2.2.1) (s.2.1.2.2.1 nb)) (fun h1 z => ⟨s.gz z.2.gz z.1 (teT_le s.2.2.1), z.2.gz⟩)
end GZS
section SRS
variable {tx f : Nat → Int32} {n q m i : Nat} {v : Int64}
theorem sr_cases (tx : Nat → Int32) (n q : Nat) : (tkT tx n q = 0 ∧ srT tx n q = nI 0) ∨ (tkT tx n q = 1 ∧ srT tx n q = nI 3) ∨ ((tkT tx n q = 2 ∨ tkT tx n q = 3) ∧ srT tx n q = nI 1) ∨ (tkT tx n q = 4 ∧ srT tx n q = nI 2) ∨ (tkT tx n q = 5 ∧ srT tx n q = sgT tx n (taT tx n q) ∧ isSgV (srT tx n q) = true) := by
  have h6 := tkT_lt tx n q
  unfold srT
  rcases (show tkT tx n q = 0 ∨ tkT tx n q = 1 ∨ tkT tx n q = 2 ∨ tkT tx n q = 3 ∨ tkT tx n q = 4 ∨ tkT tx n q = 5 by omega) with e | e | e | e | e | e
  · exact Or.inl ⟨e, if_pos e⟩
  · exact Or.inr (Or.inl ⟨e, by rw [if_neg (by omega), if_pos e]⟩)
  · exact Or.inr (Or.inr (Or.inl ⟨Or.inl e, by rw [if_neg (by omega), if_neg (by omega), if_pos (Or.inl e)]⟩))
  · exact Or.inr (Or.inr (Or.inl ⟨Or.inr e, by rw [if_neg (by omega), if_neg (by omega), if_pos (Or.inr e)]⟩))
  · exact Or.inr (Or.inr (Or.inr (Or.inl ⟨e, by rw [if_neg (by omega), if_neg (by omega), if_neg (by omega), if_pos e]⟩)))
  · have es : (if tkT tx n q = 0 then nI 0 else if tkT tx n q = 1 then nI 3 else if tkT tx n q = 2 ∨ tkT tx n q = 3 then nI 1 else if tkT tx n q = 4 then nI 2 else sgT tx n (taT tx n q)) = sgT tx n (taT tx n q) := by rw [if_neg (by omega), if_neg (by omega), if_neg (by omega), if_neg (by omega)]
    refine Or.inr (Or.inr (Or.inr (Or.inr ⟨e, es, ?_⟩)))
    rw [es]
    unfold tkT at e
    repeat' split at e
    all_goals first | omega | assumption
theorem sg_ne {c : Int32} (h : isSgV c = true) : c ≠ nI 0 ∧ c ≠ nI 1 ∧ c ≠ nI 2 ∧ c ≠ nI 3 := ⟨fun z => by rw [z] at h; exact absurd h (by decide), fun z => by rw [z] at h; exact absurd h (by decide), fun z => by rw [z] at h; exact absurd h (by decide), fun z => by rw [z] at h; exact absurd h (by decide)⟩
theorem sr_1 (hq : q ≤ n) : srT tx n q = nI 1 ↔ tkT tx n q = 2 ∨ tkT tx n q = 3 := by
  rcases sr_cases tx n q with ⟨a, b⟩ | ⟨a, b⟩ | ⟨a, b⟩ | ⟨a, b⟩ | ⟨a, b, c⟩
  · rw [b]; exact ⟨fun z => absurd z (by decide), fun z => by omega⟩
  · rw [b]; exact ⟨fun z => absurd z (by decide), fun z => by omega⟩
  · exact ⟨fun _ => a, fun _ => b⟩
  · rw [b]; exact ⟨fun z => absurd z (by decide), fun z => by omega⟩
  · exact ⟨fun z => absurd z (sg_ne c).2.1, fun z => by omega⟩
theorem sr_3 (hq : q ≤ n) : srT tx n q = nI 3 ↔ tkT tx n q = 1 := by
  rcases sr_cases tx n q with ⟨a, b⟩ | ⟨a, b⟩ | ⟨a, b⟩ | ⟨a, b⟩ | ⟨a, b, c⟩
  · rw [b]; exact ⟨fun z => absurd z (by decide), fun z => by omega⟩
  · exact ⟨fun _ => a, fun _ => b⟩
  · rw [b]; exact ⟨fun z => absurd z (by decide), fun z => by omega⟩
  · rw [b]; exact ⟨fun z => absurd z (by decide), fun z => by omega⟩
  · exact ⟨fun z => absurd z (sg_ne c).2.2.2, fun z => by omega⟩
theorem sr_2 (hq : q ≤ n) : srT tx n q = nI 2 ↔ tkT tx n q = 4 := by
  rcases sr_cases tx n q with ⟨a, b⟩ | ⟨a, b⟩ | ⟨a, b⟩ | ⟨a, b⟩ | ⟨a, b, c⟩
  · rw [b]; exact ⟨fun z => absurd z (by decide), fun z => by omega⟩
  · rw [b]; exact ⟨fun z => absurd z (by decide), fun z => by omega⟩
  · rw [b]; exact ⟨fun z => absurd z (by decide), fun z => by omega⟩
  · exact ⟨fun _ => a, fun _ => b⟩
  · exact ⟨fun z => absurd z (sg_ne c).2.2.1, fun z => by omega⟩
theorem cmp_0 {a b : Int64} : lg_cmp a b = 0 ↔ a = b := by
  unfold lg_cmp
  by_cases e : a = b
  · subst e
    rw [if_neg (fun z => Int64.lt_irrefl z), if_pos rfl]
    exact ⟨fun _ => rfl, fun _ => rfl⟩
  · refine ⟨fun z => ?_, fun z => absurd z e⟩
    by_cases g : a > b
    · rw [if_pos g] at z; exact absurd z (by decide)
    · rw [if_neg g, if_neg e] at z; exact absurd z (by decide)
theorem tk_23 (h : tkT tx n q = 2 ∨ tkT tx n q = 3) : tkT tx n q = if kepW (tnT tx n q) then 3 else 2 := by
  unfold tkT at h ⊢
  repeat' split at h
  all_goals first
    | omega
    | (rename_i a b c d; rw [if_neg a, if_pos b, if_neg c])
theorem is_n (h : ¬ (tkT tx n q = 2 ∨ tkT tx n q = 3)) : woH tx n q (pkL i) = false := by
  unfold woH
  rw [decide_eq_false (fun z => h (Or.inr z))]; rfl
theorem is_v {b : Bool} (hi : 1 ≤ i ∧ i < 19) (h : tkT tx n q = 2 ∨ tkT tx n q = 3) (hm : 1 ≤ m ∧ m ≤ 8) (hf : ∀ i, i < m → isLetV (f i) = true) (hv : pkF f m = tnT tx n q) (e : seqV f m (cF i) (cW i).length = b) : woH tx n q (pkL i) = b := by
  obtain ⟨c1, c2, c3, c4⟩ := cW_ok ⟨i, hi.2⟩ hi.1
  rw [sq_pk hm c1 hf (fun k hk => c2 ⟨k, by have := c1.2; omega⟩ hk), hv, c3] at e
  unfold woH
  by_cases z : tnT tx n q = pkL i
  · rw [decide_eq_true z] at e
    have h3 := tk_23 h
    rw [z, if_pos c4] at h3
    rw [decide_eq_true h3, decide_eq_true (cmp_0.mpr z)]
    exact e
  · rw [decide_eq_false z] at e
    rw [decide_eq_false (fun y => z (cmp_0.mp y)), Bool.and_false]
    exact e
theorem wo_3 {w : Int64} (h : woH tx n q w = true) : tkT tx n q = 3 := by
  unfold woH at h
  rw [Bool.and_eq_true] at h
  exact of_decide_eq_true h.1
theorem wo_2 {w : Int64} (h : woH tx n q w = true) : tkT tx n q ≠ 1 := by rw [wo_3 h]; decide
theorem ta_ge : q ≤ taT tx n q := runT_ge _ _
/-- a token that is there is gone behind -/
theorem te_gt_ (hq : q ≤ n) (h : tkT tx n q ≠ 0) : q < teT tx n q := by
  have h1 := ta_ge (tx := tx) (n := n) (q := q)
  have h0 : ¬ n ≤ taT tx n q := fun z => h (by unfold tkT; rw [if_pos z])
  unfold teT
  rw [if_neg h0]
  split
  · rename_i hl
    have := runT_t (c := leT tx n) (f := n - taT tx n q - 1) hl
    rw [show n - taT tx n q - 1 + 1 = n - taT tx n q by omega] at this
    rw [this]
    have := runT_ge (c := leT tx n) (n - taT tx n q - 1) (taT tx n q + 1)
    omega
  · split
    · rename_i hd
      have := runT_t (c := diT tx n) (f := n - taT tx n q - 1) hd
      rw [show n - taT tx n q - 1 + 1 = n - taT tx n q by omega] at this
      rw [this]
      have := runT_ge (c := diT tx n) (n - taT tx n q - 1) (taT tx n q + 1)
      omega
    · omega
theorem te_gt (hq : q ≤ n) (h : tkT tx n q = 3) : q < teT tx n q := te_gt_ hq (by rw [h]; decide)
end SRS

theorem x5_wrong {G : ev_G} {h hb : ev_H} {r n q : Nat} {tx : Nat → Int32} (hs : RS hb tx n r q h) : Called G mX5_wrong 4 1 8 [vR r] h (pR (fun w h1 => hK h w = 0 ∧ ev_c < w ∧ hK h1 w = 9 ∧ hI h1 w 6 = nI (if tkT tx n q = 1 then 1 else 2) ∧ hI h1 w 7 = nI (taT tx n q) ∧ Fg noC [] noC h h1)) := by
  have hx := hs.1
  have ht := hs.2.1
  refine called_of rfl [some (vR r)] rfl (Nat.le_of_ble_eq_true rfl) ?_
  refine r_wf (fun wf9 => ?_)
  refine r_new nX5_75 dX5_wrong_0 (by decide) (by decide) ?_
  have kA : hK (nO h 9 0) (hN h) = 9 := nO_Kn
  have gA : Fg noC [] noC h (nO h 9 0) := Fg.nO wf9
  have cA : ev_c < hN h := wf9.1
  have zA : hK h (hN h) = 0 := wf_0 wf9
  generalize nO h 9 0 = hA at kA gA ⊢
  generalize hN h = w at kA cA zA ⊢
  have iA : ∀ j, hI hA r j = hI h r j := fun j => gA.i hx.1 (by decide) (fun z => z) j (fun _ => by simp)
  refine r_dup dX5_wrong_3 rfl ?_
  refine r_aload_n dX5_wrong_4 rfl ?_
  refine r_getIv fX5_46 (gA.k hx.1 (by decide)) (v := srT tx n q) ((iA 1).trans ht.1) rfl dX5_wrong_5 ?_
  refine r_iconst (v := nI 3) dX5_wrong_8 (by decide) ?_
  refine r_icmp_ne (tgt := 16) dX5_wrong_9 rfl (fun c1 => ?_) (fun c1 => ?_)
  · --
    refine r_iconst (v := nI 2) dX5_wrong_16 (by decide) ?_
    refine r_aload_n dX5_wrong_17 rfl ?_
    refine r_getIv fX5_43 (gA.k hx.1 (by decide)) (v := nI (taT tx n q)) ((iA 2).trans ht.2.1) rfl dX5_wrong_18 ?_
    refine r_callIv lX5_77 (x8_init kA cA (nI 2) (nI (taT tx n q))) (nz_ kA (by decide)) rfl rfl rfl rfl dX5_wrong_21 (by decide) (by decide) (fun hD q9 => ?_)
    obtain ⟨i6, i7, gD⟩ := q9
    exact r_retr dX5_wrong_24 rfl (Or.inl ⟨_, rfl⟩) (by decide) (by decide) ⟨zA, cA, gD.k kA (by decide), i6.trans (congrArg nI ((if_neg (fun z => c1 ((sr_3 hs.2.2.1).mpr z))).symm)), i7, fg_new gA gD zA⟩
  · --
    refine r_iconst (v := nI 1) dX5_wrong_12 (by decide) ?_
    refine r_goto (tgt := 17) dX5_wrong_13 rfl ?_
    refine r_aload_n dX5_wrong_17 rfl ?_
    refine r_getIv fX5_43 (gA.k hx.1 (by decide)) (v := nI (taT tx n q)) ((iA 2).trans ht.2.1) rfl dX5_wrong_18 ?_
    refine r_callIv lX5_77 (x8_init kA cA (nI 1) (nI (taT tx n q))) (nz_ kA (by decide)) rfl rfl rfl rfl dX5_wrong_21 (by decide) (by decide) (fun hD q9 => ?_)
    obtain ⟨i6, i7, gD⟩ := q9
    exact r_retr dX5_wrong_24 rfl (Or.inl ⟨_, rfl⟩) (by decide) (by decide) ⟨zA, cA, gD.k kA (by decide), i6.trans (congrArg nI ((if_pos ((sr_3 hs.2.2.1).mp c1)).symm)), i7, fg_new gA gD zA⟩

theorem x5_is {G : ev_G} {h hb : ev_H} {r n q : Nat} {tx : Nat → Int32} (hs : RS hb tx n r q h) {i : Nat} (hi : 1 ≤ i ∧ i < 19) : Called G mX5_is 2 0 0 [vR r, vR (15 + i)] h (px (vI (b2i (woH tx n q (pkL i)))) h) := by
  have hx := hs.1
  have ht := hs.2.1
  refine called_of rfl [some (vR r), some (vR (15 + i))] rfl (Nat.le_of_ble_eq_true rfl) ?_
  refine r_aload_n dX5_is_0 rfl ?_
  refine r_getIv fX5_46 (hx.1) (v := srT tx n q) (ht.1) rfl dX5_is_1 ?_
  refine r_iconst (v := nI 1) dX5_is_4 (by decide) ?_
  refine r_icmp_ne (tgt := 23) dX5_is_5 rfl (fun c1 => ?_) (fun c1 => ?_)
  · --
    refine r_iconst (v := nI 0) dX5_is_23 (by decide) ?_
    exact r_ret0 dX5_is_24 rfl (is_n (fun z => c1 ((sr_1 hs.2.2.1).mpr z)))
  · --
    obtain ⟨⟨f, m, sw, hm, hf, hv9⟩, zw⟩ := ht.2.2.2.2 ((sr_1 hs.2.2.1).mp c1)
    refine r_aload_n dX5_is_8 rfl ?_
    refine r_getRv fX5_17 (hx.1) (v := hR h r 8) (rfl) rfl dX5_is_9 ?_
    refine r_aload_n dX5_is_12 rfl ?_
    refine r_callVx lX5_80 (xJ7_equals sw.1 (hs.2.2.2.1 i hi.2) sw.2.1) (sw.1.1) rfl rfl rfl rfl dX5_is_13 (Nat.le_refl _) (Nat.le_refl _) ?_
    refine r_ifB_eq (tgt := 23) dX5_is_16 rfl (fun c2 => ?_) (fun c2 => ?_)
    · --
      refine r_iconst (v := nI 0) dX5_is_23 (by decide) ?_
      exact r_ret0 dX5_is_24 rfl (is_v hi ((sr_1 hs.2.2.1).mp c1) hm hf hv9 c2)
    · --
      refine r_iconst (v := nI 1) dX5_is_19 (by decide) ?_
      refine r_goto (tgt := 24) dX5_is_20 rfl ?_
      exact r_ret1 dX5_is_24 rfl (is_v hi ((sr_1 hs.2.2.1).mp c1) hm hf hv9 c2)

theorem x5_takes {G : ev_G} {h hb : ev_H} {r n q : Nat} {tx : Nat → Int32} (hs : RS hb tx n r q h) {i : Nat} (hi : 1 ≤ i ∧ i < 19) {mc ms : Nat} (hmc : 5 * ((if woH tx n q (pkL i) then teT tx n q else q) - q) ≤ mc) (hms : 40 * ((if woH tx n q (pkL i) then teT tx n q else q) - q) ≤ ms) : Called G mX5_takes 7 mc ms [vR r, vR (15 + i)] h (pI (fun y h1 => y = b2i (woH tx n q (pkL i)) ∧ RS hb tx n r (if woH tx n q (pkL i) then teT tx n q else q) h1 ∧ GZ hb r h h1)) := by
  have hx := hs.1
  have ht := hs.2.1
  refine called_of rfl [some (vR r), some (vR (15 + i)), none] rfl (Nat.le_of_ble_eq_true rfl) ?_
  refine r_aload_n dX5_takes_0 rfl ?_
  refine r_aload_n dX5_takes_1 rfl ?_
  refine r_callVx lX5_86 (x5_is hs hi) (hx.1) rfl rfl rfl rfl dX5_takes_2 (Nat.zero_le _) (Nat.zero_le _) ?_
  refine r_istore_n dX5_takes_5 (by decide) rfl ?_
  refine r_iload_n dX5_takes_6 rfl ?_
  refine r_ifB_eq (tgt := 14) dX5_takes_7 rfl (fun c1 => ?_) (fun c1 => ?_)
  · --
    refine r_iload_n dX5_takes_14 rfl ?_
    exact r_reti dX5_takes_15 rfl (b2i_n _) (Nat.zero_le _) (Nat.zero_le _) ⟨rfl, by rw [if_neg (by rw [c1]; decide)]; exact hs, GZ.rf hx.1⟩
  · --
    refine r_aload_n dX5_takes_10 rfl ?_
    refine r_callVv lX5_90 (x5_goR hs (wo_2 c1)) (hx.1) rfl rfl rfl rfl dX5_takes_11 (by show 0 + 4 ≤ mc; have := te_gt hs.2.2.1 (wo_3 c1); rw [if_pos c1] at hmc; omega) (by show 0 + 24 ≤ ms; have := te_gt hs.2.2.1 (wo_3 c1); rw [if_pos c1] at hms; omega) (fun hA q9 => ?_)
    obtain ⟨sA, gA⟩ := q9
    refine r_iload_n dX5_takes_14 rfl ?_
    exact r_reti dX5_takes_15 rfl (b2i_n _) (by show 0 + 4 ≤ mc; have := te_gt hs.2.2.1 (wo_3 c1); rw [if_pos c1] at hmc; omega) (by show 0 + 24 ≤ ms; have := te_gt hs.2.2.1 (wo_3 c1); rw [if_pos c1] at hms; omega) ⟨rfl, by rw [if_pos c1]; exact sA, gA⟩
