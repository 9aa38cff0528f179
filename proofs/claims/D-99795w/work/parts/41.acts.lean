/-! ===== acts, as both sides do them ===== -/
set_option maxRecDepth 100000
def sitOk (b : Bk) (T : Nat → Int32) (p : Int32) : Bool := perV b p && !tbI (T 0) p
def sitT (T : Nat → Int32) (p : Int32) : Nat → Int32 := u1 T 0 (T 0 ||| (1 : Int32) <<< (p &&& 31))
def riseOk (b : Bk) (T : Nat → Int32) (p : Int32) : Bool := perV b p && tbI (T 0) p
def riseT (T : Nat → Int32) (p : Int32) : Nat → Int32 := u1 T 0 (T 0 &&& ((1 : Int32) <<< (p &&& 31) ^^^ (-1)))
def pourOk (b : Bk) (T : Nat → Int32) (t s : Int32) : Bool := thiV b t && isInV s (-1) (nI (nS b) - 1) && stV T t.toNatClampNeg && !decide (T (2 + t.toNatClampNeg) = s)
def drawS (v : Int32) : Int32 := (nI 137 * v + nI 71) - (nI 137 * v + nI 71) / nI 1000 * nI 1000
def couT (T : Nat → Int32) : Nat → Int32 := u1 (u1 T 17 (T 17 + nI 1)) 18 (drawS (T 18))
def couO (b : Bk) (T : Nat → Int32) : Option Nat := if drawS (T 18) - drawS (T 18) / nI 100 * nI 100 < nI (bSn b) then sneV b (couT T) else none
def couT2 (b : Bk) (T : Nat → Int32) : Nat → Int32 := match couO b T with
  | none => couT T
  | some j => u1 (couT T) 1 (couT T 1 ||| one j)
def undT (W : Nat → Int32) (n : Nat) : Nat → Int32 := fun k => W (19 * n + k)
theorem MH.pos {ok : Bool} {W W2 : Nat → Int32} {n n2 m m2 : Nat} {h : ev_H} (e : ok = true) (hH : MH W n m h) : MH (if ok then W else W2) (if ok then n else n2) (if ok then m else m2) h := by rw [if_pos e, if_pos e, if_pos e]; exact hH
theorem MH.neg {ok : Bool} {W W2 : Nat → Int32} {n n2 m m2 : Nat} {h : ev_H} (e : ok = false) (hH : MH W n m h) : MH (if ok then W2 else W) (if ok then n2 else n) (if ok then m2 else m) h := by rw [if_neg (by rw [e]; decide), if_neg (by rw [e]; decide), if_neg (by rw [e]; decide)]; exact hH
theorem MT.pos {ok : Bool} {T T2 : Nat → Int32} {h : ev_H} (e : ok = true) (hT : MT T h) : MT (if ok then T else T2) h := by rw [if_pos e]; exact hT
theorem MT.neg {ok : Bool} {T T2 : Nat → Int32} {h : ev_H} (e : ok = false) (hT : MT T h) : MT (if ok then T2 else T) h := by rw [if_neg (by rw [e]; decide)]; exact hT
theorem if_p {α : Type} {ok : Bool} {v y z : α} (e : ok = true) (hv : v = y) : v = if ok then y else z := by rw [if_pos e]; exact hv
theorem if_n {α : Type} {ok : Bool} {v y z : α} (e : ok = false) (hv : v = z) : v = if ok then y else z := by rw [if_neg (by rw [e]; decide)]; exact hv
