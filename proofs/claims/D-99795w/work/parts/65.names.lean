/-! ===== names told ===== -/
set_option maxRecDepth 100000
/-- the first name of m that stands here -/
def hereO (tx : Nat → Int32) (n q : Nat) (nm : Nat → Int64) (m : Nat) : Option Nat := firstOf m (fun k => decide (tkT tx n q = 2) && decide (lg_cmp (nm k) (tnT tx n q) = 0))
/-- a new name (o: where it is told already) -/
def freshP (tx : Nat → Int32) (n : Nat) (o : Option Nat) (s : (Nat × Nat) × Nat) : (Nat × Nat) × Nat := if s.1.1 = 0 then (if tkT tx n s.2 = 2 then (if o.isSome then ((3, taT tx n s.2), s.2) else goP tx n s) else misP tx n s) else s
/-- an old name -/
def knownP (tx : Nat → Int32) (n : Nat) (o : Option Nat) (s : (Nat × Nat) × Nat) : (Nat × Nat) × Nat := if s.1.1 = 0 then (if tkT tx n s.2 = 2 then (if o.isSome then goP tx n s else ((5, taT tx n s.2), s.2)) else misP tx n s) else s
