/-! ===== maths: what is checked of a subgroup of one of the three groups (lists: fin3.py) ===== -/
def xni (tb x : Nat) : Nat := Nat.mod (Nat.shiftRight tb (Nat.mul 6 x)) 64
/-- the value of a function on codes -/
def xgv (g h : Nat) : Nat := Nat.mod (Nat.shiftRight g (Nat.mul 7 h)) 128
/-- a subgroup's bits, its elements, one of each class, its laws with their degrees -/
abbrev xEt : Type := List (Nat × List Nat × List Nat × List (Nat × Nat))
def xcjc (m : Nat → Nat → Nat) (iv : Nat → Nat) (g h : Nat) : Nat := m (m g h) (iv g)
def xmsk : List Nat → Nat
  | [] => 0
  | h :: t => Nat.lor (Nat.pow 2 h) (xmsk t)
def xinc : List Nat → Bool
  | [] => true
  | h :: t => t.all (fun k => Nat.blt h k) && xinc t
def xsmg (g : Nat) : List Nat → Nat
  | [] => 0
  | h :: t => Nat.add (xgv g h) (xsmg g t)
def xsmq (g : Nat) (iv : Nat → Nat) : List Nat → Nat
  | [] => 0
  | h :: t => Nat.add (Nat.mul (xgv g h) (xgv g (iv h))) (xsmq g iv t)
def xfe (m : Nat → Nat → Nat) (iv : Nat → Nat) (l : List Nat) (n g a b : Nat) : Bool := Nat.beq (Nat.mod (Nat.mul n (Nat.mul (xgv g a) (xgv g b))) 97) (Nat.mod (xsmg g (l.map (fun k => m a (xcjc m iv k b)))) 97)
def xdis (l : List Nat) : List (Nat × Nat) → Bool
  | [] => true
  | p :: t => t.all (fun q => l.any (fun h => !Nat.beq (xgv p.1 h) (xgv q.1 h))) && xdis l t
/-- the least power that is nought, at most 12 -/
def xpr (m : Nat → Nat → Nat) (h : Nat) : Nat → Nat → Nat → Nat
  | 0, _, k => k
  | f + 1, w, k => match Nat.beq w 0 with
    | true => k
    | false => xpr m h f (m w h) (Nat.add k 1)
def xord (m : Nat → Nat → Nat) (h : Nat) : Nat := xpr m h 12 h 1
def xmst (m : Nat → Nat → Nat) : List Nat → Nat
  | [] => 1
  | h :: t => match Nat.beq (Nat.mod h 2) 0 with
    | true => Nat.max (xord m h) (xmst m t)
    | false => xmst m t
def xpure (l : List Nat) : Nat := l.countP (fun h => Nat.beq (Nat.mod h 2) 0)
def xmir (tr : Nat → Int) (l : List Nat) : Nat := l.countP (fun h => !Nat.beq (Nat.mod h 2) 0 && decide (tr (Nat.div h 2) = -1))
/-- what the names need: the greatest order of a rotation is 1, 2, 3, 4 or 6, and 2 or 3 where the name begins with S -/
def xnam (m : Nat → Nat → Nat) (tr : Nat → Int) (l : List Nat) : Bool :=
  (Nat.beq (xmst m l) 1 || Nat.beq (xmst m l) 2 || Nat.beq (xmst m l) 3 || Nat.beq (xmst m l) 4 || Nat.beq (xmst m l) 6) &&
  (!Nat.beq (xpure l) (xmst m l) || Nat.beq l.length (xpure l) || Nat.beq (xmst m l) 1 || Nat.beq (xmir tr l) (xmst m l) || Nat.beq (xmir tr l) 1 || Nat.beq (xmst m l) 2 || Nat.beq (xmst m l) 3)
def xlaw (m : Nat → Nat → Nat) (iv : Nat → Nat) (l ld : List Nat) (p : Nat × Nat) : Bool :=
  Nat.beq (xgv p.1 0) 1 && l.all (fun h => Nat.blt (xgv p.1 h) 97) && l.all (fun g => l.all (fun h => Nat.beq (xgv p.1 (xcjc m iv g h)) (xgv p.1 h))) &&
  ld.all (fun a => ld.all (fun b => xfe m iv l l.length p.1 a b)) && Nat.beq (Nat.mod (Nat.mul (Nat.mul p.2 p.2) (xsmq p.1 iv l)) 97) (Nat.mod l.length 97) && Nat.ble 1 p.2 && Nat.ble p.2 96
def xchkE (N : Nat) (m : Nat → Nat → Nat) (iv : Nat → Nat) (tr : Nat → Int) (e : Nat × List Nat × List Nat × List (Nat × Nat)) : Bool :=
  Nat.beq (xmsk e.2.1) e.1 && xinc e.2.1 && e.2.1.all (fun h => Nat.blt h N) && e.2.1.all (fun h => e.2.1.any (fun g => e.2.2.1.any (fun k => Nat.beq (xcjc m iv g h) k))) && e.2.2.1.all (fun h => e.2.1.any (Nat.beq h)) &&
  Nat.beq e.2.2.1.length e.2.2.2.length && Nat.ble e.2.2.1.length 12 && xdis e.2.1 e.2.2.2 && e.2.2.2.all (xlaw m iv e.2.1 e.2.2.1) && xnam m tr e.2.1
