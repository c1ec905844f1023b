/-! SPECS of add and findLegal -/
def isLg (d : Nat) (b : Bd) : Bool := decide (b.1 &&& b.2.1 = 0) && legal d b.1 b.2.1 b.2.2
/-- what add does with a board -/
def addT (d l : Nat) (b : Bd) (st : MS) : MS := if isLg d b then mA (mF (mA st 3 (st.2 2).toNatClampNeg (nI (pkB b))) 2 (st.2 2 + 1)) 2 (ixB b) (-b2 (loN d l (meB b) (otB b))) else st
def is3 (b : Bd) (x1 x2 x3 : Int32) : Prop := b.1 < 512 ∧ b.2.1 < 512 ∧ b.2.2 < 2 ∧ x1 = nI b.1 ∧ x2 = nI b.2.1 ∧ x3 = nI b.2.2
def pX5_add (x1 x2 x3 : Int32) (st : MS) : Prop := cOK st ∧ (∃ d l, rOK d l st) ∧ (∃ n, n < 19683 ∧ st.2 2 = nI n) ∧ ∃ b, is3 b x1 x2 x3
def qX5_add (x1 x2 x3 : Int32) (st st1 : MS) : Prop := ∀ d l b, rOK d l st → is3 b x1 x2 x3 → st1 = addT d l b st
def addS (d l f s : Nat) (st : MS) : MS := addT d l (f, s, 1) (addT d l (f, s, 0) st)
def addR (d l f : Nat) : Nat → MS → MS
  | 0, st => st
  | n + 1, st => addS d l f n (addR d l f n st)
def addA (d l : Nat) : Nat → MS → MS
  | 0, st => st
  | n + 1, st => addR d l n 512 (addA d l n st)
def pX5_findLegal (st : MS) : Prop := cOK st ∧ (∃ d l, rOK d l st) ∧ st.2 2 = 0
def qX5_findLegal (st st1 : MS) : Prop := ∀ d l, rOK d l st → st1 = addA d l 512 st
