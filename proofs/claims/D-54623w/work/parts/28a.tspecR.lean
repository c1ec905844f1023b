/-! SPECS of Rules' methods, over the contents of a Table -/
def nxM (d p : Nat) : Nat := (List.range 9).foldl (fun a t => if isNb d p t then a ||| 2 ^ t else a) 0
/-- the settings (d, l) stand in the fields of Rules -/
def rOK (d l : Nat) (st : MS) : Prop := d < 2 ∧ l < 2 ∧ st.2 0 = nI (if d = 1 then 8 else 6) ∧ st.2 1 = b2 (decide (l = 0)) ∧ ∀ p, p < 9 → st.1 0 p = nI (nxM d p)
def lkN (d me ot : Nat) : Bool := decide (cnt me = 3) && isLk d me ot
def plN (d me ot q : Nat) : Bool := if q < 9 then decide (cnt me < 3) && fre me ot q else decide (cnt me = 3) && isSl d me ot q
def loN (d l me ot : Nat) : Bool := hasL d ot || (decide (l = 0) && lkN d me ot)
def pX4_next (x1 : Int32) (_ : MS) : Prop := ∃ p, p < 9 ∧ x1 = nI p
def qX4_next (x1 : Int32) (st : MS) (r : Int32) : Prop := ∀ d l p, rOK d l st → p < 9 → x1 = nI p → r = nI (nxM d p)
def pX4_hasLine (x1 : Int32) (st : MS) : Prop := ∃ d l, rOK d l st ∧ ∃ m, m < 512 ∧ x1 = nI m
def qX4_hasLine (x1 : Int32) (st : MS) (r : Int32) : Prop := ∀ d l m, rOK d l st → m < 512 → x1 = nI m → r = b2 (hasL d m)
def pX4_isLocked (x1 x2 : Int32) (st : MS) : Prop := ∃ d l, rOK d l st ∧ ∃ me ot, me < 512 ∧ ot < 512 ∧ x1 = nI me ∧ x2 = nI ot
def qX4_isLocked (x1 x2 : Int32) (st : MS) (r : Int32) : Prop := ∀ d l me ot, rOK d l st → me < 512 → ot < 512 → x1 = nI me → x2 = nI ot → r = b2 (lkN d me ot)
def pX4_isPlain (x1 x2 x3 : Int32) (st : MS) : Prop := ∃ d l, rOK d l st ∧ ∃ me ot q, me < 512 ∧ ot < 512 ∧ q < 91 ∧ x1 = nI me ∧ x2 = nI ot ∧ x3 = nI q
def qX4_isPlain (x1 x2 x3 : Int32) (st : MS) (r : Int32) : Prop := isB r ∧ ∀ d l me ot q, rOK d l st → me < 512 → ot < 512 → q < 91 → x1 = nI me → x2 = nI ot → x3 = nI q → r = b2 (plN d me ot q)
def pX4_hasLost (x1 x2 : Int32) (st : MS) : Prop := ∃ d l, rOK d l st ∧ ∃ me ot, me < 512 ∧ ot < 512 ∧ x1 = nI me ∧ x2 = nI ot
def qX4_hasLost (x1 x2 : Int32) (st : MS) (r : Int32) : Prop := ∀ d l me ot, rOK d l st → me < 512 → ot < 512 → x1 = nI me → x2 = nI ot → r = b2 (loN d l me ot)
def pX4_isMove (x1 x2 _x3 : Int32) (st : MS) : Prop := ∃ d l, rOK d l st ∧ ∃ me ot, me < 512 ∧ ot < 512 ∧ x1 = nI me ∧ x2 = nI ot
def qX4_isMove (x1 x2 x3 : Int32) (st : MS) (r : Int32) : Prop := ∀ d l me ot, rOK d l st → me < 512 → ot < 512 → cnt me ≤ 3 → x1 = nI me → x2 = nI ot → (∀ q, q < 91 → x3 = nI q → r = b2 (isMv d l me ot q)) ∧ (¬ ((0 : Int32) ≤ x3 ∧ x3 ≤ 90) → r = 0)
def pX4_isLegal (x1 x2 x3 : Int32) (st : MS) : Prop := ∃ d l, rOK d l st ∧ ∃ f s mv, f < 512 ∧ s < 512 ∧ mv < 2 ∧ x1 = nI f ∧ x2 = nI s ∧ x3 = nI mv
def qX4_isLegal (x1 x2 x3 : Int32) (st : MS) (r : Int32) : Prop := ∀ d l f s mv, rOK d l st → f < 512 → s < 512 → mv < 2 → x1 = nI f → x2 = nI s → x3 = nI mv → r = b2 (decide (f &&& s = 0) && legal d f s mv)
