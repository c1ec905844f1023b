/-! SPECS of greatest and judge -/
def rkI (u n : Int32) : Int32 := if u = -n then 2 else if 0 < u ∧ u < n then 0 else 1
def mxI (a b : Int32) : Int32 := if a < b then b else a
def mxL (us : List Int32) : Int32 := us.foldl mxI 0
/-- the moves of placing (none) or of the man at a point -/
def gmv (d : Nat) (b : Bd) : Option Nat → List Nat
  | none => (List.range 9).filter (fun t => fre (meB b) (otB b) t)
  | some p => ((List.range 9).filter (fun t => fre (meB b) (otB b) t && isNb d p t)).map (fun t => 9 + 9 * p + t)
def rkS (st : MS) (b : Bd) (n : Int32) (q : Nat) : Int32 := rkI (st.1 2 (ixB (nxb b q))) n
/-- the k-th legal board is b -/
def atK (st : MS) (k : Nat) (b : Bd) : Prop := k < 19683 ∧ bokB b ∧ st.1 3 k = nI (pkB b)
def frI (x : Int32) (b : Bd) : Option Nat → Prop
  | none => x = -6
  | some p => p < 9 ∧ x = nI p ∧ (meB b).testBit p = true
def pX5_greatest (x1 x2 _x3 : Int32) (st : MS) : Prop := cOK st ∧ (∃ d l, rOK d l st) ∧ ∃ k b o, x1 = nI k ∧ atK st k b ∧ frI x2 b o
def qX5_greatest (x1 x2 x3 : Int32) (st : MS) (r : Int32) : Prop := ∀ d l k b o, rOK d l st → x1 = nI k → atK st k b → frI x2 b o → r = mxL ((gmv d b o).map (rkS st b x3))
def jdI (m n : Int32) : Int32 := if m = 2 then n else if m = 1 then 0 else -1 - n
def pX5_judge (x1 _x2 : Int32) (st : MS) : Prop := cOK st ∧ (∃ d l, rOK d l st) ∧ ∃ k b, x1 = nI k ∧ atK st k b
def qX5_judge (x1 x2 : Int32) (st : MS) (r : Int32) : Prop := ∀ d l k b, rOK d l st → x1 = nI k → atK st k b → cnt (meB b) ≤ 3 → loN d l (meB b) (otB b) = false → r = jdI (mxL ((mvl d l b).map (rkS st b x2))) x2
