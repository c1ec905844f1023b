/-! SPECS of Table's methods -/
/-- threes by points stand in codes -/
def cOK (st : MS) : Prop := ∀ m, m < 512 → st.1 1 m = nI (trn m 0 9)
/-- a board's place among the worths -/
def ixB (b : Bd) : Nat := 2 * trn b.1 b.2.1 9 + b.2.2
/-- a board in one number, as the class packs it -/
def pkB (b : Bd) : Nat := b.1 + 512 * b.2.1 + 262144 * b.2.2
def isBd (b : Bd) (x1 x2 x3 : Int32) : Prop := bokB b ∧ x1 = nI b.1 ∧ x2 = nI b.2.1 ∧ x3 = nI b.2.2
def pX5_indexOf (x1 x2 x3 : Int32) (st : MS) : Prop := cOK st ∧ ∃ b, isBd b x1 x2 x3
def qX5_indexOf (x1 x2 x3 : Int32) (_ : MS) (r : Int32) : Prop := ∀ b, isBd b x1 x2 x3 → r = nI (ixB b)
def pX5_worth (x1 x2 x3 : Int32) (st : MS) : Prop := cOK st ∧ ∃ b, isBd b x1 x2 x3
def qX5_worth (x1 x2 x3 : Int32) (st : MS) (r : Int32) : Prop := ∀ b, isBd b x1 x2 x3 → r = st.1 2 (ixB b)
def pX5_first (x1 : Int32) (_ : MS) : Prop := ∃ k, k < 19683 ∧ x1 = nI k
def qX5_first (x1 : Int32) (st : MS) (r : Int32) : Prop := ∀ k b, k < 19683 → x1 = nI k → bokB b → st.1 3 k = nI (pkB b) → r = nI b.1
def pX5_second (x1 : Int32) (_ : MS) : Prop := ∃ k, k < 19683 ∧ x1 = nI k
def qX5_second (x1 : Int32) (st : MS) (r : Int32) : Prop := ∀ k b, k < 19683 → x1 = nI k → bokB b → st.1 3 k = nI (pkB b) → r = nI b.2.1
def pX5_mover (x1 : Int32) (_ : MS) : Prop := ∃ k, k < 19683 ∧ x1 = nI k
def qX5_mover (x1 : Int32) (st : MS) (r : Int32) : Prop := ∀ k b, k < 19683 → x1 = nI k → bokB b → st.1 3 k = nI (pkB b) → r = nI b.2.2
def pX5_worthAt (x1 : Int32) (st : MS) : Prop := cOK st ∧ ∃ k b, k < 19683 ∧ x1 = nI k ∧ bokB b ∧ st.1 3 k = nI (pkB b)
def qX5_worthAt (x1 : Int32) (st : MS) (r : Int32) : Prop := ∀ k b, k < 19683 → x1 = nI k → bokB b → st.1 3 k = nI (pkB b) → r = st.1 2 (ixB b)
def pX5_behind (x1 x2 x3 x4 : Int32) (st : MS) : Prop := cOK st ∧ ∃ b q, isBd b x1 x2 x3 ∧ okm (meB b) (otB b) q ∧ x4 = nI q
def qX5_behind (x1 x2 x3 x4 : Int32) (st : MS) (r : Int32) : Prop := ∀ b q, isBd b x1 x2 x3 → okm (meB b) (otB b) q → x4 = nI q → r = st.1 2 (ixB (nxb b q))
