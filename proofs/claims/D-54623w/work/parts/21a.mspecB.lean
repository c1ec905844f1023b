/-! SPECS of the reference's methods, group B: tables -/
/-- a place of the table in level n -/
def mid (n w : Int) (v : Int32) : Prop := v = enc (clp (n - 1) w) ∨ (w ≠ 0 ∧ lev w = n ∧ v = iI (mrk w))
def lvOK (st : MS) (d l k : Nat) (n : Int) : Prop := ∀ b, bokB b → legB d b = true → mid n (wrb d l b) (st.1 9 (39366 * k + codB b))
def foundAt (x1 x2 x3 : Int32) (st : MS) (d l k n : Nat) (b : Bd) : Prop := sett st d l ∧ k < 4 ∧ x1 = nI (39366 * k) ∧ bokB b ∧ x2 = nI (codB b) ∧ legB d b = true ∧ x3 = nI n ∧ 1 ≤ n ∧ n ≤ 11 ∧ clp ((n : Int) - 1) (wrb d l b) = 0 ∧ lvOK st d l k n
def pX3_found (x1 x2 x3 : Int32) (st : MS) : Prop := ∃ d l k n b, foundAt x1 x2 x3 st d l k n b
def qX3_found (x1 x2 x3 : Int32) (st : MS) (r : Int32) (st1 : MS) : Prop := frm [7, 8] [3, 4] st st1 ∧ ∀ d l k n b, foundAt x1 x2 x3 st d l k n b → r = enc (clp n (wrb d l b))
def pX3_make (x1 : Int32) (st : MS) : Prop := ∃ d l, sett st d l ∧ x1 = nI (39366 * (2 * d + l))
def qX3_make (x1 : Int32) (st st1 : MS) : Prop := frm [7, 8, 9] [3, 4] st st1 ∧ ∀ d l, sett st d l → x1 = nI (39366 * (2 * d + l)) → (∀ c, c < 39366 → st1.1 9 (39366 * (2 * d + l) + c) = finC d l c) ∧ ∀ i, (i < 39366 * (2 * d + l) ∨ 39366 * (2 * d + l) + 39366 ≤ i) → st1.1 9 i = st.1 9 i
/-- the tables that are made hold the worths -/
def tabs (st : MS) : Prop := ∀ d l, d < 2 → l < 2 → st.1 10 (2 * d + l) = 0 ∨ (st.1 10 (2 * d + l) = 1 ∧ ∀ c, c < 39366 → st.1 9 (39366 * (2 * d + l) + c) = finC d l c)
def pX3_table (st : MS) : Prop := (∃ d l, sett st d l) ∧ tabs st
def qX3_table (st : MS) (r : Int32) (st1 : MS) : Prop := frm [7, 8, 9, 10] [3, 4] st st1 ∧ tabs st1 ∧ ∀ d l, sett st d l → r = nI (39366 * (2 * d + l)) ∧ (∀ c, c < 39366 → st1.1 9 (39366 * (2 * d + l) + c) = finC d l c) ∧ st1.1 10 (2 * d + l) = 1 ∧ (¬ st.1 10 (2 * d + l) = 0 → st1 = st)
def pX3_worthAt (x1 : Int32) (st : MS) : Prop := pX3_table st ∧ ∃ c, c < 39366 ∧ x1 = nI c
def qX3_worthAt (x1 : Int32) (st : MS) (r : Int32) (st1 : MS) : Prop := frm [7, 8, 9, 10] [3, 4] st st1 ∧ tabs st1 ∧ ∀ d l c, sett st d l → c < 39366 → x1 = nI c → r = finC d l c ∧ st1.1 10 (2 * d + l) = 1
