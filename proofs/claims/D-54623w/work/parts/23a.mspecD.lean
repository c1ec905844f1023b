/-! SPECS of the reference's methods, group D: the whole state; the inner methods of texts and tallies -/
def pastOK (st : MS) (ps : List Gm) : Prop := ps.length ≤ 6 ∧ st.2 0 = nI ps.length ∧ ∀ i, i < ps.length → rowOK (fun k => st.1 1 (7003 * i + k)) (ps.getD i (gNew 0 0))
def slotOK (st : MS) (sv : Nat → Option Gm) : Prop := ∀ j, j < 2 → (sv j = none ∧ st.1 4 j = 0) ∨ ∃ g, sv j = some g ∧ st.1 4 j = 1 ∧ rowOK (fun k => st.1 3 (7003 * j + k)) g
def padOK (st : MS) (P : List Nat) : Prop := P.length ≤ 80 ∧ st.2 1 = nI P.length ∧ ∀ i, i < P.length → st.1 5 i = nI (chP P i) ∧ 33 ≤ chP P i ∧ chP P i ≤ 126
def mOK (st : MS) (S : SS) : Prop := gst st S.1 ∧ tabs st ∧ pastOK st S.2.1 ∧ slotOK st S.2.2.1 ∧ padOK st S.2.2.2
def atOK (st : MS) (i : Nat) : Prop := st.2 2 = nI i ∧ i ≤ 200
def pX3_sees (_ _ : Int32) (st : MS) : Prop := ∃ P i, padOK st P ∧ atOK st i
def qX3_sees (x1 x2 : Int32) (st : MS) (r : Int32) : Prop := ∀ P i, padOK st P → atOK st i → r = b2 (decide (i < P.length ∧ x1.toInt ≤ chP P i ∧ chP P i ≤ x2.toInt))
def pX3_sign (x1 _ : Int32) (st : MS) : Prop := (∃ P i, padOK st P ∧ atOK st i) ∧ ∃ a, a ≤ 200 ∧ x1 = nI a
def qX3_sign (x1 x2 : Int32) (st : MS) (r : Int32) (st1 : MS) : Prop := ∀ P i a b, padOK st P → atOK st i → x1 = nI a → x2 = nI b → a ≤ 200 → b ≤ 200 → (if decide (i < P.length ∧ a ≤ chP P i ∧ chP P i ≤ b) then r = nI (chP P i - a) ∧ st1 = mF st 2 (nI (i + 1)) else r = (-3 : Int32) ∧ st1 = st)
/-- carrying out an order -/
def pX3_order (x1 : Int32) (st : MS) : Prop := (∃ P i, padOK st P ∧ atOK st i ∧ i ≤ 100) ∧ isB x1 ∧ (x1 = 0 ∨ (tabs st ∧ ∃ g, gst st g ∧ g.2.2.length ≤ 6900))
def qX3_order (x1 : Int32) (st : MS) (r : Int32) (st1 : MS) : Prop := frm [0, 7, 8, 9, 10] [2, 3, 4] st st1 ∧ ∀ P i, padOK st P → atOK st i → i ≤ 100 → atOK st1 (rdO P i).2.1 ∧
  ((rdO P i).1 = false → r = (-3 : Int32) ∧ frm [] [2] st st1) ∧ ((rdO P i).1 = true → (x1 = 0 → r = 0 ∧ frm [] [2] st st1) ∧ (¬ x1 = 0 → tabs st1 ∧ ∀ g, gst st g → g.2.2.length ≤ 6900 → r = (doO (rdO P i).2.2 g).1 ∧ gst st1 (doO (rdO P i).2.2 g).2))
def pX3_isWell (st : MS) : Prop := ∃ P, padOK st P
def qX3_isWell (st : MS) (r : Int32) (st1 : MS) : Prop := frm [] [2] st st1 ∧ ∀ P, padOK st P → r = b2 (rdA P 81 0).1 ∧ atOK st1 (rdA P 81 0).2.1
def pX3_tally (_ : Int32) (st : MS) : Prop := tabs st ∧ ∃ d l, sett st d l
def qX3_tally (x1 : Int32) (st : MS) (r : Int32) (st1 : MS) : Prop := frm [7, 8, 9, 10] [3, 4] st st1 ∧ tabs st1 ∧ ∀ d l, sett st d l → r = talG x1 d l
