/-! SPECS of the reference's methods, group C: the game -/
/-- a row holds a game -/
def rowOK (row : Nat → Int32) (g : Gm) : Prop := gok g ∧ g.2.2.length ≤ 7000 ∧ row 0 = nI g.1 ∧ row 1 = nI g.2.1 ∧ row 2 = nI (nmv g) ∧ ∀ k, k < g.2.2.length → row (3 + k) = nI (codB (g.2.2.getD k (0, 0, 0)))
def gst (st : MS) (g : Gm) : Prop := rowOK (st.1 0) g
def opnB (st : MS) (b : Bd) : Prop := opn st b.1 b.2.1 b.2.2
def pX3_hasLost (st : MS) : Prop := ∃ g, gst st g
def qX3_hasLost (st : MS) (r : Int32) (st1 : MS) : Prop := frm [7, 8] [3, 4] st st1 ∧ ∀ g, gst st g → r = b2 (lostG g) ∧ opnB st1 (cur g)
def pX3_often (st : MS) : Prop := ∃ g, gst st g
def qX3_often (st : MS) (r : Int32) : Prop := ∀ g, gst st g → r = nI (oftG g)
def pX3_isOver (st : MS) : Prop := ∃ g, gst st g
def qX3_isOver (st : MS) (r : Int32) (st1 : MS) : Prop := frm [7, 8] [3, 4] st st1 ∧ ∀ g, gst st g → r = b2 (overG g)
def pX3_isDrawn (st : MS) : Prop := ∃ g, gst st g
def qX3_isDrawn (st : MS) (r : Int32) (st1 : MS) : Prop := frm [7, 8] [3, 4] st st1 ∧ ∀ g, gst st g → r = b2 (decide (3 ≤ oftG g) && !lostG g)
def pX3_lookNow (st : MS) : Prop := ∃ g, gst st g
def qX3_lookNow (st st1 : MS) : Prop := frm [7, 8] [3, 4] st st1 ∧ ∀ g, gst st g → opnB st1 (cur g) ∧ lst st1 (mvG g)
def pX3_isMove (_ : Int32) (st : MS) : Prop := ∃ g, gst st g
def qX3_isMove (x1 : Int32) (st : MS) (r : Int32) (st1 : MS) : Prop := frm [7, 8] [3, 4] st st1 ∧ ∀ g, gst st g → r = b2 (askG g x1).isSome
def pX3_goes (x1 : Int32) (st : MS) : Prop := ∃ g q, gst st g ∧ g.2.2.length < 7000 ∧ q ∈ mvC g ∧ x1 = nI q
def qX3_goes (x1 : Int32) (st st1 : MS) : Prop := frm [0, 7] [3] st st1 ∧ ∀ g q, gst st g → g.2.2.length < 7000 → q ∈ mvC g → x1 = nI q → gst st1 (goG g q)
def pX3_bestMove (st : MS) : Prop := tabs st ∧ ∃ g, gst st g ∧ overG g = false
def qX3_bestMove (st : MS) (r : Int32) (st1 : MS) : Prop := frm [7, 8, 9, 10] [3, 4] st st1 ∧ tabs st1 ∧ ∀ g, gst st g → overG g = false → r = nI (bestG g)
def pX3_anew (_ : MS) : Prop := True
def qX3_anew (st st1 : MS) : Prop := frm [0] [] st st1 ∧ st1.1 0 0 = st.1 0 0 ∧ st1.1 0 1 = st.1 0 1 ∧ ∀ k, 2 ≤ k → k < 7003 → st1.1 0 k = 0
def pX3_moves (_ x2 : Int32) (st : MS) : Prop := isB x2 ∧ ∃ g, gst st g ∧ g.2.2.length < 7000
def qX3_moves (x1 x2 : Int32) (st : MS) (r : Int32) (st1 : MS) : Prop := frm [0, 7, 8] [3, 4] st st1 ∧ ∀ g, gst st g → g.2.2.length < 7000 → r = (mvsG x1 (decide (x2 ≠ 0)) g).1 ∧ gst st1 (mvsG x1 (decide (x2 ≠ 0)) g).2
def pX3_places (_ : Int32) (st : MS) : Prop := ∃ g, gst st g ∧ g.2.2.length < 7000
def qX3_places (x1 : Int32) (st : MS) (r : Int32) (st1 : MS) : Prop := frm [0, 7, 8] [3, 4] st st1 ∧ ∀ g, gst st g → g.2.2.length < 7000 → r = (placesG x1 g).1 ∧ gst st1 (placesG x1 g).2
def pX3_slides (_ _ : Int32) (st : MS) : Prop := ∃ g, gst st g ∧ g.2.2.length < 7000
def qX3_slides (x1 x2 : Int32) (st : MS) (r : Int32) (st1 : MS) : Prop := frm [0, 7, 8] [3, 4] st st1 ∧ ∀ g, gst st g → g.2.2.length < 7000 → r = (slidesG x1 x2 g).1 ∧ gst st1 (slidesG x1 x2 g).2
def pX3_plays (x1 : Int32) (st : MS) : Prop := tabs st ∧ ∃ g, gst st g ∧ (playsG x1 g).2.2.2.length ≤ 7000
def qX3_plays (x1 : Int32) (st : MS) (r : Int32) (st1 : MS) : Prop := frm [0, 7, 8, 9, 10] [3, 4] st st1 ∧ tabs st1 ∧ ∀ g, gst st g → (playsG x1 g).2.2.2.length ≤ 7000 → r = (playsG x1 g).1 ∧ gst st1 (playsG x1 g).2
def pX3_remember (_ : MS) : Prop := True
def qX3_remember (st st1 : MS) : Prop := frm [2] [] st st1 ∧ ∀ k, k < 7003 → st1.1 2 k = st.1 0 k
def pX3_record (_ : Int32) (st : MS) : Prop := ∃ n, n ≤ 6 ∧ st.2 0 = nI n
def qX3_record (x1 : Int32) (st : MS) (r : Int32) (st1 : MS) : Prop := r = x1 ∧ ((x1 < 0 ∧ st1 = st) ∨ (¬ x1 < 0 ∧ frm [1] [0] st st1 ∧ ∀ n, n ≤ 6 → st.2 0 = nI n →
  (n < 6 → st1.2 0 = nI (n + 1) ∧ (∀ i, i < 7003 * n → st1.1 1 i = st.1 1 i) ∧ ∀ k, k < 7003 → st1.1 1 (7003 * n + k) = st.1 2 k) ∧
  (n = 6 → st1.2 0 = nI 6 ∧ (∀ i, i < 35015 → st1.1 1 i = st.1 1 (7003 + i)) ∧ ∀ k, k < 7003 → st1.1 1 (35015 + k) = st.1 2 k)))
