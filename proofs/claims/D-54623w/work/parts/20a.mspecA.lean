/-! SPECS of the reference's methods -/
/-- the open board -/
def opn (st : MS) (f s mv : Nat) : Prop := bok f s mv ∧ (∀ k, k < 9 → st.1 7 k = nI (cel f s k)) ∧ st.2 3 = nI mv
def sett (st : MS) (d l : Nat) : Prop := st.1 0 0 = nI d ∧ st.1 0 1 = nI l ∧ d < 2 ∧ l < 2
def frm (as fs : List Nat) (st st' : MS) : Prop := (∀ k, k ∉ as → st'.1 k = st.1 k) ∧ (∀ k, k ∉ fs → st'.2 k = st.2 k)
theorem frm.refl (as fs : List Nat) (st : MS) : frm as fs st st := ⟨fun _ _ => rfl, fun _ _ => rfl⟩
theorem frm.trans {as fs : List Nat} {a b c : MS} (h : frm as fs a b) (h' : frm as fs b c) : frm as fs a c := ⟨fun k hk => (h'.1 k hk).trans (h.1 k hk), fun k hk => (h'.2 k hk).trans (h.2 k hk)⟩
theorem frm.mono {as fs as' fs' : List Nat} {a b : MS} (h : frm as fs a b) (h1 : ∀ k ∈ as, k ∈ as') (h2 : ∀ k ∈ fs, k ∈ fs') : frm as' fs' a b := ⟨fun k hk => h.1 k (fun q => hk (h1 k q)), fun k hk => h.2 k (fun q => hk (h2 k q))⟩
theorem frm_A {as fs : List Nat} {a b : MS} {k i : Nat} {v : Int32} (h : frm as fs a b) (hk : k ∈ as) : frm as fs a (mA b k i v) := ⟨fun j hj => by rw [← h.1 j hj]; exact va_up_ne _ _ (fun q => hj (q ▸ hk)), h.2⟩
theorem frm_F {as fs : List Nat} {a b : MS} {k : Nat} {v : Int32} (h : frm as fs a b) (hk : k ∈ fs) : frm as fs a (mF b k v) := ⟨h.1, fun j hj => by rw [← h.2 j hj]; exact va_up_ne _ _ (fun q => hj (q ▸ hk))⟩
theorem mA_self (st : MS) (k i : Nat) (v : Int32) : (mA st k i v).1 k = upd (st.1 k) i v := va_up_self _ _ _
theorem mA_ne (st : MS) {k j : Nat} (i : Nat) (v : Int32) (h : j ≠ k) : (mA st k i v).1 j = st.1 j := va_up_ne _ _ h
theorem mA_F (st : MS) (k i : Nat) (v : Int32) : (mA st k i v).2 = st.2 := rfl
theorem mF_A (st : MS) (k : Nat) (v : Int32) : (mF st k v).1 = st.1 := rfl
theorem mF_self (st : MS) (k : Nat) (v : Int32) : (mF st k v).2 k = v := va_up_self _ _ _
theorem mF_ne (st : MS) {k j : Nat} (v : Int32) (h : j ≠ k) : (mF st k v).2 j = st.2 j := va_up_ne _ _ h
def qX3_in (x0 : Int64) (x2 x3 : Int32) (r : Int32) : Prop := r = b2 (decide (x2.toInt ≤ x0.toInt ∧ x0.toInt ≤ x3.toInt))
def pX3_now (st : MS) : Prop := ∃ n, n < 7000 ∧ st.1 0 2 = nI n
def qX3_now (st : MS) (r : Int32) : Prop := ∀ n, n < 7000 → st.1 0 2 = nI n → r = st.1 0 (3 + n)
def pX3_open (x1 : Int32) (_ : MS) : Prop := ∃ f s mv, bok f s mv ∧ x1 = nI (cod f s mv)
def qX3_open (x1 : Int32) (st st1 : MS) : Prop := frm [7] [3] st st1 ∧ ∀ f s mv, bok f s mv → x1 = nI (cod f s mv) → opn st1 f s mv
def pX3_code (st : MS) : Prop := ∃ f s mv, opn st f s mv
def qX3_code (st : MS) (r : Int32) : Prop := ∀ f s mv, opn st f s mv → r = nI (cod f s mv)
def pX3_men (x1 : Int32) (st : MS) : Prop := (∃ f s mv, opn st f s mv) ∧ ∃ pl, pl < 2 ∧ x1 = nI pl
def qX3_men (x1 : Int32) (st : MS) (r : Int32) : Prop := ∀ f s mv pl, opn st f s mv → pl < 2 → x1 = nI pl → r = nI (cnt (sid f s pl))
def pX3_three (x1 x2 x3 : Int32) (st : MS) : Prop := (∃ f s mv, opn st f s mv) ∧ (∃ pl, pl < 2 ∧ x1 = nI pl) ∧ ∃ i j, x2 = nI i ∧ x3 = nI j ∧ i + 2 * j < 9
def qX3_three (x1 x2 x3 : Int32) (st : MS) (r : Int32) : Prop := ∀ f s mv pl i j, opn st f s mv → pl < 2 → x1 = nI pl → x2 = nI i → x3 = nI j → i + 2 * j < 9 → r = b2 ((sid f s pl).testBit i && (sid f s pl).testBit (i + j) && (sid f s pl).testBit (i + 2 * j))
def pX3_hasLine (x1 : Int32) (st : MS) : Prop := (∃ f s mv, opn st f s mv) ∧ (∃ pl, pl < 2 ∧ x1 = nI pl) ∧ ∃ d l, sett st d l
def qX3_hasLine (x1 : Int32) (st : MS) (r : Int32) : Prop := ∀ f s mv pl d l, opn st f s mv → pl < 2 → x1 = nI pl → sett st d l → r = b2 (hasL d (sid f s pl))
def pX3_areNeighbours (x1 x2 : Int32) (st : MS) : Prop := (∃ d l, sett st d l) ∧ ∃ i j, i < 9 ∧ j < 9 ∧ x1 = nI i ∧ x2 = nI j
def qX3_areNeighbours (x1 x2 : Int32) (st : MS) (r : Int32) : Prop := ∀ d l i j, sett st d l → i < 9 → j < 9 → x1 = nI i → x2 = nI j → r = b2 (isNb d i j)
def pX3_isLegal (st : MS) : Prop := (∃ f s mv, opn st f s mv) ∧ ∃ d l, sett st d l
def qX3_isLegal (st : MS) (r : Int32) : Prop := ∀ f s mv d l, opn st f s mv → sett st d l → r = b2 (legal d f s mv)
def pX3_look (st : MS) : Prop := (∃ f s mv, opn st f s mv) ∧ ∃ d l, sett st d l
/-- the list of moves holds L -/
def lst (st : MS) (L : List Nat) : Prop := st.2 4 = nI L.length ∧ ∀ j, j < L.length → st.1 8 j = nI (L.getD j 0)
def qX3_look (st st1 : MS) : Prop := frm [8] [4] st st1 ∧ ∀ f s mv d l, opn st f s mv → sett st d l → lst st1 (lookL d l (sid f s mv) (sid f s (1 - mv)))
def pX3_next (x1 : Int32) (st : MS) : Prop := ∃ f s mv q, opn st f s mv ∧ x1 = nI q ∧ okm (sid f s mv) (sid f s (1 - mv)) q
def qX3_next (x1 : Int32) (st : MS) (r : Int32) (st1 : MS) : Prop := frm [7] [3] st st1 ∧ ∀ f s mv q, opn st f s mv → x1 = nI q → okm (sid f s mv) (sid f s (1 - mv)) q → opn st1 f s mv ∧ bok (nxb (f, s, mv) q).1 (nxb (f, s, mv) q).2.1 (nxb (f, s, mv) q).2.2 ∧ r = nI (cod (nxb (f, s, mv) q).1 (nxb (f, s, mv) q).2.1 (nxb (f, s, mv) q).2.2)
