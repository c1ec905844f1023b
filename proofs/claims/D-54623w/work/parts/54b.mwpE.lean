/-! WP of MorrisTables, E: printed by gen_mainE.py -/
-- begin()I
def wX0_begin_0 (H : HB) (post : Int32 → CS → Prop)   (S : CS) (mk : Bool) (cc : Nat) (sc : Nat) : Prop :=
  (cInv S) ∧ (cc + (rcC S) ≤ H.2.2.1 ∧ sc + (rcS S) ≤ H.2.2.2) ∧ ∀ (S_2 : CS), (∃ (u : Nat → Nat) (b : Nat) (mo : Int32), S_2 = recX S u b mo) → (True) ∧ ((cc + (rcC S)) + 2 ≤ H.2.2.1 ∧ (sc + (rcS S)) + 3 ≤ H.2.2.2) ∧ ∀ (S_4 : CS), (∃ u : Nat → Nat, u 0 = S_2.1.1 0 ∧ S_4 = ((u, gNew S_2.1.2.1 S_2.1.2.2.1), S_2.2)) → post (nI (nmv S_2.1.2)) S_4 ∧ H.1 = mk
-- set(II)I
def wX0_set_36 (H : HB) (post : Int32 → CS → Prop)  (x1 : Int32) (x2 : Int32) (S : CS) (mk : Bool) (cc : Nat) (sc : Nat) : Prop :=
  vp_in x1 2 ∧ ∃ (si_1 : Nat) (sv_2 : Nat), (si_1 < 2 ∧ x1 = nI si_1 ∧ x2 = nI sv_2) ∧ ∀ S_3 : CS, S_3 = ((S.1.1, setG S.1.2 si_1 sv_2), S.2) → (True) ∧ (cc + 2 ≤ H.2.2.1 ∧ sc + 3 ≤ H.2.2.2) ∧ ∀ (S_5 : CS), (∃ u : Nat → Nat, u 0 = S_3.1.1 0 ∧ S_5 = ((u, gNew S_3.1.2.1 S_3.1.2.2.1), S_3.2)) → post (set2 S.1.2.1 S.1.2.2.1 x1.toNatClampNeg) S_5 ∧ H.1 = mk
def wX0_set_34 (H : HB) (post : Int32 → CS → Prop)  (x3 : Int32) (S : CS) (mk : Bool) (cc : Nat) (sc : Nat) : Prop :=
  post x3 S ∧ H.1 = mk
def wX0_set_25 (H : HB) (post : Int32 → CS → Prop)  (x1 : Int32) (x2 : Int32) (s1 : Int32) (S : CS) (mk : Bool) (cc : Nat) (sc : Nat) : Prop :=
  (cOk S) ∧ (cc + (bgC s1 (1 : Int32) S) ≤ H.2.2.1 ∧ sc + (bgS s1 (1 : Int32) S) ≤ H.2.2.2) ∧ ∀ (r_1 : Int32) (S_2 : CS), (r_1 = s1 ∧ ((s1 = 0 ∧ (1 : Int32) ≠ 0 ∧ ∃ (u : Nat → Nat) (b : Nat) (mo : Int32), S_2 = recX S u b mo) ∨ (¬ (s1 = 0 ∧ (1 : Int32) ≠ 0) ∧ S_2 = S))) → ((0 ≤ r_1) → wX0_set_36 H post x1 x2 S_2 mk (cc + (bgC s1 (1 : Int32) S)) (sc + (bgS s1 (1 : Int32) S))) ∧ ((¬ 0 ≤ r_1) → wX0_set_34 H post r_1 S_2 mk (cc + (bgC s1 (1 : Int32) S)) (sc + (bgS s1 (1 : Int32) S)))
def wX0_set_23 (H : HB) (post : Int32 → CS → Prop)  (x1 : Int32) (x2 : Int32) (S : CS) (mk : Bool) (cc : Nat) (sc : Nat) : Prop :=
  wX0_set_25 H post x1 x2 (-2 : Int32) S mk cc sc
def wX0_set_19 (H : HB) (post : Int32 → CS → Prop)  (x1 : Int32) (x2 : Int32) (S : CS) (mk : Bool) (cc : Nat) (sc : Nat) : Prop :=
  wX0_set_25 H post x1 x2 (0 : Int32) S mk cc sc
def wX0_set_10 (H : HB) (post : Int32 → CS → Prop)  (x1 : Int32) (x2 : Int32) (S : CS) (mk : Bool) (cc : Nat) (sc : Nat) : Prop :=
  ∀ r_1 : Int32, qX0_isIn x2 (0 : Int32) (1 : Int32) r_1 → ((r_1 = 0) → wX0_set_23 H post x1 x2 S mk cc sc) ∧ ((¬ r_1 = 0) → wX0_set_19 H post x1 x2 S mk cc sc)
def wX0_set_0 (H : HB) (post : Int32 → CS → Prop)  (x1 : Int32) (x2 : Int32) (S : CS) (mk : Bool) (cc : Nat) (sc : Nat) : Prop :=
  ∀ r_1 : Int32, qX0_isIn x1 (0 : Int32) (1 : Int32) r_1 → ((r_1 = 0) → wX0_set_23 H post x1 x2 S mk cc sc) ∧ ((¬ r_1 = 0) → wX0_set_10 H post x1 x2 S mk cc sc)
-- wipe()I
def wX0_wipe_0 (H : HB) (post : Int32 → CS → Prop)   (S : CS) (mk : Bool) (cc : Nat) (sc : Nat) : Prop :=
  (S.2.2.2.1.2.2.2.length ≤ S.2.2.2.1.2.1 ∧ S.2.2.2.1.2.1 < 1000000) ∧ (cc + 0 ≤ H.2.2.1 ∧ sc + 0 ≤ H.2.2.2) ∧ ∀ (S_3 : CS), (∃ ml, S_3 = cPad S (S.2.2.2.1.1, S.2.2.2.1.2.1, S.2.2.2.1.2.2.1, []) ml) → post (nI S.2.2.2.1.2.2.2.length) S_3 ∧ H.1 = mk
