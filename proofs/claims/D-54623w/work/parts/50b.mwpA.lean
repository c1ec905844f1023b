/-! WP of MorrisTables, A: printed by gen_mainA.py -/
-- hasLost()Z
def wX0_hasLost_0 (H : HB) (post : Int32 → CS → Prop)   (S : CS) (mk : Bool) (cc : Nat) (sc : Nat) : Prop :=
  (cOk S ∧ H.1 = true ∧ pS S = H.2.1) ∧ cInv S ∧ cInv S ∧ cInv S ∧ isB (b2 (lostG S.1.2)) ∧ post (b2 (lostG S.1.2)) S ∧ H.1 = true
-- isOver()Z
def wX0_isOver_23 (H : HB) (post : Int32 → CS → Prop)  (s0 : Int32) (S : CS) (mk : Bool) (cc : Nat) (sc : Nat) : Prop :=
  isB s0 ∧ post s0 S ∧ H.1 = mk
def wX0_isOver_18 (H : HB) (post : Int32 → CS → Prop)   (S : CS) (mk : Bool) (cc : Nat) (sc : Nat) : Prop :=
  wX0_isOver_23 H post (1 : Int32) S mk cc sc
def wX0_isOver_22 (H : HB) (post : Int32 → CS → Prop)   (S : CS) (mk : Bool) (cc : Nat) (sc : Nat) : Prop :=
  wX0_isOver_23 H post (0 : Int32) S mk cc sc
def wX0_isOver_7 (H : HB) (post : Int32 → CS → Prop)   (S : CS) (mk : Bool) (cc : Nat) (sc : Nat) : Prop :=
  pX2_times S.1.2 ∧ (((nI (oftG S.1.2)) < (3 : Int32)) → wX0_isOver_22 H post S mk cc sc) ∧ ((¬ (nI (oftG S.1.2)) < (3 : Int32)) → wX0_isOver_18 H post S mk cc sc)
def wX0_isOver_0 (H : HB) (post : Int32 → CS → Prop)   (S : CS) (mk : Bool) (cc : Nat) (sc : Nat) : Prop :=
  (cOk S ∧ H.1 = true ∧ pS S = H.2.1) ∧ ((¬ (b2 (lostG S.1.2)) = 0) → wX0_isOver_18 H post S true cc sc) ∧ (((b2 (lostG S.1.2)) = 0) → wX0_isOver_7 H post S true cc sc)
-- isDrawn()Z
def wX0_isDrawn_23 (H : HB) (post : Int32 → CS → Prop)  (s0 : Int32) (S : CS) (mk : Bool) (cc : Nat) (sc : Nat) : Prop :=
  isB s0 ∧ post s0 S ∧ H.1 = mk
def wX0_isDrawn_22 (H : HB) (post : Int32 → CS → Prop)   (S : CS) (mk : Bool) (cc : Nat) (sc : Nat) : Prop :=
  wX0_isDrawn_23 H post (0 : Int32) S mk cc sc
def wX0_isDrawn_18 (H : HB) (post : Int32 → CS → Prop)   (S : CS) (mk : Bool) (cc : Nat) (sc : Nat) : Prop :=
  wX0_isDrawn_23 H post (1 : Int32) S mk cc sc
def wX0_isDrawn_7 (H : HB) (post : Int32 → CS → Prop)   (S : CS) (mk : Bool) (cc : Nat) (sc : Nat) : Prop :=
  pX2_times S.1.2 ∧ (((nI (oftG S.1.2)) < (3 : Int32)) → wX0_isDrawn_22 H post S mk cc sc) ∧ ((¬ (nI (oftG S.1.2)) < (3 : Int32)) → wX0_isDrawn_18 H post S mk cc sc)
def wX0_isDrawn_0 (H : HB) (post : Int32 → CS → Prop)   (S : CS) (mk : Bool) (cc : Nat) (sc : Nat) : Prop :=
  (cOk S ∧ H.1 = true ∧ pS S = H.2.1) ∧ ((¬ (b2 (lostG S.1.2)) = 0) → wX0_isDrawn_22 H post S true cc sc) ∧ (((b2 (lostG S.1.2)) = 0) → wX0_isDrawn_7 H post S true cc sc)
-- isMove(I)Z
def wX0_isMove_31 (H : HB) (post : Int32 → CS → Prop)  (s0 : Int32) (S : CS) (mk : Bool) (cc : Nat) (sc : Nat) : Prop :=
  isB s0 ∧ post s0 S ∧ H.1 = mk
def wX0_isMove_30 (H : HB) (post : Int32 → CS → Prop)   (S : CS) (mk : Bool) (cc : Nat) (sc : Nat) : Prop :=
  wX0_isMove_31 H post (0 : Int32) S mk cc sc
def wX0_isMove_26 (H : HB) (post : Int32 → CS → Prop)   (S : CS) (mk : Bool) (cc : Nat) (sc : Nat) : Prop :=
  wX0_isMove_31 H post (1 : Int32) S mk cc sc
def wX0_isMove_7 (H : HB) (post : Int32 → CS → Prop)  (x1 : Int32) (S : CS) (mk : Bool) (cc : Nat) (sc : Nat) : Prop :=
  (cOk S ∧ H.1 = true ∧ pS S = H.2.1) ∧ cInv S ∧ cInv S ∧ cInv S ∧ (((b2 (isMvX S.1.2 x1)) = 0) → wX0_isMove_30 H post S true cc sc) ∧ ((¬ (b2 (isMvX S.1.2 x1)) = 0) → wX0_isMove_26 H post S true cc sc)
def wX0_isMove_0 (H : HB) (post : Int32 → CS → Prop)  (x1 : Int32) (S : CS) (mk : Bool) (cc : Nat) (sc : Nat) : Prop :=
  (cOk S ∧ H.1 = true ∧ pS S = H.2.1) ∧ ((¬ (b2 (overG S.1.2)) = 0) → wX0_isMove_30 H post S true cc sc) ∧ (((b2 (overG S.1.2)) = 0) → wX0_isMove_7 H post x1 S true cc sc)
-- worthNow()I
def wX0_worthNow_0 (H : HB) (post : Int32 → CS → Prop)   (S : CS) (mk : Bool) (cc : Nat) (sc : Nat) : Prop :=
  (cOk S ∧ H.1 = true ∧ pS S = H.2.1) ∧ ∃ (bd_1 : Bd), (cInv S ∧ bd_1 ∈ LB S.1.2.1 ∧ (set2 (cur S.1.2).1 (cur S.1.2).2.1 (0 : Int32).toNatClampNeg) = nI bd_1.1 ∧ (set2 (cur S.1.2).1 (cur S.1.2).2.1 (1 : Int32).toNatClampNeg) = nI bd_1.2.1 ∧ (nI (cur S.1.2).2.2) = nI bd_1.2.2) ∧ post (iI (wrb S.1.2.1 S.1.2.2.1 bd_1)) S ∧ H.1 = true
-- behindNow(I)I
def wX0_behindNow_0 (H : HB) (post : Int32 → CS → Prop)  (x1 : Int32) (S : CS) (mk : Bool) (cc : Nat) (sc : Nat) : Prop :=
  (cOk S ∧ H.1 = true ∧ pS S = H.2.1) ∧ ∃ (bq_1 : Nat), (cInv S ∧ bq_1 ∈ mvC S.1.2 ∧ (set2 (cur S.1.2).1 (cur S.1.2).2.1 (0 : Int32).toNatClampNeg) = nI (cur S.1.2).1 ∧ (set2 (cur S.1.2).1 (cur S.1.2).2.1 (1 : Int32).toNatClampNeg) = nI (cur S.1.2).2.1 ∧ (nI (cur S.1.2).2.2) = nI (cur S.1.2).2.2 ∧ x1 = nI bq_1) ∧ post (iI (wB S.1.2 bq_1)) S ∧ H.1 = true
-- begun(IZ)I
def wX0_begun_12 (H : HB) (post : Int32 → CS → Prop)  (x1 : Int32) (S : CS) (mk : Bool) (cc : Nat) (sc : Nat) : Prop :=
  post x1 S ∧ H.1 = mk
def wX0_begun_8 (H : HB) (post : Int32 → CS → Prop)  (x1 : Int32) (S : CS) (mk : Bool) (cc : Nat) (sc : Nat) : Prop :=
  (cInv S) ∧ (cc + (rcC S) ≤ H.2.2.1 ∧ sc + (rcS S) ≤ H.2.2.2) ∧ ∀ (S_2 : CS), (∃ (u : Nat → Nat) (b : Nat) (mo : Int32), S_2 = recX S u b mo) → wX0_begun_12 H post x1 S_2 mk (cc + (rcC S)) (sc + (rcS S))
def wX0_begun_4 (H : HB) (post : Int32 → CS → Prop)  (x1 : Int32) (x2 : Int32) (S : CS) (mk : Bool) (cc : Nat) (sc : Nat) : Prop :=
  ((x2 = 0) → wX0_begun_12 H post x1 S mk cc sc) ∧ ((¬ x2 = 0) → wX0_begun_8 H post x1 S mk cc sc)
def wX0_begun_0 (H : HB) (post : Int32 → CS → Prop)  (x1 : Int32) (x2 : Int32) (S : CS) (mk : Bool) (cc : Nat) (sc : Nat) : Prop :=
  ((¬ x1 = 0) → wX0_begun_12 H post x1 S mk cc sc) ∧ ((x1 = 0) → wX0_begun_4 H post x1 x2 S mk cc sc)
