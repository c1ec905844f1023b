/-! WP of MorrisTables, C: printed by gen_mainC.py -/
-- with(I)I
def wX0_with_44 (H : HB) (post : Int32 → CS → Prop)  (x2 : Int32) (S : CS) (mk : Bool) (cc : Nat) (sc : Nat) : Prop :=
  post x2 S ∧ H.1 = mk
def wX0_with_36 (H : HB) (post : Int32 → CS → Prop) (L4 : Int32 → Int32 → Int32 → CS → Bool → Nat → Nat → Prop) (x1 : Int32) (x3 : Int32) (s0 : Int32) (s1 : Int32) (S : CS) (mk : Bool) (cc : Nat) (sc : Nat) : Prop :=
  L4 x1 (s0 + s1) (x3 + (1 : Int32)) S mk cc sc
def wX0_with_35 (H : HB) (post : Int32 → CS → Prop) (L4 : Int32 → Int32 → Int32 → CS → Bool → Nat → Nat → Prop) (x1 : Int32) (x3 : Int32) (s0 : Int32) (S : CS) (mk : Bool) (cc : Nat) (sc : Nat) : Prop :=
  wX0_with_36 H post L4 x1 x3 s0 (0 : Int32) S mk cc sc
def wX0_with_31 (H : HB) (post : Int32 → CS → Prop) (L4 : Int32 → Int32 → Int32 → CS → Bool → Nat → Nat → Prop) (x1 : Int32) (x3 : Int32) (s0 : Int32) (S : CS) (mk : Bool) (cc : Nat) (sc : Nat) : Prop :=
  wX0_with_36 H post L4 x1 x3 s0 (1 : Int32) S mk cc sc
def wX0_with_15 (H : HB) (post : Int32 → CS → Prop) (L4 : Int32 → Int32 → Int32 → CS → Bool → Nat → Nat → Prop) (x1 : Int32) (x2 : Int32) (x3 : Int32) (S : CS) (mk : Bool) (cc : Nat) (sc : Nat) : Prop :=
  (cOk S ∧ H.1 = true ∧ pS S = H.2.1) ∧ ∃ (bk_1 : Nat) (bd_2 : Bd), (cInv S ∧ (LB S.1.2.1)[bk_1]? = some bd_2 ∧ x3 = nI bk_1) ∧ ∀ r_4 : Int32, qJ12_signum (iI (wrb S.1.2.1 S.1.2.2.1 bd_2)) r_4 → ((¬ r_4 = x1) → wX0_with_35 H post L4 x1 x3 x2 S true cc sc) ∧ ((r_4 = x1) → wX0_with_31 H post L4 x1 x3 x2 S true cc sc)
def wX0_with_4_b (H : HB) (post : Int32 → CS → Prop) (L4 : Int32 → Int32 → Int32 → CS → Bool → Nat → Nat → Prop) (x1 : Int32) (x2 : Int32) (x3 : Int32) (S : CS) (mk : Bool) (cc : Nat) (sc : Nat) : Prop :=
  (cOk S ∧ H.1 = true ∧ pS S = H.2.1) ∧ cInv S ∧ (((nI (LB S.1.2.1).length) ≤ x3) → wX0_with_44 H post x2 S true cc sc) ∧ ((¬ (nI (LB S.1.2.1).length) ≤ x3) → wX0_with_15 H post L4 x1 x2 x3 S true cc sc)
def wX0_with_4 (H : HB) (post : Int32 → CS → Prop)  (x1 : Int32) (x2 : Int32) (x3 : Int32) (S : CS) (mk : Bool) (cc : Nat) (sc : Nat) : Prop :=
  wloop (V := Int32 × Int32 × Int32 × CS × Bool × Nat × Nat) (fun L v => wX0_with_4_b H post (fun x1 x2 x3 S mk cc sc => L (x1, x2, x3, S, mk, cc, sc)) v.1 v.2.1 v.2.2.1 v.2.2.2.1 v.2.2.2.2.1 v.2.2.2.2.2.1 v.2.2.2.2.2.2) (x1, x2, x3, S, mk, cc, sc)
def wX0_with_0 (H : HB) (post : Int32 → CS → Prop)  (x1 : Int32) (S : CS) (mk : Bool) (cc : Nat) (sc : Nat) : Prop :=
  wX0_with_4 H post x1 (0 : Int32) (0 : Int32) S mk cc sc
-- longest(Z)I
def wX0_longest_49 (H : HB) (post : Int32 → CS → Prop)  (x2 : Int32) (S : CS) (mk : Bool) (cc : Nat) (sc : Nat) : Prop :=
  post x2 S ∧ H.1 = mk
def wX0_longest_39 (H : HB) (post : Int32 → CS → Prop) (L4 : Int32 → Int32 → Int32 → CS → Bool → Nat → Nat → Prop) (x1 : Int32) (x3 : Int32) (s0 : Int32) (s1 : Int32) (S : CS) (mk : Bool) (cc : Nat) (sc : Nat) : Prop :=
  ∀ r_1 : Int32, qJ4_max s0 s1 r_1 → L4 x1 r_1 (x3 + (1 : Int32)) S mk cc sc
def wX0_longest_35 (H : HB) (post : Int32 → CS → Prop) (L4 : Int32 → Int32 → Int32 → CS → Bool → Nat → Nat → Prop) (x1 : Int32) (x3 : Int32) (x4 : Int32) (s0 : Int32) (S : CS) (mk : Bool) (cc : Nat) (sc : Nat) : Prop :=
  wX0_longest_39 H post L4 x1 x3 s0 ((-1 : Int32) - x4) S mk cc sc
def wX0_longest_30 (H : HB) (post : Int32 → CS → Prop) (L4 : Int32 → Int32 → Int32 → CS → Bool → Nat → Nat → Prop) (x1 : Int32) (x3 : Int32) (x4 : Int32) (s0 : Int32) (S : CS) (mk : Bool) (cc : Nat) (sc : Nat) : Prop :=
  wX0_longest_39 H post L4 x1 x3 s0 x4 S mk cc sc
def wX0_longest_15 (H : HB) (post : Int32 → CS → Prop) (L4 : Int32 → Int32 → Int32 → CS → Bool → Nat → Nat → Prop) (x1 : Int32) (x2 : Int32) (x3 : Int32) (S : CS) (mk : Bool) (cc : Nat) (sc : Nat) : Prop :=
  (cOk S ∧ H.1 = true ∧ pS S = H.2.1) ∧ ∃ (bk_1 : Nat) (bd_2 : Bd), (cInv S ∧ (LB S.1.2.1)[bk_1]? = some bd_2 ∧ x3 = nI bk_1) ∧ ((x1 = 0) → wX0_longest_35 H post L4 x1 x3 (iI (wrb S.1.2.1 S.1.2.2.1 bd_2)) x2 S true cc sc) ∧ ((¬ x1 = 0) → wX0_longest_30 H post L4 x1 x3 (iI (wrb S.1.2.1 S.1.2.2.1 bd_2)) x2 S true cc sc)
def wX0_longest_4_b (H : HB) (post : Int32 → CS → Prop) (L4 : Int32 → Int32 → Int32 → CS → Bool → Nat → Nat → Prop) (x1 : Int32) (x2 : Int32) (x3 : Int32) (S : CS) (mk : Bool) (cc : Nat) (sc : Nat) : Prop :=
  (cOk S ∧ H.1 = true ∧ pS S = H.2.1) ∧ cInv S ∧ (((nI (LB S.1.2.1).length) ≤ x3) → wX0_longest_49 H post x2 S true cc sc) ∧ ((¬ (nI (LB S.1.2.1).length) ≤ x3) → wX0_longest_15 H post L4 x1 x2 x3 S true cc sc)
def wX0_longest_4 (H : HB) (post : Int32 → CS → Prop)  (x1 : Int32) (x2 : Int32) (x3 : Int32) (S : CS) (mk : Bool) (cc : Nat) (sc : Nat) : Prop :=
  wloop (V := Int32 × Int32 × Int32 × CS × Bool × Nat × Nat) (fun L v => wX0_longest_4_b H post (fun x1 x2 x3 S mk cc sc => L (x1, x2, x3, S, mk, cc, sc)) v.1 v.2.1 v.2.2.1 v.2.2.2.1 v.2.2.2.2.1 v.2.2.2.2.2.1 v.2.2.2.2.2.2) (x1, x2, x3, S, mk, cc, sc)
def wX0_longest_0 (H : HB) (post : Int32 → CS → Prop)  (x1 : Int32) (S : CS) (mk : Bool) (cc : Nat) (sc : Nat) : Prop :=
  wX0_longest_4 H post x1 (0 : Int32) (0 : Int32) S mk cc sc
-- tally(I)I
def wX0_tally_40 (H : HB) (post : Int32 → CS → Prop)   (S : CS) (mk : Bool) (cc : Nat) (sc : Nat) : Prop :=
  (cOk S ∧ H.1 = true ∧ pS S = H.2.1) ∧ cInv S ∧ post (nI (LB S.1.2.1).length) S ∧ H.1 = true
def wX0_tally_48 (H : HB) (post : Int32 → CS → Prop)   (S : CS) (mk : Bool) (cc : Nat) (sc : Nat) : Prop :=
  (cOk S ∧ H.1 = true ∧ pS S = H.2.1) ∧ post (withX S.1.2.1 S.1.2.2.1 (1 : Int32)) S ∧ H.1 = true
def wX0_tally_54 (H : HB) (post : Int32 → CS → Prop)   (S : CS) (mk : Bool) (cc : Nat) (sc : Nat) : Prop :=
  (cOk S ∧ H.1 = true ∧ pS S = H.2.1) ∧ post (withX S.1.2.1 S.1.2.2.1 (-1 : Int32)) S ∧ H.1 = true
def wX0_tally_60 (H : HB) (post : Int32 → CS → Prop)   (S : CS) (mk : Bool) (cc : Nat) (sc : Nat) : Prop :=
  (cOk S ∧ H.1 = true ∧ pS S = H.2.1) ∧ post (withX S.1.2.1 S.1.2.2.1 (0 : Int32)) S ∧ H.1 = true
def wX0_tally_77 (H : HB) (post : Int32 → CS → Prop)  (s1 : Int32) (S : CS) (mk : Bool) (cc : Nat) (sc : Nat) : Prop :=
  (cOk S ∧ H.1 = true ∧ pS S = H.2.1) ∧ post (lonX S.1.2.1 S.1.2.2.1 s1) S ∧ H.1 = true
def wX0_tally_76 (H : HB) (post : Int32 → CS → Prop)   (S : CS) (mk : Bool) (cc : Nat) (sc : Nat) : Prop :=
  wX0_tally_77 H post (0 : Int32) S mk cc sc
def wX0_tally_72 (H : HB) (post : Int32 → CS → Prop)   (S : CS) (mk : Bool) (cc : Nat) (sc : Nat) : Prop :=
  wX0_tally_77 H post (1 : Int32) S mk cc sc
def wX0_tally_66 (H : HB) (post : Int32 → CS → Prop)  (x1 : Int32) (S : CS) (mk : Bool) (cc : Nat) (sc : Nat) : Prop :=
  ((¬ x1 = (4 : Int32)) → wX0_tally_76 H post S mk cc sc) ∧ ((x1 = (4 : Int32)) → wX0_tally_72 H post S mk cc sc)
def wX0_tally_81 (H : HB) (post : Int32 → CS → Prop)   (S : CS) (mk : Bool) (cc : Nat) (sc : Nat) : Prop :=
  post (-2 : Int32) S ∧ H.1 = mk
def wX0_tally_0 (H : HB) (post : Int32 → CS → Prop)  (x1 : Int32) (S : CS) (mk : Bool) (cc : Nat) (sc : Nat) : Prop :=
  (x1 = (0 : Int32) → wX0_tally_40 H post S mk cc sc) ∧ (x1 = (1 : Int32) → wX0_tally_48 H post S mk cc sc) ∧ (x1 = (2 : Int32) → wX0_tally_54 H post S mk cc sc) ∧ (x1 = (3 : Int32) → wX0_tally_60 H post S mk cc sc) ∧ (x1 = (4 : Int32) → wX0_tally_66 H post x1 S mk cc sc) ∧ (x1 = (5 : Int32) → wX0_tally_66 H post x1 S mk cc sc) ∧ (¬ x1 = (0 : Int32) → ¬ x1 = (1 : Int32) → ¬ x1 = (2 : Int32) → ¬ x1 = (3 : Int32) → ¬ x1 = (4 : Int32) → ¬ x1 = (5 : Int32) → wX0_tally_81 H post S mk cc sc)
-- share()I
def wX0_share_0 (H : HB) (post : Int32 → CS → Prop)   (S : CS) (mk : Bool) (cc : Nat) (sc : Nat) : Prop :=
  (cOk S ∧ H.1 = true ∧ pS S = H.2.1) ∧ (cOk S ∧ H.1 = true ∧ pS S = H.2.1) ∧ cInv S ∧ vf_n32 (FP.fdiv (FP.i2f (withX S.1.2.1 S.1.2.2.1 (1 : Int32))) (FP.i2f (nI (LB S.1.2.1).length))) ∧ ∀ r_1 : Int32, qJ13_floatToIntBits (FP.fdiv (FP.i2f (withX S.1.2.1 S.1.2.2.1 (1 : Int32))) (FP.i2f (nI (LB S.1.2.1).length))) r_1 → post r_1 S ∧ H.1 = true
-- many(I)I
def wX0_many_58 (H : HB) (post : Int32 → CS → Prop)  (x2 : Int32) (S : CS) (mk : Bool) (cc : Nat) (sc : Nat) : Prop :=
  post x2 S ∧ H.1 = mk
def wX0_many_50 (H : HB) (post : Int32 → CS → Prop) (L18 : Int32 → Int32 → Int32 → CS → Bool → Nat → Nat → Prop) (x1 : Int32) (x3 : Int32) (s0 : Int32) (s1 : Int32) (S : CS) (mk : Bool) (cc : Nat) (sc : Nat) : Prop :=
  L18 x1 (s0 + s1) (x3 + (1 : Int32)) S mk cc sc
def wX0_many_49 (H : HB) (post : Int32 → CS → Prop) (L18 : Int32 → Int32 → Int32 → CS → Bool → Nat → Nat → Prop) (x1 : Int32) (x3 : Int32) (s0 : Int32) (S : CS) (mk : Bool) (cc : Nat) (sc : Nat) : Prop :=
  wX0_many_50 H post L18 x1 x3 s0 (0 : Int32) S mk cc sc
def wX0_many_45 (H : HB) (post : Int32 → CS → Prop) (L18 : Int32 → Int32 → Int32 → CS → Bool → Nat → Nat → Prop) (x1 : Int32) (x3 : Int32) (s0 : Int32) (S : CS) (mk : Bool) (cc : Nat) (sc : Nat) : Prop :=
  wX0_many_50 H post L18 x1 x3 s0 (1 : Int32) S mk cc sc
def wX0_many_29 (H : HB) (post : Int32 → CS → Prop) (L18 : Int32 → Int32 → Int32 → CS → Bool → Nat → Nat → Prop) (x1 : Int32) (x2 : Int32) (x3 : Int32) (S : CS) (mk : Bool) (cc : Nat) (sc : Nat) : Prop :=
  (cOk S ∧ H.1 = true ∧ pS S = H.2.1) ∧ ∃ (bk_1 : Nat) (bd_2 : Bd), (cInv S ∧ (LB S.1.2.1)[bk_1]? = some bd_2 ∧ x3 = nI bk_1) ∧ ((¬ (iI (wrb S.1.2.1 S.1.2.2.1 bd_2)) = (x1 - (100 : Int32))) → wX0_many_49 H post L18 x1 x3 x2 S true cc sc) ∧ (((iI (wrb S.1.2.1 S.1.2.2.1 bd_2)) = (x1 - (100 : Int32))) → wX0_many_45 H post L18 x1 x3 x2 S true cc sc)
def wX0_many_18_b (H : HB) (post : Int32 → CS → Prop) (L18 : Int32 → Int32 → Int32 → CS → Bool → Nat → Nat → Prop) (x1 : Int32) (x2 : Int32) (x3 : Int32) (S : CS) (mk : Bool) (cc : Nat) (sc : Nat) : Prop :=
  (cOk S ∧ H.1 = true ∧ pS S = H.2.1) ∧ cInv S ∧ (((nI (LB S.1.2.1).length) ≤ x3) → wX0_many_58 H post x2 S true cc sc) ∧ ((¬ (nI (LB S.1.2.1).length) ≤ x3) → wX0_many_29 H post L18 x1 x2 x3 S true cc sc)
def wX0_many_18 (H : HB) (post : Int32 → CS → Prop)  (x1 : Int32) (x2 : Int32) (x3 : Int32) (S : CS) (mk : Bool) (cc : Nat) (sc : Nat) : Prop :=
  wloop (V := Int32 × Int32 × Int32 × CS × Bool × Nat × Nat) (fun L v => wX0_many_18_b H post (fun x1 x2 x3 S mk cc sc => L (x1, x2, x3, S, mk, cc, sc)) v.1 v.2.1 v.2.2.1 v.2.2.2.1 v.2.2.2.2.1 v.2.2.2.2.2.1 v.2.2.2.2.2.2) (x1, x2, x3, S, mk, cc, sc)
def wX0_many_14 (H : HB) (post : Int32 → CS → Prop)  (x1 : Int32) (S : CS) (mk : Bool) (cc : Nat) (sc : Nat) : Prop :=
  wX0_many_18 H post x1 (0 : Int32) (0 : Int32) S mk cc sc
def wX0_many_11 (H : HB) (post : Int32 → CS → Prop)   (S : CS) (mk : Bool) (cc : Nat) (sc : Nat) : Prop :=
  post (-2 : Int32) S ∧ H.1 = mk
def wX0_many_0 (H : HB) (post : Int32 → CS → Prop)  (x1 : Int32) (S : CS) (mk : Bool) (cc : Nat) (sc : Nat) : Prop :=
  ∀ r_1 : Int32, qX0_isIn x1 (0 : Int32) (200 : Int32) r_1 → ((¬ r_1 = 0) → wX0_many_14 H post x1 S mk cc sc) ∧ ((r_1 = 0) → wX0_many_11 H post S mk cc sc)
