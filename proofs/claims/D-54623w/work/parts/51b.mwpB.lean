/-! WP of MorrisTables, B: printed by gen_mainB.py -/
-- isPoint(I)Z
def wX0_isPoint_0 (post : Int32 → Unit → Prop)  (x0 : Int32)  : Prop :=
  ∀ r_1 : Int32, qX0_isIn x0 (0 : Int32) (8 : Int32) r_1 → isB r_1 ∧ post r_1 ()
-- bestMove()I
def wX0_bestMove_57 (H : HB) (post : Int32 → CS → Prop) (L29 : Int32 → Int32 → CS → Bool → Nat → Nat → Prop) (x2 : Int32) (x3 : Int32) (S : CS) (mk : Bool) (cc : Nat) (sc : Nat) : Prop :=
  L29 x2 (x3 + (1 : Int32)) S mk cc sc
def wX0_bestMove_63 (H : HB) (post : Int32 → CS → Prop)  (x3 : Int32) (S : CS) (mk : Bool) (cc : Nat) (sc : Nat) : Prop :=
  post x3 S ∧ H.1 = mk
def wX0_bestMove_48 (H : HB) (post : Int32 → CS → Prop) (L29 : Int32 → Int32 → CS → Bool → Nat → Nat → Prop) (x2 : Int32) (x3 : Int32) (S : CS) (mk : Bool) (cc : Nat) (sc : Nat) : Prop :=
  (cOk S ∧ H.1 = true ∧ pS S = H.2.1) ∧ (∃ q ∈ mvC S.1.2, x3 = nI q) ∧ (((iI (wB S.1.2 x3.toNatClampNeg)) = x2) → wX0_bestMove_63 H post x3 S true cc sc) ∧ ((¬ (iI (wB S.1.2 x3.toNatClampNeg)) = x2) → wX0_bestMove_57 H post L29 x2 x3 S true cc sc)
def wX0_bestMove_29_b (H : HB) (post : Int32 → CS → Prop) (L29 : Int32 → Int32 → CS → Bool → Nat → Nat → Prop) (x2 : Int32) (x3 : Int32) (S : CS) (mk : Bool) (cc : Nat) (sc : Nat) : Prop :=
  (cOk S ∧ H.1 = true ∧ pS S = H.2.1) ∧ cInv S ∧ cInv S ∧ cInv S ∧ (((b2 (isMvX S.1.2 x3)) = 0) → wX0_bestMove_57 H post L29 x2 x3 S true cc sc) ∧ ((¬ (b2 (isMvX S.1.2 x3)) = 0) → wX0_bestMove_48 H post L29 x2 x3 S true cc sc)
def wX0_bestMove_29 (H : HB) (post : Int32 → CS → Prop)  (x2 : Int32) (x3 : Int32) (S : CS) (mk : Bool) (cc : Nat) (sc : Nat) : Prop :=
  wloop (V := Int32 × Int32 × CS × Bool × Nat × Nat) (fun L v => wX0_bestMove_29_b H post (fun x2 x3 S mk cc sc => L (x2, x3, S, mk, cc, sc)) v.1 v.2.1 v.2.2.1 v.2.2.2.1 v.2.2.2.2.1 v.2.2.2.2.2) (x2, x3, S, mk, cc, sc)
def wX0_bestMove_26 (H : HB) (post : Int32 → CS → Prop)  (s0 : Int32) (S : CS) (mk : Bool) (cc : Nat) (sc : Nat) : Prop :=
  wX0_bestMove_29 H post s0 (0 : Int32) S mk cc sc
def wX0_bestMove_25 (H : HB) (post : Int32 → CS → Prop)   (S : CS) (mk : Bool) (cc : Nat) (sc : Nat) : Prop :=
  wX0_bestMove_26 H post (0 : Int32) S mk cc sc
def wX0_bestMove_18 (H : HB) (post : Int32 → CS → Prop)  (x1 : Int32) (S : CS) (mk : Bool) (cc : Nat) (sc : Nat) : Prop :=
  wX0_bestMove_26 H post ((-2 : Int32) - x1) S mk cc sc
def wX0_bestMove_14 (H : HB) (post : Int32 → CS → Prop)  (x1 : Int32) (S : CS) (mk : Bool) (cc : Nat) (sc : Nat) : Prop :=
  ((0 ≤ x1) → wX0_bestMove_25 H post S mk cc sc) ∧ ((¬ 0 ≤ x1) → wX0_bestMove_18 H post x1 S mk cc sc)
def wX0_bestMove_9 (H : HB) (post : Int32 → CS → Prop)  (x1 : Int32) (S : CS) (mk : Bool) (cc : Nat) (sc : Nat) : Prop :=
  wX0_bestMove_26 H post (-x1) S mk cc sc
def wX0_bestMove_0 (H : HB) (post : Int32 → CS → Prop)   (S : CS) (mk : Bool) (cc : Nat) (sc : Nat) : Prop :=
  (cOk S ∧ H.1 = true ∧ pS S = H.2.1) ∧ (((iI (wG S.1.2)) ≤ 0) → wX0_bestMove_14 H post (iI (wG S.1.2)) S true cc sc) ∧ ((¬ (iI (wG S.1.2)) ≤ 0) → wX0_bestMove_9 H post (iI (wG S.1.2)) S true cc sc)
-- at(I)I
def wX0_at_53 (H : HB) (post : Int32 → CS → Prop)  (s0 : Int32) (S : CS) (mk : Bool) (cc : Nat) (sc : Nat) : Prop :=
  post s0 S ∧ H.1 = mk
def wX0_at_51 (H : HB) (post : Int32 → CS → Prop)   (S : CS) (mk : Bool) (cc : Nat) (sc : Nat) : Prop :=
  wX0_at_53 H post (-6 : Int32) S mk cc sc
def wX0_at_47 (H : HB) (post : Int32 → CS → Prop)   (S : CS) (mk : Bool) (cc : Nat) (sc : Nat) : Prop :=
  wX0_at_53 H post (1 : Int32) S mk cc sc
def wX0_at_30 (H : HB) (post : Int32 → CS → Prop)  (x1 : Int32) (S : CS) (mk : Bool) (cc : Nat) (sc : Nat) : Prop :=
  ((¬ (((set2 (cur S.1.2).1 (cur S.1.2).2.1 (1 : Int32).toNatClampNeg) >>> (x1 &&& 31)) &&& (1 : Int32)) = (1 : Int32)) → wX0_at_51 H post S mk cc sc) ∧ (((((set2 (cur S.1.2).1 (cur S.1.2).2.1 (1 : Int32).toNatClampNeg) >>> (x1 &&& 31)) &&& (1 : Int32)) = (1 : Int32)) → wX0_at_47 H post S mk cc sc)
def wX0_at_26 (H : HB) (post : Int32 → CS → Prop)   (S : CS) (mk : Bool) (cc : Nat) (sc : Nat) : Prop :=
  wX0_at_53 H post (0 : Int32) S mk cc sc
def wX0_at_9 (H : HB) (post : Int32 → CS → Prop)  (x1 : Int32) (S : CS) (mk : Bool) (cc : Nat) (sc : Nat) : Prop :=
  ((¬ (((set2 (cur S.1.2).1 (cur S.1.2).2.1 (0 : Int32).toNatClampNeg) >>> (x1 &&& 31)) &&& (1 : Int32)) = (1 : Int32)) → wX0_at_30 H post x1 S mk cc sc) ∧ (((((set2 (cur S.1.2).1 (cur S.1.2).2.1 (0 : Int32).toNatClampNeg) >>> (x1 &&& 31)) &&& (1 : Int32)) = (1 : Int32)) → wX0_at_26 H post S mk cc sc)
def wX0_at_7 (H : HB) (post : Int32 → CS → Prop)   (S : CS) (mk : Bool) (cc : Nat) (sc : Nat) : Prop :=
  post (-1 : Int32) S ∧ H.1 = mk
def wX0_at_0 (H : HB) (post : Int32 → CS → Prop)  (x1 : Int32) (S : CS) (mk : Bool) (cc : Nat) (sc : Nat) : Prop :=
  ∀ r_1 : Int32, qX0_isPoint x1 r_1 → ((¬ r_1 = 0) → wX0_at_9 H post x1 S mk cc sc) ∧ ((r_1 = 0) → wX0_at_7 H post S mk cc sc)
-- count(I)I
def wX0_count_64 (H : HB) (post : Int32 → CS → Prop)   (S : CS) (mk : Bool) (cc : Nat) (sc : Nat) : Prop :=
  post (nI (cur S.1.2).2.2) S ∧ H.1 = mk
def wX0_count_72 (H : HB) (post : Int32 → CS → Prop)   (S : CS) (mk : Bool) (cc : Nat) (sc : Nat) : Prop :=
  post (nI (nmv S.1.2)) S ∧ H.1 = mk
def wX0_count_80 (H : HB) (post : Int32 → CS → Prop)  (x1 : Int32) (S : CS) (mk : Bool) (cc : Nat) (sc : Nat) : Prop :=
  vp_in (x1 - (2 : Int32)) 2 ∧ ∀ r_1 : Int32, qJ12_bitCount (set2 (cur S.1.2).1 (cur S.1.2).2.1 (x1 - (2 : Int32)).toNatClampNeg) r_1 → post r_1 S ∧ H.1 = mk
def wX0_count_107 (H : HB) (post : Int32 → CS → Prop)  (s0 : Int32) (S : CS) (mk : Bool) (cc : Nat) (sc : Nat) : Prop :=
  post s0 S ∧ H.1 = mk
def wX0_count_106 (H : HB) (post : Int32 → CS → Prop)   (S : CS) (mk : Bool) (cc : Nat) (sc : Nat) : Prop :=
  wX0_count_107 H post (0 : Int32) S mk cc sc
def wX0_count_102 (H : HB) (post : Int32 → CS → Prop)   (S : CS) (mk : Bool) (cc : Nat) (sc : Nat) : Prop :=
  wX0_count_107 H post (1 : Int32) S mk cc sc
def wX0_count_95 (H : HB) (post : Int32 → CS → Prop)   (S : CS) (mk : Bool) (cc : Nat) (sc : Nat) : Prop :=
  (cOk S ∧ H.1 = true ∧ pS S = H.2.1) ∧ (((b2 (overG S.1.2)) = 0) → wX0_count_106 H post S true cc sc) ∧ ((¬ (b2 (overG S.1.2)) = 0) → wX0_count_102 H post S true cc sc)
def wX0_count_129 (H : HB) (post : Int32 → CS → Prop)  (s0 : Int32) (S : CS) (mk : Bool) (cc : Nat) (sc : Nat) : Prop :=
  post s0 S ∧ H.1 = mk
def wX0_count_127 (H : HB) (post : Int32 → CS → Prop)   (S : CS) (mk : Bool) (cc : Nat) (sc : Nat) : Prop :=
  wX0_count_129 H post (-6 : Int32) S mk cc sc
def wX0_count_115 (H : HB) (post : Int32 → CS → Prop)   (S : CS) (mk : Bool) (cc : Nat) (sc : Nat) : Prop :=
  wX0_count_129 H post ((1 : Int32) - (nI (cur S.1.2).2.2)) S mk cc sc
def wX0_count_108 (H : HB) (post : Int32 → CS → Prop)   (S : CS) (mk : Bool) (cc : Nat) (sc : Nat) : Prop :=
  (cOk S ∧ H.1 = true ∧ pS S = H.2.1) ∧ (((b2 (lostG S.1.2)) = 0) → wX0_count_127 H post S true cc sc) ∧ ((¬ (b2 (lostG S.1.2)) = 0) → wX0_count_115 H post S true cc sc)
def wX0_count_142 (H : HB) (post : Int32 → CS → Prop)  (s0 : Int32) (S : CS) (mk : Bool) (cc : Nat) (sc : Nat) : Prop :=
  post s0 S ∧ H.1 = mk
def wX0_count_141 (H : HB) (post : Int32 → CS → Prop)   (S : CS) (mk : Bool) (cc : Nat) (sc : Nat) : Prop :=
  wX0_count_142 H post (0 : Int32) S mk cc sc
def wX0_count_137 (H : HB) (post : Int32 → CS → Prop)   (S : CS) (mk : Bool) (cc : Nat) (sc : Nat) : Prop :=
  wX0_count_142 H post (1 : Int32) S mk cc sc
def wX0_count_130 (H : HB) (post : Int32 → CS → Prop)   (S : CS) (mk : Bool) (cc : Nat) (sc : Nat) : Prop :=
  (cOk S ∧ H.1 = true ∧ pS S = H.2.1) ∧ (((b2 (decide (3 ≤ oftG S.1.2) && !lostG S.1.2)) = 0) → wX0_count_141 H post S true cc sc) ∧ ((¬ (b2 (decide (3 ≤ oftG S.1.2) && !lostG S.1.2)) = 0) → wX0_count_137 H post S true cc sc)
def wX0_count_143 (H : HB) (post : Int32 → CS → Prop)   (S : CS) (mk : Bool) (cc : Nat) (sc : Nat) : Prop :=
  pX2_times S.1.2 ∧ post (nI (oftG S.1.2)) S ∧ H.1 = mk
def wX0_count_151 (H : HB) (post : Int32 → CS → Prop)  (x1 : Int32) (S : CS) (mk : Bool) (cc : Nat) (sc : Nat) : Prop :=
  vp_in (x1 - (8 : Int32)) 2 ∧ post (set2 S.1.2.1 S.1.2.2.1 (x1 - (8 : Int32)).toNatClampNeg) S ∧ H.1 = mk
def wX0_count_164 (H : HB) (post : Int32 → CS → Prop)   (S : CS) (mk : Bool) (cc : Nat) (sc : Nat) : Prop :=
  post (nI S.2.2.2.1.2.2.2.length) S ∧ H.1 = mk
def wX0_count_172 (H : HB) (post : Int32 → CS → Prop)   (S : CS) (mk : Bool) (cc : Nat) (sc : Nat) : Prop :=
  (S.2.1.1 = none → S.2.1.2 = []) ∧ post (nI S.2.1.2.length) S ∧ H.1 = mk
def wX0_count_182 (H : HB) (post : Int32 → CS → Prop)   (S : CS) (mk : Bool) (cc : Nat) (sc : Nat) : Prop :=
  post (-2 : Int32) S ∧ H.1 = mk
def wX0_count_0 (H : HB) (post : Int32 → CS → Prop)  (x1 : Int32) (S : CS) (mk : Bool) (cc : Nat) (sc : Nat) : Prop :=
  (x1 = (0 : Int32) → wX0_count_64 H post S mk cc sc) ∧ (x1 = (1 : Int32) → wX0_count_72 H post S mk cc sc) ∧ (x1 = (2 : Int32) → wX0_count_80 H post x1 S mk cc sc) ∧ (x1 = (3 : Int32) → wX0_count_80 H post x1 S mk cc sc) ∧ (x1 = (4 : Int32) → wX0_count_95 H post S mk cc sc) ∧ (x1 = (5 : Int32) → wX0_count_108 H post S mk cc sc) ∧ (x1 = (6 : Int32) → wX0_count_130 H post S mk cc sc) ∧ (x1 = (7 : Int32) → wX0_count_143 H post S mk cc sc) ∧ (x1 = (8 : Int32) → wX0_count_151 H post x1 S mk cc sc) ∧ (x1 = (9 : Int32) → wX0_count_151 H post x1 S mk cc sc) ∧ (x1 = (10 : Int32) → wX0_count_164 H post S mk cc sc) ∧ (x1 = (11 : Int32) → wX0_count_172 H post S mk cc sc) ∧ (¬ x1 = (0 : Int32) → ¬ x1 = (1 : Int32) → ¬ x1 = (2 : Int32) → ¬ x1 = (3 : Int32) → ¬ x1 = (4 : Int32) → ¬ x1 = (5 : Int32) → ¬ x1 = (6 : Int32) → ¬ x1 = (7 : Int32) → ¬ x1 = (8 : Int32) → ¬ x1 = (9 : Int32) → ¬ x1 = (10 : Int32) → ¬ x1 = (11 : Int32) → wX0_count_182 H post S mk cc sc)
-- neighbours(I)I
def wX0_neighbours_19 (H : HB) (post : Int32 → CS → Prop)  (s0 : Int32) (S : CS) (mk : Bool) (cc : Nat) (sc : Nat) : Prop :=
  post s0 S ∧ H.1 = mk
def wX0_neighbours_18 (H : HB) (post : Int32 → CS → Prop)   (S : CS) (mk : Bool) (cc : Nat) (sc : Nat) : Prop :=
  wX0_neighbours_19 H post (-1 : Int32) S mk cc sc
def wX0_neighbours_7 (H : HB) (post : Int32 → CS → Prop)  (x1 : Int32) (S : CS) (mk : Bool) (cc : Nat) (sc : Nat) : Prop :=
  (cOk S ∧ H.1 = true ∧ pS S = H.2.1) ∧ ∃ (bq_1 : Nat), (cInv S ∧ bq_1 < 9 ∧ x1 = nI bq_1) ∧ wX0_neighbours_19 H post (nI (nxM S.1.2.1 bq_1)) S true cc sc
def wX0_neighbours_0 (H : HB) (post : Int32 → CS → Prop)  (x1 : Int32) (S : CS) (mk : Bool) (cc : Nat) (sc : Nat) : Prop :=
  ∀ r_1 : Int32, qX0_isPoint x1 r_1 → ((r_1 = 0) → wX0_neighbours_18 H post S mk cc sc) ∧ ((¬ r_1 = 0) → wX0_neighbours_7 H post x1 S mk cc sc)
-- move(I)I
def wX0_move_11 (H : HB) (post : Int32 → CS → Prop)   (S : CS) (mk : Bool) (cc : Nat) (sc : Nat) : Prop :=
  post (-1 : Int32) S ∧ H.1 = mk
def wX0_move_71 (H : HB) (post : Int32 → CS → Prop)   (S : CS) (mk : Bool) (cc : Nat) (sc : Nat) : Prop :=
  post (-1 : Int32) S ∧ H.1 = mk
def wX0_move_63 (H : HB) (post : Int32 → CS → Prop) (L17 : Int32 → Int32 → CS → Bool → Nat → Nat → Prop) (x3 : Int32) (s0 : Int32) (s1 : Int32) (S : CS) (mk : Bool) (cc : Nat) (sc : Nat) : Prop :=
  L17 (s0 - s1) (x3 + (1 : Int32)) S mk cc sc
def wX0_move_62 (H : HB) (post : Int32 → CS → Prop) (L17 : Int32 → Int32 → CS → Bool → Nat → Nat → Prop) (x3 : Int32) (s0 : Int32) (S : CS) (mk : Bool) (cc : Nat) (sc : Nat) : Prop :=
  wX0_move_63 H post L17 x3 s0 (0 : Int32) S mk cc sc
def wX0_move_58 (H : HB) (post : Int32 → CS → Prop) (L17 : Int32 → Int32 → CS → Bool → Nat → Nat → Prop) (x3 : Int32) (s0 : Int32) (S : CS) (mk : Bool) (cc : Nat) (sc : Nat) : Prop :=
  wX0_move_63 H post L17 x3 s0 (1 : Int32) S mk cc sc
def wX0_move_52 (H : HB) (post : Int32 → CS → Prop) (L17 : Int32 → Int32 → CS → Bool → Nat → Nat → Prop) (x2 : Int32) (x3 : Int32) (x4 : Int32) (S : CS) (mk : Bool) (cc : Nat) (sc : Nat) : Prop :=
  ((x4 = 0) → wX0_move_62 H post L17 x3 x2 S mk cc sc) ∧ ((¬ x4 = 0) → wX0_move_58 H post L17 x3 x2 S mk cc sc)
def wX0_move_50 (H : HB) (post : Int32 → CS → Prop)  (x3 : Int32) (S : CS) (mk : Bool) (cc : Nat) (sc : Nat) : Prop :=
  post x3 S ∧ H.1 = mk
def wX0_move_46 (H : HB) (post : Int32 → CS → Prop) (L17 : Int32 → Int32 → CS → Bool → Nat → Nat → Prop) (x2 : Int32) (x3 : Int32) (x4 : Int32) (S : CS) (mk : Bool) (cc : Nat) (sc : Nat) : Prop :=
  ((¬ x2 = 0) → wX0_move_52 H post L17 x2 x3 x4 S mk cc sc) ∧ ((x2 = 0) → wX0_move_50 H post x3 S mk cc sc)
def wX0_move_23 (H : HB) (post : Int32 → CS → Prop) (L17 : Int32 → Int32 → CS → Bool → Nat → Nat → Prop) (x2 : Int32) (x3 : Int32) (S : CS) (mk : Bool) (cc : Nat) (sc : Nat) : Prop :=
  (cOk S ∧ H.1 = true ∧ pS S = H.2.1) ∧ cInv S ∧ cInv S ∧ cInv S ∧ (((b2 (isMvX S.1.2 x3)) = 0) → wX0_move_52 H post L17 x2 x3 (b2 (isMvX S.1.2 x3)) S true cc sc) ∧ ((¬ (b2 (isMvX S.1.2 x3)) = 0) → wX0_move_46 H post L17 x2 x3 (b2 (isMvX S.1.2 x3)) S true cc sc)
def wX0_move_17_b (H : HB) (post : Int32 → CS → Prop) (L17 : Int32 → Int32 → CS → Bool → Nat → Nat → Prop) (x2 : Int32) (x3 : Int32) (S : CS) (mk : Bool) (cc : Nat) (sc : Nat) : Prop :=
  (((91 : Int32) ≤ x3) → wX0_move_71 H post S mk cc sc) ∧ ((¬ (91 : Int32) ≤ x3) → wX0_move_23 H post L17 x2 x3 S mk cc sc)
def wX0_move_17 (H : HB) (post : Int32 → CS → Prop)  (x2 : Int32) (x3 : Int32) (S : CS) (mk : Bool) (cc : Nat) (sc : Nat) : Prop :=
  wloop (V := Int32 × Int32 × CS × Bool × Nat × Nat) (fun L v => wX0_move_17_b H post (fun x2 x3 S mk cc sc => L (x2, x3, S, mk, cc, sc)) v.1 v.2.1 v.2.2.1 v.2.2.2.1 v.2.2.2.2.1 v.2.2.2.2.2) (x2, x3, S, mk, cc, sc)
def wX0_move_13 (H : HB) (post : Int32 → CS → Prop)  (x1 : Int32) (S : CS) (mk : Bool) (cc : Nat) (sc : Nat) : Prop :=
  wX0_move_17 H post x1 (0 : Int32) S mk cc sc
def wX0_move_7 (H : HB) (post : Int32 → CS → Prop)  (x1 : Int32) (S : CS) (mk : Bool) (cc : Nat) (sc : Nat) : Prop :=
  ((0 ≤ x1) → wX0_move_13 H post x1 S mk cc sc) ∧ ((¬ 0 ≤ x1) → wX0_move_11 H post S mk cc sc)
def wX0_move_0 (H : HB) (post : Int32 → CS → Prop)  (x1 : Int32) (S : CS) (mk : Bool) (cc : Nat) (sc : Nat) : Prop :=
  (cOk S ∧ H.1 = true ∧ pS S = H.2.1) ∧ ((¬ (b2 (overG S.1.2)) = 0) → wX0_move_11 H post S true cc sc) ∧ (((b2 (overG S.1.2)) = 0) → wX0_move_7 H post x1 S true cc sc)
-- worth()I
def wX0_worth_0 (H : HB) (post : Int32 → CS → Prop)   (S : CS) (mk : Bool) (cc : Nat) (sc : Nat) : Prop :=
  (cOk S ∧ H.1 = true ∧ pS S = H.2.1) ∧ post ((100 : Int32) + (iI (wG S.1.2))) S ∧ H.1 = true
-- behind(I)I
def wX0_behind_20 (H : HB) (post : Int32 → CS → Prop)  (s0 : Int32) (S : CS) (mk : Bool) (cc : Nat) (sc : Nat) : Prop :=
  post s0 S ∧ H.1 = mk
def wX0_behind_19 (H : HB) (post : Int32 → CS → Prop)   (S : CS) (mk : Bool) (cc : Nat) (sc : Nat) : Prop :=
  wX0_behind_20 H post (-1 : Int32) S mk cc sc
def wX0_behind_8 (H : HB) (post : Int32 → CS → Prop)  (x1 : Int32) (S : CS) (mk : Bool) (cc : Nat) (sc : Nat) : Prop :=
  (cOk S ∧ H.1 = true ∧ pS S = H.2.1) ∧ (∃ q ∈ mvC S.1.2, x1 = nI q) ∧ wX0_behind_20 H post ((100 : Int32) + (iI (wB S.1.2 x1.toNatClampNeg))) S true cc sc
def wX0_behind_0 (H : HB) (post : Int32 → CS → Prop)  (x1 : Int32) (S : CS) (mk : Bool) (cc : Nat) (sc : Nat) : Prop :=
  (cOk S ∧ H.1 = true ∧ pS S = H.2.1) ∧ (((b2 (!overG S.1.2 && isMvX S.1.2 x1)) = 0) → wX0_behind_19 H post S true cc sc) ∧ ((¬ (b2 (!overG S.1.2 && isMvX S.1.2 x1)) = 0) → wX0_behind_8 H post x1 S true cc sc)
-- best()I
def wX0_best_16 (H : HB) (post : Int32 → CS → Prop)  (s0 : Int32) (S : CS) (mk : Bool) (cc : Nat) (sc : Nat) : Prop :=
  post s0 S ∧ H.1 = mk
def wX0_best_12 (H : HB) (post : Int32 → CS → Prop)   (S : CS) (mk : Bool) (cc : Nat) (sc : Nat) : Prop :=
  (cOk S ∧ H.1 = true ∧ pS S = H.2.1) ∧ (overG S.1.2 = false) ∧ wX0_best_16 H post (nI (bestG S.1.2)) S true cc sc
def wX0_best_7 (H : HB) (post : Int32 → CS → Prop)   (S : CS) (mk : Bool) (cc : Nat) (sc : Nat) : Prop :=
  wX0_best_16 H post (-5 : Int32) S mk cc sc
def wX0_best_0 (H : HB) (post : Int32 → CS → Prop)   (S : CS) (mk : Bool) (cc : Nat) (sc : Nat) : Prop :=
  (cOk S ∧ H.1 = true ∧ pS S = H.2.1) ∧ (((b2 (overG S.1.2)) = 0) → wX0_best_12 H post S true cc sc) ∧ ((¬ (b2 (overG S.1.2)) = 0) → wX0_best_7 H post S true cc sc)
-- worthOf(III)I
def wX0_worthOf_74 (H : HB) (post : Int32 → CS → Prop)  (s0 : Int32) (S : CS) (mk : Bool) (cc : Nat) (sc : Nat) : Prop :=
  post s0 S ∧ H.1 = mk
def wX0_worthOf_72 (H : HB) (post : Int32 → CS → Prop)   (S : CS) (mk : Bool) (cc : Nat) (sc : Nat) : Prop :=
  wX0_worthOf_74 H post (-2 : Int32) S mk cc sc
def wX0_worthOf_56 (H : HB) (post : Int32 → CS → Prop)  (x1 : Int32) (x2 : Int32) (x3 : Int32) (S : CS) (mk : Bool) (cc : Nat) (sc : Nat) : Prop :=
  (cOk S ∧ H.1 = true ∧ pS S = H.2.1) ∧ ∃ (bd_1 : Bd), (cInv S ∧ bd_1 ∈ LB S.1.2.1 ∧ x1 = nI bd_1.1 ∧ x2 = nI bd_1.2.1 ∧ x3 = nI bd_1.2.2) ∧ wX0_worthOf_74 H post ((100 : Int32) + (iI (wrb S.1.2.1 S.1.2.2.1 bd_1))) S true cc sc
def wX0_worthOf_43 (H : HB) (post : Int32 → CS → Prop)  (x1 : Int32) (x2 : Int32) (x3 : Int32) (S : CS) (mk : Bool) (cc : Nat) (sc : Nat) : Prop :=
  (cOk S ∧ H.1 = true ∧ pS S = H.2.1) ∧ ∃ (bf_1 : Nat) (bs_2 : Nat) (bm_3 : Nat), (cInv S ∧ bf_1 < 512 ∧ bs_2 < 512 ∧ bm_3 < 2 ∧ x1 = nI bf_1 ∧ x2 = nI bs_2 ∧ x3 = nI bm_3) ∧ (((b2 (decide (bf_1 &&& bs_2 = 0) && legal S.1.2.1 bf_1 bs_2 bm_3)) = 0) → wX0_worthOf_72 H post S true cc sc) ∧ ((¬ (b2 (decide (bf_1 &&& bs_2 = 0) && legal S.1.2.1 bf_1 bs_2 bm_3)) = 0) → wX0_worthOf_56 H post x1 x2 x3 S true cc sc)
def wX0_worthOf_36 (H : HB) (post : Int32 → CS → Prop)  (x1 : Int32) (x2 : Int32) (x3 : Int32) (s0 : Int32) (S : CS) (mk : Bool) (cc : Nat) (sc : Nat) : Prop :=
  ((s0 = 0) → wX0_worthOf_72 H post S mk cc sc) ∧ ((¬ s0 = 0) → wX0_worthOf_43 H post x1 x2 x3 S mk cc sc)
def wX0_worthOf_35 (H : HB) (post : Int32 → CS → Prop)  (x1 : Int32) (x2 : Int32) (x3 : Int32) (S : CS) (mk : Bool) (cc : Nat) (sc : Nat) : Prop :=
  wX0_worthOf_36 H post x1 x2 x3 (0 : Int32) S mk cc sc
def wX0_worthOf_31 (H : HB) (post : Int32 → CS → Prop)  (x1 : Int32) (x2 : Int32) (x3 : Int32) (S : CS) (mk : Bool) (cc : Nat) (sc : Nat) : Prop :=
  wX0_worthOf_36 H post x1 x2 x3 (1 : Int32) S mk cc sc
def wX0_worthOf_22 (H : HB) (post : Int32 → CS → Prop)  (x1 : Int32) (x2 : Int32) (x3 : Int32) (S : CS) (mk : Bool) (cc : Nat) (sc : Nat) : Prop :=
  ∀ r_1 : Int32, qX0_isIn x3 (0 : Int32) (1 : Int32) r_1 → ((r_1 = 0) → wX0_worthOf_35 H post x1 x2 x3 S mk cc sc) ∧ ((¬ r_1 = 0) → wX0_worthOf_31 H post x1 x2 x3 S mk cc sc)
def wX0_worthOf_11 (H : HB) (post : Int32 → CS → Prop)  (x1 : Int32) (x2 : Int32) (x3 : Int32) (S : CS) (mk : Bool) (cc : Nat) (sc : Nat) : Prop :=
  ∀ r_1 : Int32, qX0_isIn x2 (0 : Int32) (511 : Int32) r_1 → ((r_1 = 0) → wX0_worthOf_35 H post x1 x2 x3 S mk cc sc) ∧ ((¬ r_1 = 0) → wX0_worthOf_22 H post x1 x2 x3 S mk cc sc)
def wX0_worthOf_0 (H : HB) (post : Int32 → CS → Prop)  (x1 : Int32) (x2 : Int32) (x3 : Int32) (S : CS) (mk : Bool) (cc : Nat) (sc : Nat) : Prop :=
  ∀ r_1 : Int32, qX0_isIn x1 (0 : Int32) (511 : Int32) r_1 → ((r_1 = 0) → wX0_worthOf_35 H post x1 x2 x3 S mk cc sc) ∧ ((¬ r_1 = 0) → wX0_worthOf_11 H post x1 x2 x3 S mk cc sc)
