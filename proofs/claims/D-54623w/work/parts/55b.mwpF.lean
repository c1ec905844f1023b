/-! WP of MorrisTables, F: printed by gen_mainF.py -/
-- put(J)I
def wX0_put_66 (H : HB) (post : Int32 → CS → Prop)   (S : CS) (mk : Bool) (cc : Nat) (sc : Nat) : Prop :=
  post (-2 : Int32) S ∧ H.1 = mk
def wX0_put_123 (H : HB) (post : Int32 → CS → Prop)   (S : CS) (mk : Bool) (cc : Nat) (sc : Nat) : Prop :=
  post (nI S.2.2.2.1.2.2.2.length) S ∧ H.1 = mk
def wX0_put_96 (H : HB) (post : Int32 → CS → Prop) (L91 : Int64 → Int32 → CS → Bool → Nat → Nat → Prop) (x1 : Int64) (x6 : Int32) (S : CS) (mk : Bool) (cc : Nat) (sc : Nat) : Prop :=
  (S.2.2.2.1.2.2.2.length ≤ S.2.2.2.1.2.1 ∧ S.2.2.2.1.2.1 < 100000 ∧ fBy S.2.2.2.1.2.2.1 S.2.2.2.1.2.1 ∧ ∃ z, z < 128 ∧ (((((x1 >>> (((8 : Int32) * x6).toInt64 &&& 63)) &&& (255 : Int64)).toInt32).toUInt32 % 65536).toInt32) = nI z) ∧ (cc + (apC S.2.2.2.1.2.2.2.length S.2.2.2.1.2.1) ≤ H.2.2.1 ∧ sc + (apS S.2.2.2.1.2.2.2.length S.2.2.2.1.2.1) ≤ H.2.2.2) ∧ ∀ (S_2 : CS), (∃ b, S_2 = cPad S (apP S.2.2.2.1 b (((((x1 >>> (((8 : Int32) * x6).toInt64 &&& 63)) &&& (255 : Int64)).toInt32).toUInt32 % 65536).toInt32).toNatClampNeg) S.2.2.2.2.2) → L91 x1 (x6 + (-1 : Int32)) S_2 mk (cc + (apC S.2.2.2.1.2.2.2.length S.2.2.2.1.2.1)) (sc + (apS S.2.2.2.1.2.2.2.length S.2.2.2.1.2.1))
def wX0_put_91_b (H : HB) (post : Int32 → CS → Prop) (L91 : Int64 → Int32 → CS → Bool → Nat → Nat → Prop) (x1 : Int64) (x6 : Int32) (S : CS) (mk : Bool) (cc : Nat) (sc : Nat) : Prop :=
  ((x6 < 0) → wX0_put_123 H post S mk cc sc) ∧ ((¬ x6 < 0) → wX0_put_96 H post L91 x1 x6 S mk cc sc)
def wX0_put_91 (H : HB) (post : Int32 → CS → Prop)  (x1 : Int64) (x6 : Int32) (S : CS) (mk : Bool) (cc : Nat) (sc : Nat) : Prop :=
  wloop (V := Int64 × Int32 × CS × Bool × Nat × Nat) (fun L v => wX0_put_91_b H post (fun x1 x6 S mk cc sc => L (x1, x6, S, mk, cc, sc)) v.1 v.2.1 v.2.2.1 v.2.2.2.1 v.2.2.2.2.1 v.2.2.2.2.2) (x1, x6, S, mk, cc, sc)
def wX0_put_86 (H : HB) (post : Int32 → CS → Prop)  (x1 : Int64) (x3 : Int32) (S : CS) (mk : Bool) (cc : Nat) (sc : Nat) : Prop :=
  wX0_put_91 H post x1 (x3 - (1 : Int32)) S mk cc sc
def wX0_put_83 (H : HB) (post : Int32 → CS → Prop)   (S : CS) (mk : Bool) (cc : Nat) (sc : Nat) : Prop :=
  post (-4 : Int32) S ∧ H.1 = mk
def wX0_put_69 (H : HB) (post : Int32 → CS → Prop)  (x1 : Int64) (x3 : Int32) (S : CS) (mk : Bool) (cc : Nat) (sc : Nat) : Prop :=
  ((((nI S.2.2.2.1.2.2.2.length) + x3) ≤ (80 : Int32)) → wX0_put_86 H post x1 x3 S mk cc sc) ∧ ((¬ ((nI S.2.2.2.1.2.2.2.length) + x3) ≤ (80 : Int32)) → wX0_put_83 H post S mk cc sc)
def wX0_put_59 (H : HB) (post : Int32 → CS → Prop)  (x1 : Int64) (x3 : Int32) (x4 : Int64) (S : CS) (mk : Bool) (cc : Nat) (sc : Nat) : Prop :=
  (((lg_cmp x4 (0 : Int64)) = 0) → wX0_put_69 H post x1 x3 S mk cc sc) ∧ ((¬ (lg_cmp x4 (0 : Int64)) = 0) → wX0_put_66 H post S mk cc sc)
def wX0_put_55 (H : HB) (post : Int32 → CS → Prop)  (x1 : Int64) (x3 : Int32) (x4 : Int64) (S : CS) (mk : Bool) (cc : Nat) (sc : Nat) : Prop :=
  ((x3 = 0) → wX0_put_66 H post S mk cc sc) ∧ ((¬ x3 = 0) → wX0_put_59 H post x1 x3 x4 S mk cc sc)
def wX0_put_42 (H : HB) (post : Int32 → CS → Prop) (L5 : Int64 → Int32 → Int64 → CS → Bool → Nat → Nat → Prop) (x1 : Int64) (x3 : Int32) (x4 : Int64) (S : CS) (mk : Bool) (cc : Nat) (sc : Nat) : Prop :=
  L5 x1 (x3 + (1 : Int32)) ((x4.toUInt64 >>> ((8 : Int32).toInt64.toUInt64 &&& Int64.toUInt64 63)).toInt64) S mk cc sc
def wX0_put_39 (H : HB) (post : Int32 → CS → Prop)   (S : CS) (mk : Bool) (cc : Nat) (sc : Nat) : Prop :=
  post (-2 : Int32) S ∧ H.1 = mk
def wX0_put_22 (H : HB) (post : Int32 → CS → Prop) (L5 : Int64 → Int32 → Int64 → CS → Bool → Nat → Nat → Prop) (x1 : Int64) (x3 : Int32) (x4 : Int64) (S : CS) (mk : Bool) (cc : Nat) (sc : Nat) : Prop :=
  ∀ r_1 : Int32, qX0_isIn ((x4 &&& (255 : Int64)).toInt32) (33 : Int32) (126 : Int32) r_1 → ((¬ r_1 = 0) → wX0_put_42 H post L5 x1 x3 x4 S mk cc sc) ∧ ((r_1 = 0) → wX0_put_39 H post S mk cc sc)
def wX0_put_11 (H : HB) (post : Int32 → CS → Prop) (L5 : Int64 → Int32 → Int64 → CS → Bool → Nat → Nat → Prop) (x1 : Int64) (x3 : Int32) (x4 : Int64) (S : CS) (mk : Bool) (cc : Nat) (sc : Nat) : Prop :=
  (((lg_cmp (x4 &&& (255 : Int64)) (0 : Int64)) = 0) → wX0_put_55 H post x1 x3 x4 S mk cc sc) ∧ ((¬ (lg_cmp (x4 &&& (255 : Int64)) (0 : Int64)) = 0) → wX0_put_22 H post L5 x1 x3 x4 S mk cc sc)
def wX0_put_5_b (H : HB) (post : Int32 → CS → Prop) (L5 : Int64 → Int32 → Int64 → CS → Bool → Nat → Nat → Prop) (x1 : Int64) (x3 : Int32) (x4 : Int64) (S : CS) (mk : Bool) (cc : Nat) (sc : Nat) : Prop :=
  (((8 : Int32) ≤ x3) → wX0_put_55 H post x1 x3 x4 S mk cc sc) ∧ ((¬ (8 : Int32) ≤ x3) → wX0_put_11 H post L5 x1 x3 x4 S mk cc sc)
def wX0_put_5 (H : HB) (post : Int32 → CS → Prop)  (x1 : Int64) (x3 : Int32) (x4 : Int64) (S : CS) (mk : Bool) (cc : Nat) (sc : Nat) : Prop :=
  wloop (V := Int64 × Int32 × Int64 × CS × Bool × Nat × Nat) (fun L v => wX0_put_5_b H post (fun x1 x3 x4 S mk cc sc => L (x1, x3, x4, S, mk, cc, sc)) v.1 v.2.1 v.2.2.1 v.2.2.2.1 v.2.2.2.2.1 v.2.2.2.2.2.1 v.2.2.2.2.2.2) (x1, x3, x4, S, mk, cc, sc)
def wX0_put_0 (H : HB) (post : Int32 → CS → Prop)  (x1 : Int64) (S : CS) (mk : Bool) (cc : Nat) (sc : Nat) : Prop :=
  wX0_put_5 H post x1 (0 : Int32) x1 S mk cc sc
