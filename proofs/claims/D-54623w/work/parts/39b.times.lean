/-! WP of Game.times, printed by gen_times.py -/
def wX2_times_48 (k : Gm) (post : Int32 → Unit → Prop)  (x1 : Int32)  : Prop :=
  post x1 ()
def wX2_times_40 (k : Gm) (post : Int32 → Unit → Prop) (L13 : Int32 → Int32 → Int32 → Prop) (x3 : Int32) (x4 : Int32) (s0 : Int32) (s1 : Int32)  : Prop :=
  L13 (s0 + s1) x3 (x4 + (1 : Int32))
def wX2_times_39 (k : Gm) (post : Int32 → Unit → Prop) (L13 : Int32 → Int32 → Int32 → Prop) (x3 : Int32) (x4 : Int32) (s0 : Int32)  : Prop :=
  wX2_times_40 k post L13 x3 x4 s0 (0 : Int32)
def wX2_times_35 (k : Gm) (post : Int32 → Unit → Prop) (L13 : Int32 → Int32 → Int32 → Prop) (x3 : Int32) (x4 : Int32) (s0 : Int32)  : Prop :=
  wX2_times_40 k post L13 x3 x4 s0 (1 : Int32)
def wX2_times_19 (k : Gm) (post : Int32 → Unit → Prop) (L13 : Int32 → Int32 → Int32 → Prop) (x1 : Int32) (x3 : Int32) (x4 : Int32)  : Prop :=
  vp_in x4 k.2.2.length ∧ ∀ r_1 : Int32, r_1 = brdI (set2 (cur k).1 (cur k).2.1) (nI (cur k).2.2) → ((¬ (bdI k.2.2 (x4).toNatClampNeg) = r_1) → wX2_times_39 k post L13 x3 x4 x1) ∧ (((bdI k.2.2 (x4).toNatClampNeg) = r_1) → wX2_times_35 k post L13 x3 x4 x1)
def wX2_times_13_b (k : Gm) (post : Int32 → Unit → Prop) (L13 : Int32 → Int32 → Int32 → Prop) (x1 : Int32) (x3 : Int32) (x4 : Int32)  : Prop :=
  ((x3 ≤ x4) → wX2_times_48 k post x1) ∧ ((¬ x3 ≤ x4) → wX2_times_19 k post L13 x1 x3 x4)
def wX2_times_13 (k : Gm) (post : Int32 → Unit → Prop)  (x1 : Int32) (x3 : Int32) (x4 : Int32)  : Prop :=
  wloop (V := Int32 × Int32 × Int32) (fun L v => wX2_times_13_b k post (fun x1 x3 x4 => L (x1, x3, x4)) v.1 v.2.1 v.2.2) (x1, x3, x4)
def wX2_times_0 (k : Gm) (post : Int32 → Unit → Prop)    : Prop :=
  wX2_times_13 k post (0 : Int32) (nI k.2.2.length) (0 : Int32)
