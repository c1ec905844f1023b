/-! SPECS of statics: Math.abs, max, Integer.bitCount, signum, MorrisTables.isIn, Rules.isBeside, behind, Table.rank -/
def qJ4_abs (x0 r : Int32) : Prop := r = if 0 ≤ x0 then x0 else -x0
def qJ4_max (x0 x1 r : Int32) : Prop := r = if x0 < x1 then x1 else x0
def qJ12_bitCount (x0 r : Int32) : Prop := ∀ m, m < 512 → x0 = nI m → r = nI (cnt m)
def qJ12_signum (x0 r : Int32) : Prop := ∀ w : Int, -128 ≤ w → w < 128 → x0 = iI w → r = if 0 < w then 1 else if w < 0 then -1 else 0
def qX0_isIn (x0 x1 x2 r : Int32) : Prop := r = b2 (decide (x1 ≤ x0 ∧ x0 ≤ x2))
def besN (a b : Nat) : Bool := decide (a ≠ b ∧ dst (a / 3) (b / 3) ≤ 1 ∧ dst (a % 3) (b % 3) ≤ 1)
def qX4_isBeside (x0 x1 r : Int32) : Prop := ∀ a, a < 9 → ∀ b, b < 9 → x0 = nI a → x1 = nI b → r = b2 (besN a b)
def qX4_behind (x0 x1 r : Int32) : Prop := ∀ me, me < 512 → ∀ q, q < 91 → x0 = nI me → x1 = nI q → r = nI (app me q)
def qX5_rank (x0 x1 r : Int32) : Prop := r = if x0 = -x1 then 2 else if 0 < x0 ∧ x0 < x1 then 0 else 1
