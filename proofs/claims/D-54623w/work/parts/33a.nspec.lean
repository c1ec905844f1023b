/-! SPEC of nextOf (n: what stands in the field lines) -/
def pX4_nextOf (x1 n : Int32) : Prop := ∃ d p, d < 2 ∧ p < 9 ∧ n = nI (if d = 1 then 8 else 6) ∧ x1 = nI p
def qX4_nextOf (x1 n r : Int32) : Prop := ∀ d p, d < 2 → p < 9 → n = nI (if d = 1 then 8 else 6) → x1 = nI p → r = nI (nxM d p)
def nxi (p j acc : Nat) : Nat → Nat
  | 0 => acc
  | o + 1 => if (lnN j).testBit p && (lnN j).testBit o && besN p o then nxi p j acc o ||| 2 ^ o else nxi p j acc o
def nxo (p : Nat) : Nat → Nat
  | 0 => 0
  | j + 1 => nxi p j (nxo p j) 9
theorem nxo_nxM : ∀ d, d < 2 → ∀ p, p < 9 → nxo p (if d = 1 then 8 else 6) = nxM d p := by decide +kernel
theorem nxi_lt {p j acc : Nat} (h : acc < 512) : ∀ o, o ≤ 9 → nxi p j acc o < 512
  | 0, _ => h
  | o + 1, ho => by
    have := nxi_lt (p := p) (j := j) h o (by omega)
    unfold nxi
    split
    · exact Nat.or_lt_two_pow (n := 9) this (Nat.pow_lt_pow_right (by decide) (by omega))
    · exact this
theorem nxo_lt {p : Nat} : ∀ j, nxo p j < 512
  | 0 => by show 0 < 512; decide
  | j + 1 => nxi_lt (nxo_lt j) 9 (Nat.le_refl _)
theorem ln_lt : ∀ j, j < 8 → lnN j < 512 := by decide
