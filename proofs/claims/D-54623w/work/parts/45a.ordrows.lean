/-! READER: what is read of an order, and the orders' world -/
def ordR (P : List Nat) (z sp : Nat) : Bool × Nat × Od :=
  if z = 112 then (if dg1 (chP P sp) = true then (true, sp + 1, (112, chP P sp - 49, 0)) else (false, sp, (112, 0, 0)))
  else if z = 115 then (if dg1 (chP P sp) = true then (if dg1 (chP P (sp + 1)) = true then (true, sp + 1 + 1, (115, chP P sp - 49, chP P (sp + 1) - 49)) else (false, sp + 1, (115, chP P sp - 49, 0))) else (false, sp, (115, 0, 0)))
  else if z = 109 then (if dg0 (chP P sp) = true then (true, sp + 1, (109, chP P sp - 48, 0)) else (true, sp, (109, 1, 0)))
  else (true, sp, (45, 0, 0))
/-- room for n orders -/
def capN (n : Nat) : Nat := if n ≤ 10 then 10 else if n ≤ 15 then 15 else if n ≤ 22 then 22 else if n ≤ 33 then 33 else 49
def celN (n : Nat) : Nat := if n = 0 ∨ n = 10 ∨ n = 15 ∨ n = 22 ∨ n = 33 then 1 else 0
def sloN (n : Nat) : Nat := if n = 0 then 10 else if n = 10 then 15 else if n = 15 then 22 else if n = 22 then 33 else if n = 33 then 49 else 0
theorem capN_ok (n : Nat) (h1 : 1 ≤ n) (h2 : n ≤ 45) : (n ≤ capN n ∧ 2 ≤ capN n ∧ capN n < 500) ∧ (∀ k3, celA (some k3) (capN n) n = celN n) ∧ (∀ k3, sloA (some k3) (capN n) n = sloN n) ∧ (∀ k3, capA (some k3) (capN n) n = capN (n + 1)) := by
  have key : ∀ n, n < 46 → 1 ≤ n → (n ≤ capN n ∧ 2 ≤ capN n ∧ capN n < 500) ∧ (if n < capN n then 0 else 1) = celN n ∧ (if n < capN n then 0 else capN n + capN n / 2) = sloN n ∧ (if n < capN n then capN n else capN n + capN n / 2) = capN (n + 1) := by decide
  obtain ⟨k1, k2, k3, k4⟩ := key n (by omega) h1
  exact ⟨k1, fun _ => k2, fun _ => k3, fun _ => k4⟩
/-- the list of orders (fresh where there is none) and the orders -/
def ordW (ct : Nat → ClassId) (e0 b k3 : Nat) (mo : Int32) (os : List (Nat × Od)) : va_W := match os with
  | [] => [(b, .inr (6, [.int mo, .ref e0, .int (nI 0)]))]
  | o :: r => lW ct b k3 mo (capN (o :: r).length) ((o :: r).map (fun o => some o.1)) ++ (o :: r).map (fun o => (o.1, .inl (ct 0, 3, .inl (od3 o.2))))
