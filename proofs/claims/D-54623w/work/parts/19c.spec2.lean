/-! THE PURE SYSTEM: what each call answers and does. SS: the game now, those to come back by undo (oldest first), the two slots, the pad -/
abbrev SS : Type := Gm × List Gm × (Nat → Option Gm) × List Nat
def recS (S : SS) : List Gm := (if S.2.1.length = 6 then S.2.1.tail else S.2.1) ++ [S.1]
def ordS (r : Int32 × Gm) (S : SS) : Int32 × SS := if r.1 < 0 then (r.1, (r.2, S.2)) else (r.1, (r.2, recS S, S.2.2))
def in01 (x : Int32) : Bool := decide (0 ≤ x.toInt ∧ x.toInt ≤ 1)
def sSet (x y : Int32) (S : SS) : Int32 × SS := if in01 x && in01 y then (if x = 0 then (nI S.1.1, (gNew y.toInt.toNat S.1.2.1, recS S, S.2.2)) else (nI S.1.2.1, (gNew S.1.1 y.toInt.toNat, recS S, S.2.2))) else (-2, S)
def sBegin (S : SS) : Int32 × SS := (nI (nmv S.1), (gNew S.1.1 S.1.2.1, recS S, S.2.2))
def sPlace (x : Int32) (S : SS) : Int32 × SS := ordS (placesG x S.1) S
def sSlide (x y : Int32) (S : SS) : Int32 × SS := ordS (slidesG x y S.1) S
def sPass (S : SS) : Int32 × SS := ordS (mvsG 90 false S.1) S
def sPlay (x : Int32) (S : SS) : Int32 × SS := ordS (playsG x S.1) S
def sAt (x : Int32) (S : SS) : Int32 := if in09 x then (if (cur S.1).1.testBit x.toInt.toNat then 0 else if (cur S.1).2.1.testBit x.toInt.toNat then 1 else -6) else -1
def sCount (x : Int32) (S : SS) : Int32 :=
  if x = 0 then nI (cur S.1).2.2 else if x = 1 then nI (nmv S.1) else if x = 2 then nI (cnt (cur S.1).1) else if x = 3 then nI (cnt (cur S.1).2.1) else if x = 4 then b2 (overG S.1)
  else if x = 5 then (if lostG S.1 then nI (1 - (cur S.1).2.2) else -6) else if x = 6 then b2 (decide (3 ≤ oftG S.1) && !lostG S.1) else if x = 7 then nI (oftG S.1)
  else if x = 8 then nI S.1.1 else if x = 9 then nI S.1.2.1 else if x = 10 then nI S.2.2.2.length else if x = 11 then nI S.2.1.length else -2
def nbM (d p : Nat) : Nat → Nat
  | 0 => 0
  | t + 1 => if isNb d p t then nbM d p t ||| 2 ^ t else nbM d p t
def sNb (x : Int32) (S : SS) : Int32 := if in09 x then nI (nbM S.1.1 x.toInt.toNat 9) else -1
def sMove (x : Int32) (S : SS) : Int32 := if decide (0 ≤ x.toInt ∧ x.toInt < (mvG S.1).length) then nI ((mvG S.1).getD x.toInt.toNat 0) else -1
def sWorth (S : SS) : Int32 := iI (wG S.1 + 100)
def sBehind (x : Int32) (S : SS) : Int32 := match askG S.1 x with
  | none => -1
  | some q => iI (wB S.1 q + 100)
def sBest (S : SS) : Int32 := if overG S.1 then -5 else nI (bestG S.1)
def in511 (x : Int32) : Bool := decide (0 ≤ x.toInt ∧ x.toInt ≤ 511)
def sWof (a b c : Int32) (S : SS) : Int32 := if in511 a && in511 b && in01 c && decide (a.toInt.toNat &&& b.toInt.toNat = 0) && legal S.1.1 a.toInt.toNat b.toInt.toNat c.toInt.toNat then iI (wrb S.1.1 S.1.2.1 (a.toInt.toNat, b.toInt.toNat, c.toInt.toNat) + 100) else -2
noncomputable def talC (d l : Nat) (P : Int → Bool) (n : Nat) : Nat := (List.range n).countP (fun c => legB d (bOf c) && P (wrb d l (bOf c)))
noncomputable def lonC (d l : Nat) (F : Int → Int) : Nat → Int
  | 0 => 0
  | c + 1 => if legB d (bOf c) = true then max (lonC d l F c) (F (wrb d l (bOf c))) else lonC d l F c
noncomputable def talG (x : Int32) (d l : Nat) : Int32 :=
  if x = 0 then nI (talC d l (fun _ => true) 39366) else if x = 1 then nI (talC d l (fun w => decide (0 < w)) 39366) else if x = 2 then nI (talC d l (fun w => decide (w < 0)) 39366)
  else if x = 3 then nI (talC d l (fun w => decide (w = 0)) 39366) else if x = 4 then iI (lonC d l (fun w => w) 39366) else if x = 5 then iI (lonC d l (fun w => -1 - w) 39366) else -2
noncomputable def sTally (x : Int32) (S : SS) : Int32 := talG x S.1.1 S.1.2.1
noncomputable def sMany (x : Int32) (S : SS) : Int32 := if decide (0 ≤ x.toInt ∧ x.toInt ≤ 200) then nI (talC S.1.1 S.1.2.1 (fun w => decide (w = x.toInt - 100)) 39366) else -2
/-- the characters in a long, the last one first -/
def unp : Nat → Nat → Option (List Nat)
  | 0, _ => some []
  | k + 1, n => if n = 0 then some [] else if decide (33 ≤ n % 256 ∧ n % 256 ≤ 126) then (unp k (n / 256)).map (fun r => n % 256 :: r) else none
def sPut (x : Int64) (S : SS) : Int32 × SS := match unp 8 x.toBitVec.toNat with
  | none => (-2, S)
  | some [] => (-2, S)
  | some (c :: r) => if S.2.2.2.length + (c :: r).length ≤ 80 then (nI (S.2.2.2.length + (c :: r).length), (S.1, S.2.1, S.2.2.1, S.2.2.2 ++ (c :: r).reverse)) else (-4, S)
def sWipe (S : SS) : Int32 × SS := (nI S.2.2.2.length, (S.1, S.2.1, S.2.2.1, []))
/-- orders: what (a character), two numbers -/
abbrev Od : Type := Nat × Nat × Nat
def chP (P : List Nat) (i : Nat) : Nat := P.getD i 0
def dg1 (c : Nat) : Bool := decide (49 ≤ c ∧ c ≤ 57)
def dg0 (c : Nat) : Bool := decide (48 ≤ c ∧ c ≤ 57)
def rdO (P : List Nat) (i : Nat) : Bool × Nat × Od :=
  if chP P i = 112 then (if dg1 (chP P (i + 1)) then (true, i + 2, (112, chP P (i + 1) - 49, 0)) else (false, i + 1, (0, 0, 0)))
  else if chP P i = 115 then (if dg1 (chP P (i + 1)) then (if dg1 (chP P (i + 2)) then (true, i + 3, (115, chP P (i + 1) - 49, chP P (i + 2) - 49)) else (false, i + 2, (0, 0, 0))) else (false, i + 1, (0, 0, 0)))
  else if chP P i = 45 then (true, i + 1, (45, 0, 0))
  else if chP P i = 109 then (if dg0 (chP P (i + 1)) then (true, i + 2, (109, chP P (i + 1) - 48, 0)) else (true, i + 1, (109, 1, 0)))
  else (false, i, (0, 0, 0))
def rdA (P : List Nat) : Nat → Nat → Bool × Nat × List Od
  | 0, i => (false, i, [])
  | n + 1, i => if (rdO P i).1 then (if (rdO P i).2.1 < P.length then (if chP P (rdO P i).2.1 = 59 then ((rdA P n ((rdO P i).2.1 + 1)).1, (rdA P n ((rdO P i).2.1 + 1)).2.1, (rdO P i).2.2 :: (rdA P n ((rdO P i).2.1 + 1)).2.2) else (false, (rdO P i).2.1, [(rdO P i).2.2])) else (true, (rdO P i).2.1, [(rdO P i).2.2])) else (false, (rdO P i).2.1, [])
def doO (o : Od) (g : Gm) : Int32 × Gm := if o.1 = 112 then placesG (nI o.2.1) g else if o.1 = 115 then slidesG (nI o.2.1) (nI o.2.2) g else if o.1 = 45 then mvsG 90 false g else playsG (nI o.2.1) g
def doA : List Od → Gm → Nat × Gm
  | [], g => (0, g)
  | o :: os, g => if (doO o g).1 < 0 then (0, (doO o g).2) else ((doA os (doO o g).2).1 + 1, (doA os (doO o g).2).2)
def sFault (S : SS) : Int32 := if (rdA S.2.2.2 81 0).1 then -6 else nI (rdA S.2.2.2 81 0).2.1
def sCarry (S : SS) : Int32 × SS := if (rdA S.2.2.2 81 0).1 then (nI (doA (rdA S.2.2.2 81 0).2.2 S.1).1, ((doA (rdA S.2.2.2 81 0).2.2 S.1).2, recS S, S.2.2.1, [])) else (-3, S)
def sUndo (S : SS) : Int32 × SS := match S.2.1.getLast? with
  | none => (-5, S)
  | some g => (nI (S.2.1.length - 1), (g, S.2.1.dropLast, S.2.2))
def sSave (x : Int32) (S : SS) : Int32 × SS := if in01 x then (nI (nmv S.1), (S.1, S.2.1, va_up S.2.2.1 x.toInt.toNat (some S.1), S.2.2.2)) else (-2, S)
def sRest (x : Int32) (S : SS) : Int32 × SS := if in01 x then (match S.2.2.1 x.toInt.toNat with
  | none => (-5, S)
  | some g => (nI (nmv g), (g, recS S, S.2.2))) else (-2, S)
theorem in01_of {x : Int32} (h : in01 x = true) : ∃ n, n < 2 ∧ x = nI n ∧ x.toInt.toNat = n := by
  have h1 := of_decide_eq_true h
  refine ⟨x.toInt.toNat, by omega, ?_, rfl⟩
  rw [iI_nI, Int.toNat_of_nonneg h1.1]
  exact (Int32.ofInt_toInt x).symm
theorem in09_of {x : Int32} (h : in09 x = true) : ∃ n, n < 9 ∧ x = nI n ∧ x.toInt.toNat = n := by
  have h1 := of_decide_eq_true h
  refine ⟨x.toInt.toNat, by omega, ?_, rfl⟩
  rw [iI_nI, Int.toNat_of_nonneg h1.1]
  exact (Int32.ofInt_toInt x).symm
theorem in511_of {x : Int32} (h : in511 x = true) : ∃ n, n < 512 ∧ x = nI n ∧ x.toInt.toNat = n := by
  have h1 := of_decide_eq_true h
  refine ⟨x.toInt.toNat, by omega, ?_, rfl⟩
  rw [iI_nI, Int.toNat_of_nonneg h1.1]
  exact (Int32.ofInt_toInt x).symm
theorem of_nn {x : Int32} (h : 0 ≤ x.toInt) : x = nI x.toInt.toNat := by
  rw [iI_nI, Int.toNat_of_nonneg h]
  exact (Int32.ofInt_toInt x).symm
theorem gok_new {d l : Nat} (hd : d < 2) (hl : l < 2) : gok (gNew d l) := by
  refine ⟨hd, hl, by simp [gNew], fun b hb => ?_⟩
  rw [show (gNew d l).2.2 = [(0, 0, 0)] from rfl, List.mem_singleton] at hb
  subst hb
  refine ⟨⟨by decide, by decide, by decide, by decide⟩, ?_⟩
  have : ∀ d, d < 2 → legB d (0, 0, 0) = true := by decide
  exact this d hd
