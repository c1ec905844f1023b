/-! THE PURE GAME: what both sides answer and do. A game: the settings d (diagonals), l (lock), and its boards, the last one now -/
abbrev Gm : Type := Nat × Nat × List Bd
def gNew (d l : Nat) : Gm := (d, l, [(0, 0, 0)])
def cur (g : Gm) : Bd := g.2.2.getLast?.getD (0, 0, 0)
def nmv (g : Gm) : Nat := g.2.2.length - 1
def mvC (g : Gm) : List Nat := mvl g.1 g.2.1 (cur g)
def lostG (g : Gm) : Bool := (mvC g).isEmpty
def oftG (g : Gm) : Nat := g.2.2.countP (fun b => decide (b = cur g))
def overG (g : Gm) : Bool := lostG g || decide (3 ≤ oftG g)
def mvG (g : Gm) : List Nat := if overG g then [] else mvC g
def goG (g : Gm) (q : Nat) : Gm := (g.1, g.2.1, g.2.2 ++ [nxb (cur g) q])
def due (w : Int) : Int := if w = 0 then 0 else if 0 < w then -w else -2 - w
def wG (g : Gm) : Int := wrb g.1 g.2.1 (cur g)
def wB (g : Gm) (q : Nat) : Int := wrb g.1 g.2.1 (nxb (cur g) q)
def bestG (g : Gm) : Nat := ((mvC g).find? (fun q => decide (wB g q = due (wG g)))).getD 90
/-- a move that is asked for by an int, if it is one -/
def askG (g : Gm) (x : Int32) : Option Nat := (mvG g).find? (fun q => decide (nI q = x))
/-- placing or sliding: the answer, the game -/
def mvsG (x : Int32) (pl : Bool) (g : Gm) : Int32 × Gm := match askG g x with
  | none => (-5, g)
  | some q => (if pl then nI (cnt (app (meB (cur g)) q)) else nI (1 - (cur g).2.2), goG g q)
def in09 (x : Int32) : Bool := decide (0 ≤ x.toInt ∧ x.toInt ≤ 8)
def placesG (x : Int32) (g : Gm) : Int32 × Gm := if in09 x then mvsG x true g else (-1, g)
def slidesG (x y : Int32) (g : Gm) : Int32 × Gm := if in09 x && in09 y then mvsG (9 + 9 * x + y) false g else (-1, g)
def playN : Nat → Gm → Nat × Gm
  | 0, g => (0, g)
  | k + 1, g => if overG g then (0, g) else ((playN k (goG g (bestG g))).1 + 1, (playN k (goG g (bestG g))).2)
def playsG (x : Int32) (g : Gm) : Int32 × Gm := if decide (1 ≤ x.toInt ∧ x.toInt ≤ 60) then (if overG g then (-5, g) else (nI (playN x.toInt.toNat g).1, (playN x.toInt.toNat g).2)) else (-2, g)
/-- a game as it should be -/
def gok (g : Gm) : Prop := g.1 < 2 ∧ g.2.1 < 2 ∧ g.2.2 ≠ [] ∧ ∀ b ∈ g.2.2, bokB b ∧ legB g.1 b = true
theorem cur_mem {g : Gm} (h : gok g) : cur g ∈ g.2.2 := by
  unfold cur
  rw [List.getLast?_eq_some_getLast h.2.2.1]
  exact List.getLast_mem h.2.2.1
theorem cur_ok {g : Gm} (h : gok g) : bokB (cur g) ∧ legB g.1 (cur g) = true := h.2.2.2 _ (cur_mem h)
theorem gok_go {g : Gm} {q : Nat} (h : gok g) (hq : q ∈ mvC g) : gok (goG g q) := by
  have hc := cur_ok h
  refine ⟨h.1, h.2.1, by simp [goG], fun b hb => ?_⟩
  rcases List.mem_append.mp hb with hb | hb
  · exact h.2.2.2 b hb
  · rw [List.mem_singleton] at hb
    subst hb
    exact ⟨nxb_bok hc.1 (isMv_okm (mem_mvl.mp hq).2), nxb_legal hc.1 hc.2 hq⟩
theorem cur_go (g : Gm) (q : Nat) : cur (goG g q) = nxb (cur g) q := by
  show (g.2.2 ++ [nxb (cur g) q]).getLast?.getD (0, 0, 0) = nxb (cur g) q
  rw [List.getLast?_concat]
  rfl
theorem mvG_mvC {g : Gm} {q : Nat} (h : q ∈ mvG g) : q ∈ mvC g := by
  unfold mvG at h
  split at h
  · cases h
  · exact h
/-- a game that isn't over has a best move -/
theorem best_mem {g : Gm} (h : gok g) (ho : overG g = false) : bestG g ∈ mvC g ∧ wB g (bestG g) = due (wG g) := by
  have hc := cur_ok h
  have hl : lostG g = false := by
    unfold overG at ho
    simp only [Bool.or_eq_false_iff] at ho
    exact ho.1
  have hne : mvC g ≠ [] := by
    intro z
    unfold lostG at hl
    rw [z] at hl
    cases hl
  have hex : ∃ q ∈ mvC g, wB g q = due (wG g) := by
    have hcert := cert h.1 h.2.1 hc.1 hc.2
    have mem : ∀ u, u ∈ (mvl g.1 g.2.1 (cur g)).map (fun q => wrb g.1 g.2.1 (nxb (cur g) q)) → ∃ q ∈ mvC g, wB g q = u := by
      intro u hu
      obtain ⟨q, hq, rfl⟩ := List.mem_map.mp hu
      exact ⟨q, hq, rfl⟩
    have hw : wG g = wrb g.1 g.2.1 (cur g) := rfl
    rw [← hw] at hcert
    generalize wG g = w at *
    unfold due
    rcases hcert with ⟨h1, h2⟩ | ⟨_, ⟨h1, h2, h3, h4, h5⟩ | ⟨h1, h2, h3⟩ | ⟨h1, h2, h3, h4⟩⟩
    · exact absurd (List.map_eq_nil_iff.mp h1) hne
    · rw [if_neg (by omega), if_neg (by omega)]; exact mem _ h5
    · rw [if_pos h1]; exact mem _ h3
    · rw [if_neg (by omega), if_pos h1]; exact mem _ h4
  obtain ⟨q0, hq0, e0⟩ := hex
  unfold bestG
  cases hf : (mvC g).find? (fun q => decide (wB g q = due (wG g))) with
  | none => exact absurd e0 (by simpa using List.find?_eq_none.mp hf q0 hq0)
  | some q => exact ⟨List.mem_of_find?_eq_some hf, by simpa using List.find?_some hf⟩
theorem gok_play {g : Gm} (h : gok g) : ∀ k, gok (playN k g).2 := by
  intro k
  induction k generalizing g with
  | zero => exact h
  | succ k ih =>
    unfold playN
    split
    · exact h
    · rename_i ho
      exact ih (gok_go h (best_mem h (by simpa using ho)).1)
theorem play_le (g : Gm) : ∀ k, (playN k g).1 ≤ k := by
  intro k
  induction k generalizing g with
  | zero => exact Nat.le_refl _
  | succ k ih =>
    unfold playN
    split
    · exact Nat.zero_le _
    · exact Nat.succ_le_succ (ih _)
theorem play_len (g : Gm) : ∀ k, (playN k g).2.2.2.length = g.2.2.length + (playN k g).1 := by
  intro k
  induction k generalizing g with
  | zero => rfl
  | succ k ih =>
    unfold playN
    split
    · rfl
    · dsimp only
      rw [ih]
      simp [goG]
      omega
