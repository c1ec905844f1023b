/-! PURE 1: boards, moves, by masks of men (bit k: the point k) -/
def b2 (b : Bool) : Int32 := if b then 1 else 0
def cnt (m : Nat) : Nat := (List.range 9).countP (fun k => m.testBit k)
def lns (d : Nat) : List Nat := if d = 1 then [7, 56, 448, 73, 146, 292, 273, 84] else [7, 56, 448, 73, 146, 292]
def hasL (d m : Nat) : Bool := (lns d).any (fun L => m &&& L == L)
def dst (a b : Nat) : Nat := (a - b) + (b - a)
def farN (a b : Nat) : Nat := dst (a / 3) (b / 3) * dst (a / 3) (b / 3) + dst (a % 3) (b % 3) * dst (a % 3) (b % 3)
def isNb (d a b : Nat) : Bool := farN a b == 1 || (farN a b == 2 && d == 1 && (a == 4 || b == 4))
def fre (f s k : Nat) : Bool := !f.testBit k && !s.testBit k
/-- a slide's number q: from (q - 9) / 9 to (q - 9) % 9 -/
def isSl (d me ot q : Nat) : Bool := decide (9 ≤ q) && decide (q < 90) && me.testBit ((q - 9) / 9) && fre me ot ((q - 9) % 9) && isNb d ((q - 9) / 9) ((q - 9) % 9)
def isLk (d me ot : Nat) : Bool := !((List.range 90).any (isSl d me ot))
def isMv (d l me ot q : Nat) : Bool := !hasL d ot && (if cnt me < 3 then decide (q < 9) && fre me ot q else isSl d me ot q || (q == 90 && l == 1 && isLk d me ot))
def lookL (d l me ot : Nat) : List Nat := (List.range 91).filter (isMv d l me ot)
def app (me q : Nat) : Nat := if q = 90 then me else if q < 9 then me ||| 2 ^ q else (me &&& (511 ^^^ 2 ^ ((q - 9) / 9))) ||| 2 ^ ((q - 9) % 9)
abbrev Bd : Type := Nat × Nat × Nat
def sid (f s pl : Nat) : Nat := if pl = 0 then f else s
def cel (f s k : Nat) : Nat := (f.testBit k).toNat + 2 * (s.testBit k).toNat
def trn (f s : Nat) : Nat → Nat
  | 0 => 0
  | k + 1 => trn f s k + 3 ^ k * cel f s k
def cod (f s mv : Nat) : Nat := trn f s 9 + 19683 * mv
def bok (f s mv : Nat) : Prop := f < 512 ∧ s < 512 ∧ f &&& s = 0 ∧ mv < 2
/-- the board behind a move -/
def nxb (b : Bd) (q : Nat) : Bd := if b.2.2 = 0 then (app b.1 q, b.2.1, 1) else (b.1, app b.2.1 q, 0)
def legal (d f s mv : Nat) : Bool := (decide (cnt f = cnt s ∧ cnt f < 3 ∧ mv = 0) || decide (cnt f = cnt s + 1 ∧ cnt f ≤ 3 ∧ mv = 1) || decide (cnt f = 3 ∧ cnt s = 3)) && !hasL d (sid f s mv)
/-- a move that may be carried out on a board at all -/
def okm (me ot q : Nat) : Prop := q = 90 ∨ (q < 9 ∧ fre me ot q = true) ∨ (9 ≤ q ∧ q < 90 ∧ me.testBit ((q - 9) / 9) = true ∧ fre me ot ((q - 9) % 9) = true)
theorem i_lit (n : Nat) : (@OfNat.ofNat Int32 n _) = nI n := rfl
theorem tb_hi {f k : Nat} (hf : f < 512) (hk : 9 ≤ k) : f.testBit k = false := Nat.testBit_lt_two_pow (Nat.lt_of_lt_of_le hf (Nat.pow_le_pow_right (n := 2) (by decide) hk))
theorem and0 {f s : Nat} (h : f &&& s = 0) (k : Nat) : ¬ (f.testBit k = true ∧ s.testBit k = true) := by
  intro ⟨h1, h2⟩
  have := congrArg (fun z => Nat.testBit z k) h
  simp [Nat.testBit_and, h1, h2] at this
theorem and0_of {f s : Nat} (h : ∀ k, ¬ (f.testBit k = true ∧ s.testBit k = true)) : f &&& s = 0 := by
  apply Nat.eq_of_testBit_eq
  intro k
  have := h k
  simp only [Nat.testBit_and, Nat.zero_testBit]
  cases h1 : f.testBit k <;> cases h2 : s.testBit k <;> simp_all
theorem cel_lt {f s : Nat} (h : f &&& s = 0) (k : Nat) : cel f s k < 3 := by
  have := and0 h k
  unfold cel
  cases h1 : f.testBit k <;> cases h2 : s.testBit k <;> simp_all
theorem cel_eq1 {f s : Nat} (h : f &&& s = 0) (k : Nat) : cel f s k = 1 ↔ f.testBit k = true := by
  have := and0 h k
  unfold cel
  cases h1 : f.testBit k <;> cases h2 : s.testBit k <;> simp_all
theorem cel_eq2 {f s : Nat} (h : f &&& s = 0) (k : Nat) : cel f s k = 2 ↔ s.testBit k = true := by
  have := and0 h k
  unfold cel
  cases h1 : f.testBit k <;> cases h2 : s.testBit k <;> simp_all
theorem cel_eq0 {f s : Nat} (k : Nat) : cel f s k = 0 ↔ fre f s k = true := by
  unfold cel fre
  cases h1 : f.testBit k <;> cases h2 : s.testBit k <;> simp_all
theorem cel_sid {f s : Nat} (h : f &&& s = 0) {pl : Nat} (hp : pl < 2) (k : Nat) : cel f s k = pl + 1 ↔ (sid f s pl).testBit k = true := by
  rcases (show pl = 0 ∨ pl = 1 by omega) with rfl | rfl
  · exact cel_eq1 h k
  · exact cel_eq2 h k
theorem trn_lt {f s : Nat} (h : f &&& s = 0) : ∀ n, trn f s n < 3 ^ n
  | 0 => by simp [trn]
  | n + 1 => by
    have h1 := trn_lt h n
    have h2 := cel_lt h n
    have : 3 ^ n * cel f s n ≤ 3 ^ n * 2 := Nat.mul_le_mul_left _ (by omega)
    simp only [trn, Nat.pow_succ]
    omega
theorem cod_lt {f s mv : Nat} (h : bok f s mv) : cod f s mv < 39366 := by
  have h1 := trn_lt h.2.2.1 9
  have := h.2.2.2
  have h2 : (3 : Nat) ^ 9 = 19683 := by decide
  unfold cod
  omega
/-- the digits of a code -/
theorem trn_mod {f s : Nat} (h : f &&& s = 0) : ∀ n k, k < n → trn f s n / 3 ^ k % 3 = cel f s k
  | 0, k, hk => by omega
  | n + 1, k, hk => by
    have hn := trn_lt h n
    rcases (show k = n ∨ k < n by omega) with rfl | hk
    · rw [trn, Nat.add_mul_div_left _ _ (Nat.pow_pos (by decide)), Nat.div_eq_of_lt hn, Nat.zero_add, Nat.mod_eq_of_lt (cel_lt h k)]
    · have ih := trn_mod h n k hk
      rw [trn]
      obtain ⟨j, rfl⟩ : ∃ j, n = k + 1 + j := ⟨n - k - 1, by omega⟩
      have e : 3 ^ (k + 1 + j) * cel f s (k + 1 + j) = 3 ^ k * (3 * (3 ^ j * cel f s (k + 1 + j))) := by
        rw [Nat.pow_add, Nat.pow_succ]
        simp only [Nat.mul_assoc]
      rw [e, Nat.add_mul_div_left _ _ (Nat.pow_pos (by decide)), Nat.add_mul_mod_self_left]
      exact ih
theorem cel_inj {f s f' s' : Nat} (hf : f < 512) (hs : s < 512) (hf' : f' < 512) (hs' : s' < 512) (h : f &&& s = 0) (h' : f' &&& s' = 0) (e : ∀ k, k < 9 → cel f s k = cel f' s' k) : f = f' ∧ s = s' := by
  constructor
  · apply Nat.eq_of_testBit_eq
    intro k
    by_cases hk : k < 9
    · have := e k hk
      rw [Bool.eq_iff_iff, ← cel_eq1 h, ← cel_eq1 h', this]
    · rw [tb_hi hf (by omega), tb_hi hf' (by omega)]
  · apply Nat.eq_of_testBit_eq
    intro k
    by_cases hk : k < 9
    · have := e k hk
      rw [Bool.eq_iff_iff, ← cel_eq2 h, ← cel_eq2 h', this]
    · rw [tb_hi hs (by omega), tb_hi hs' (by omega)]
theorem cod_inj {f s mv f' s' mv' : Nat} (h : bok f s mv) (h' : bok f' s' mv') (e : cod f s mv = cod f' s' mv') : f = f' ∧ s = s' ∧ mv = mv' := by
  have h1 := trn_lt h.2.2.1 9
  have h2 := trn_lt h'.2.2.1 9
  have h3 : (3 : Nat) ^ 9 = 19683 := by decide
  unfold cod at e
  have hm : mv = mv' := by omega
  have ht : trn f s 9 = trn f' s' 9 := by omega
  have := cel_inj h.1 h.2.1 h'.1 h'.2.1 h.2.2.1 h'.2.2.1 (fun k hk => by rw [← trn_mod h.2.2.1 9 k hk, ← trn_mod h'.2.2.1 9 k hk, ht])
  exact ⟨this.1, this.2, hm⟩
theorem trn_congr {f s f' s' : Nat} : ∀ n, (∀ k, k < n → cel f s k = cel f' s' k) → trn f s n = trn f' s' n
  | 0, _ => rfl
  | n + 1, h => by rw [trn, trn, trn_congr n (fun k hk => h k (by omega)), h n (by omega)]
theorem tb_lt {f n k : Nat} (hf : f < 2 ^ n) (hk : n ≤ k) : f.testBit k = false := Nat.testBit_lt_two_pow (Nat.lt_of_lt_of_le hf (Nat.pow_le_pow_right (by decide) hk))
theorem trn_ex : ∀ n t, t < 3 ^ n → ∃ f s, f < 2 ^ n ∧ s < 2 ^ n ∧ f &&& s = 0 ∧ trn f s n = t
  | 0, t, h => ⟨0, 0, by decide, by decide, by decide, by simp at h; rw [h]; rfl⟩
  | n + 1, t, h => by
    have hp : 0 < 3 ^ n := Nat.pow_pos (by decide)
    obtain ⟨f, s, h1, h2, h3, h4⟩ := trn_ex n (t % 3 ^ n) (Nat.mod_lt _ hp)
    have hd : t / 3 ^ n < 3 := Nat.div_lt_of_lt_mul (by rw [Nat.pow_succ] at h; omega)
    have hdm := Nat.div_add_mod t (3 ^ n)
    have key : ∀ f' s' : Nat, (∀ k, k < n → f'.testBit k = f.testBit k ∧ s'.testBit k = s.testBit k) → cel f' s' n = t / 3 ^ n → trn f' s' (n + 1) = t := by
      intro f' s' hk hc
      rw [trn, trn_congr (f := f') (s := s') (f' := f) (s' := s) n (fun k q => by unfold cel; rw [(hk k q).1, (hk k q).2]), h4, hc]
      omega
    have up : ∀ x : Nat, x < 2 ^ n → 2 ^ n + x < 2 ^ (n + 1) := fun x hx => by rw [Nat.pow_succ]; omega
    have lo : ∀ x : Nat, x < 2 ^ n → x < 2 ^ (n + 1) := fun x hx => by rw [Nat.pow_succ]; omega
    have fn := tb_lt h1 (Nat.le_refl n)
    have sn := tb_lt h2 (Nat.le_refl n)
    have tn : ∀ x : Nat, x < 2 ^ n → (2 ^ n + x).testBit n = true := fun x hx => by rw [Nat.testBit_two_pow_add_eq, tb_lt hx (Nat.le_refl n)]; rfl
    have tl : ∀ x k : Nat, k < n → (2 ^ n + x).testBit k = x.testBit k := fun x k hk => Nat.testBit_two_pow_add_gt hk x
    have th : ∀ x k : Nat, x < 2 ^ n → n < k → (2 ^ n + x).testBit k = false := fun x k hx hk => tb_lt (up x hx) hk
    rcases (show ∀ g : Nat, g < 3 → g = 0 ∨ g = 1 ∨ g = 2 by omega) _ hd with e | e | e
    · exact ⟨f, s, lo f h1, lo s h2, h3, key f s (fun k _ => ⟨rfl, rfl⟩) (by rw [e]; unfold cel; rw [fn, sn]; rfl)⟩
    · refine ⟨2 ^ n + f, s, up f h1, lo s h2, and0_of fun k => ?_, key _ _ (fun k hk => ⟨tl f k hk, rfl⟩) (by rw [e]; unfold cel; rw [tn f h1, sn]; rfl)⟩
      rcases Nat.lt_trichotomy k n with q | q | q
      · rw [tl f k q]; exact and0 h3 k
      · subst q; rw [sn]; simp
      · rw [th f k h1 q]; simp
    · refine ⟨f, 2 ^ n + s, lo f h1, up s h2, and0_of fun k => ?_, key _ _ (fun k hk => ⟨rfl, tl s k hk⟩) (by rw [e]; unfold cel; rw [tn s h2, fn]; rfl)⟩
      rcases Nat.lt_trichotomy k n with q | q | q
      · rw [tl s k q]; exact and0 h3 k
      · subst q; rw [fn]; simp
      · rw [th s k h2 q]; simp
theorem cod_ex {c : Nat} (h : c < 39366) : ∃ f s mv, bok f s mv ∧ cod f s mv = c := by
  obtain ⟨f, s, h1, h2, h3, h4⟩ := trn_ex 9 (c % 19683) (Nat.mod_lt _ (by decide))
  exact ⟨f, s, c / 19683, ⟨h1, h2, h3, by omega⟩, by unfold cod; omega⟩
