/-! small whole numbers as ints -/
def iI (w : Int) : Int32 := Int32.ofInt w
theorem iI_toInt {w : Int} (h1 : -2147483648 ≤ w) (h2 : w < 2147483648) : (iI w).toInt = w := Int32.toInt_ofInt_of_le (by omega) (by omega)
theorem iI_eq {a b : Int} (h1 : -2147483648 ≤ a := by omega) (h2 : a < 2147483648 := by omega) (h3 : -2147483648 ≤ b := by omega) (h4 : b < 2147483648 := by omega) : iI a = iI b ↔ a = b := by
  constructor
  · intro h
    have := congrArg Int32.toInt h
    rwa [iI_toInt h1 h2, iI_toInt h3 h4] at this
  · intro h; rw [h]
theorem iI_le {a b : Int} (h1 : -2147483648 ≤ a := by omega) (h2 : a < 2147483648 := by omega) (h3 : -2147483648 ≤ b := by omega) (h4 : b < 2147483648 := by omega) : iI a ≤ iI b ↔ a ≤ b := by
  rw [Int32.le_iff_toInt_le, iI_toInt h1 h2, iI_toInt h3 h4]
theorem iI_lt {a b : Int} (h1 : -2147483648 ≤ a := by omega) (h2 : a < 2147483648 := by omega) (h3 : -2147483648 ≤ b := by omega) (h4 : b < 2147483648 := by omega) : iI a < iI b ↔ a < b := by
  rw [Int32.lt_iff_toInt_lt, iI_toInt h1 h2, iI_toInt h3 h4]
theorem iI_add (a b : Int) : iI a + iI b = iI (a + b) := (Int32.ofInt_add a b).symm
theorem iI_sub (a b : Int) : iI a - iI b = iI (a - b) := (Int32.ofInt_sub a b).symm
theorem iI_neg (a : Int) : -iI a = iI (-a) := (Int32.ofInt_neg a).symm
theorem iI_nI (n : Nat) : nI n = iI (n : Int) := (Int32.ofInt_eq_ofNat).symm
noncomputable def bOf (c : Nat) : Bd := if h : c < 39366 then (Classical.choose (cod_ex h), Classical.choose (Classical.choose_spec (cod_ex h)), Classical.choose (Classical.choose_spec (Classical.choose_spec (cod_ex h)))) else (0, 0, 0)
theorem bOf_ok {c : Nat} (h : c < 39366) : bokB (bOf c) ∧ codB (bOf c) = c := by
  have := Classical.choose_spec (Classical.choose_spec (Classical.choose_spec (cod_ex h)))
  unfold bOf
  rw [dif_pos h]
  exact this
theorem codB_lt {b : Bd} (h : bokB b) : codB b < 39366 := cod_lt h
theorem bOf_cod {b : Bd} (h : bokB b) : bOf (codB b) = b := by
  have h1 := bOf_ok (codB_lt h)
  obtain ⟨e1, e2, e3⟩ := cod_inj h1.1 h h1.2
  exact Prod.ext e1 (Prod.ext e2 e3)
def enc (w : Int) : Int32 := if w = 0 then 1000 else iI w
def mrk (w : Int) : Int := if 0 < w then w + 10000 else w - 10000
/-- the reference's table by codes: after n levels; in level n, told apart; at the end -/
noncomputable def cE (d l : Nat) (n : Int) (c : Nat) : Int32 := if legB d (bOf c) = true then enc (clp n (wrb d l (bOf c))) else 2000
noncomputable def cM (d l : Nat) (n : Int) (c : Nat) : Int32 := if legB d (bOf c) = true then (if wrb d l (bOf c) ≠ 0 ∧ lev (wrb d l (bOf c)) = n then iI (mrk (wrb d l (bOf c))) else enc (clp (n - 1) (wrb d l (bOf c)))) else 2000
noncomputable def finC (d l c : Nat) : Int32 := if legB d (bOf c) = true then iI (wrb d l (bOf c)) else 2000
/-- an array, its places from base on run through up to j -/
def seg (A0 A : Nat → Int32) (base j : Nat) (g h : Nat → Int32) : Prop := (∀ c, c < j → A (base + c) = g c) ∧ (∀ c, j ≤ c → c < 39366 → A (base + c) = h c) ∧ (∀ i, (i < base ∨ base + 39366 ≤ i) → A i = A0 i)
theorem seg_put {A0 A : Nat → Int32} {base j : Nat} {g h : Nat → Int32} (hs : seg A0 A base j g h) (hj : j < 39366) {v : Int32} (hv : v = g j) : seg A0 (upd A (base + j) v) base (j + 1) g h := by
  refine ⟨fun c hc => ?_, fun c h1 h2 => ?_, fun i hi => ?_⟩
  · by_cases e : c = j
    · subst e; rw [pk_us]; exact hv
    · rw [pk_un (by omega)]; exact hs.1 c (by omega)
  · rw [pk_un (by omega)]; exact hs.2.1 c (by omega) h2
  · rw [pk_un (by omega)]; exact hs.2.2 i hi
theorem seg_skip {A0 A : Nat → Int32} {base j : Nat} {g h : Nat → Int32} (hs : seg A0 A base j g h) (hj : j < 39366) (hv : h j = g j) : seg A0 A base (j + 1) g h := by
  refine ⟨fun c hc => ?_, fun c h1 h2 => hs.2.1 c (by omega) h2, hs.2.2⟩
  by_cases e : c = j
  · subst e; rw [← hv]; exact hs.2.1 c (Nat.le_refl _) hj
  · exact hs.1 c (by omega)
theorem seg_start {A0 A : Nat → Int32} {base : Nat} {g g' h : Nat → Int32} (hs : seg A0 A base 39366 g h) : seg A0 A base 0 g' g := ⟨fun c hc => by omega, fun c _ h2 => hs.1 c h2, hs.2.2⟩
theorem wrb_rng {d l : Nat} (hd : d < 2) (hl : l < 2) {b : Bd} (hb : bokB b) (hg : legB d b = true) : -11 ≤ wrb d l b ∧ wrb d l b ≤ 10 := by
  by_cases h : wrb d l b = 0
  · rw [h]; decide
  · exact (lev_nn hd hl hb hg h).2.2
theorem clp_rng {n w : Int} (h1 : -11 ≤ w) (h2 : w ≤ 10) : -11 ≤ clp n w ∧ clp n w ≤ 10 := by
  rcases clp_or n w with h | h
  · rw [h.1]; exact ⟨h1, h2⟩
  · rw [h.1]; decide
theorem enc_1000 {w : Int} (h1 : -11 ≤ w) (h2 : w ≤ 10) : enc w = 1000 ↔ w = 0 := by
  unfold enc
  split
  · rename_i h; simp [h]
  · rename_i h
    rw [show (1000 : Int32) = iI 1000 from rfl, iI_eq]
    constructor
    · intro; omega
    · intro; omega
