/-! WP of MorrisTables, D: printed by gen_mainD.py -/
-- places(IZ)I
def wX0_places_37 (H : HB) (post : Int32 → CS → Prop)  (x1 : Int32) (S : CS) (mk : Bool) (cc : Nat) (sc : Nat) : Prop :=
  (cOk S ∧ ∃ q ∈ mvC S.1.2, x1 = nI q) ∧ (cc + 1 ≤ H.2.2.1 ∧ sc + (S.1.2.2.2.length + 1) ≤ H.2.2.2) ∧ ∀ (S_2 : CS), (∃ u : Nat → Nat, S_2 = ((u, goG S.1.2 x1.toNatClampNeg), S.2)) → cInv S_2 ∧ ∀ r_4 : Int32, qJ12_bitCount (nI (otB (cur S_2.1.2))) r_4 → post r_4 S_2 ∧ H.1 = mk
def wX0_places_35 (H : HB) (post : Int32 → CS → Prop)  (x3 : Int32) (S : CS) (mk : Bool) (cc : Nat) (sc : Nat) : Prop :=
  post x3 S ∧ H.1 = mk
def wX0_places_26 (H : HB) (post : Int32 → CS → Prop)  (x1 : Int32) (x2 : Int32) (s1 : Int32) (S : CS) (mk : Bool) (cc : Nat) (sc : Nat) : Prop :=
  (cOk S) ∧ (cc + (bgC s1 x2 S) ≤ H.2.2.1 ∧ sc + (bgS s1 x2 S) ≤ H.2.2.2) ∧ ∀ (r_1 : Int32) (S_2 : CS), (r_1 = s1 ∧ ((s1 = 0 ∧ x2 ≠ 0 ∧ ∃ (u : Nat → Nat) (b : Nat) (mo : Int32), S_2 = recX S u b mo) ∨ (¬ (s1 = 0 ∧ x2 ≠ 0) ∧ S_2 = S))) → ((0 ≤ r_1) → wX0_places_37 H post x1 S_2 mk (cc + (bgC s1 x2 S)) (sc + (bgS s1 x2 S))) ∧ ((¬ 0 ≤ r_1) → wX0_places_35 H post r_1 S_2 mk (cc + (bgC s1 x2 S)) (sc + (bgS s1 x2 S)))
def wX0_places_24 (H : HB) (post : Int32 → CS → Prop)  (x1 : Int32) (x2 : Int32) (S : CS) (mk : Bool) (cc : Nat) (sc : Nat) : Prop :=
  wX0_places_26 H post x1 x2 (-5 : Int32) S mk cc sc
def wX0_places_20 (H : HB) (post : Int32 → CS → Prop)  (x1 : Int32) (x2 : Int32) (S : CS) (mk : Bool) (cc : Nat) (sc : Nat) : Prop :=
  wX0_places_26 H post x1 x2 (0 : Int32) S mk cc sc
def wX0_places_12 (H : HB) (post : Int32 → CS → Prop)  (x1 : Int32) (x2 : Int32) (S : CS) (mk : Bool) (cc : Nat) (sc : Nat) : Prop :=
  (cOk S ∧ H.1 = true ∧ pS S = H.2.1) ∧ (((b2 (!overG S.1.2 && isMvX S.1.2 x1)) = 0) → wX0_places_24 H post x1 x2 S true cc sc) ∧ ((¬ (b2 (!overG S.1.2 && isMvX S.1.2 x1)) = 0) → wX0_places_20 H post x1 x2 S true cc sc)
def wX0_places_8 (H : HB) (post : Int32 → CS → Prop)  (x1 : Int32) (x2 : Int32) (S : CS) (mk : Bool) (cc : Nat) (sc : Nat) : Prop :=
  wX0_places_26 H post x1 x2 (-1 : Int32) S mk cc sc
def wX0_places_0 (H : HB) (post : Int32 → CS → Prop)  (x1 : Int32) (x2 : Int32) (S : CS) (mk : Bool) (cc : Nat) (sc : Nat) : Prop :=
  ∀ r_1 : Int32, qX0_isPoint x1 r_1 → ((¬ r_1 = 0) → wX0_places_12 H post x1 x2 S mk cc sc) ∧ ((r_1 = 0) → wX0_places_8 H post x1 x2 S mk cc sc)
-- slides(IIZ)I
def wX0_slides_67 (H : HB) (post : Int32 → CS → Prop)  (x1 : Int32) (x2 : Int32) (S : CS) (mk : Bool) (cc : Nat) (sc : Nat) : Prop :=
  (cOk S ∧ ∃ q ∈ mvC S.1.2, (((9 : Int32) + ((9 : Int32) * x1)) + x2) = nI q) ∧ (cc + 1 ≤ H.2.2.1 ∧ sc + (S.1.2.2.2.length + 1) ≤ H.2.2.2) ∧ ∀ (S_2 : CS), (∃ u : Nat → Nat, S_2 = ((u, goG S.1.2 (((9 : Int32) + ((9 : Int32) * x1)) + x2).toNatClampNeg), S.2)) → post (nI (cur S_2.1.2).2.2) S_2 ∧ H.1 = mk
def wX0_slides_64 (H : HB) (post : Int32 → CS → Prop)  (x5 : Int32) (S : CS) (mk : Bool) (cc : Nat) (sc : Nat) : Prop :=
  post x5 S ∧ H.1 = mk
def wX0_slides_53 (H : HB) (post : Int32 → CS → Prop)  (x1 : Int32) (x2 : Int32) (x3 : Int32) (s1 : Int32) (S : CS) (mk : Bool) (cc : Nat) (sc : Nat) : Prop :=
  (cOk S) ∧ (cc + (bgC s1 x3 S) ≤ H.2.2.1 ∧ sc + (bgS s1 x3 S) ≤ H.2.2.2) ∧ ∀ (r_1 : Int32) (S_2 : CS), (r_1 = s1 ∧ ((s1 = 0 ∧ x3 ≠ 0 ∧ ∃ (u : Nat → Nat) (b : Nat) (mo : Int32), S_2 = recX S u b mo) ∨ (¬ (s1 = 0 ∧ x3 ≠ 0) ∧ S_2 = S))) → ((0 ≤ r_1) → wX0_slides_67 H post x1 x2 S_2 mk (cc + (bgC s1 x3 S)) (sc + (bgS s1 x3 S))) ∧ ((¬ 0 ≤ r_1) → wX0_slides_64 H post r_1 S_2 mk (cc + (bgC s1 x3 S)) (sc + (bgS s1 x3 S)))
def wX0_slides_51 (H : HB) (post : Int32 → CS → Prop)  (x1 : Int32) (x2 : Int32) (x3 : Int32) (S : CS) (mk : Bool) (cc : Nat) (sc : Nat) : Prop :=
  wX0_slides_53 H post x1 x2 x3 (-5 : Int32) S mk cc sc
def wX0_slides_47 (H : HB) (post : Int32 → CS → Prop)  (x1 : Int32) (x2 : Int32) (x3 : Int32) (S : CS) (mk : Bool) (cc : Nat) (sc : Nat) : Prop :=
  wX0_slides_53 H post x1 x2 x3 (0 : Int32) S mk cc sc
def wX0_slides_31 (H : HB) (post : Int32 → CS → Prop)  (x1 : Int32) (x2 : Int32) (x3 : Int32) (S : CS) (mk : Bool) (cc : Nat) (sc : Nat) : Prop :=
  (cOk S ∧ H.1 = true ∧ pS S = H.2.1) ∧ (((b2 (!overG S.1.2 && isMvX S.1.2 (((9 : Int32) + ((9 : Int32) * x1)) + x2))) = 0) → wX0_slides_51 H post x1 x2 x3 S true cc sc) ∧ ((¬ (b2 (!overG S.1.2 && isMvX S.1.2 (((9 : Int32) + ((9 : Int32) * x1)) + x2))) = 0) → wX0_slides_47 H post x1 x2 x3 S true cc sc)
def wX0_slides_27 (H : HB) (post : Int32 → CS → Prop)  (x1 : Int32) (x2 : Int32) (x3 : Int32) (S : CS) (mk : Bool) (cc : Nat) (sc : Nat) : Prop :=
  wX0_slides_53 H post x1 x2 x3 (-1 : Int32) S mk cc sc
def wX0_slides_19 (H : HB) (post : Int32 → CS → Prop)  (x1 : Int32) (x2 : Int32) (x3 : Int32) (s0 : Int32) (S : CS) (mk : Bool) (cc : Nat) (sc : Nat) : Prop :=
  ((¬ s0 = 0) → wX0_slides_31 H post x1 x2 x3 S mk cc sc) ∧ ((s0 = 0) → wX0_slides_27 H post x1 x2 x3 S mk cc sc)
def wX0_slides_18 (H : HB) (post : Int32 → CS → Prop)  (x1 : Int32) (x2 : Int32) (x3 : Int32) (S : CS) (mk : Bool) (cc : Nat) (sc : Nat) : Prop :=
  wX0_slides_19 H post x1 x2 x3 (0 : Int32) S mk cc sc
def wX0_slides_14 (H : HB) (post : Int32 → CS → Prop)  (x1 : Int32) (x2 : Int32) (x3 : Int32) (S : CS) (mk : Bool) (cc : Nat) (sc : Nat) : Prop :=
  wX0_slides_19 H post x1 x2 x3 (1 : Int32) S mk cc sc
def wX0_slides_7 (H : HB) (post : Int32 → CS → Prop)  (x1 : Int32) (x2 : Int32) (x3 : Int32) (S : CS) (mk : Bool) (cc : Nat) (sc : Nat) : Prop :=
  ∀ r_1 : Int32, qX0_isPoint x2 r_1 → ((r_1 = 0) → wX0_slides_18 H post x1 x2 x3 S mk cc sc) ∧ ((¬ r_1 = 0) → wX0_slides_14 H post x1 x2 x3 S mk cc sc)
def wX0_slides_0 (H : HB) (post : Int32 → CS → Prop)  (x1 : Int32) (x2 : Int32) (x3 : Int32) (S : CS) (mk : Bool) (cc : Nat) (sc : Nat) : Prop :=
  ∀ r_1 : Int32, qX0_isPoint x1 r_1 → ((r_1 = 0) → wX0_slides_18 H post x1 x2 x3 S mk cc sc) ∧ ((¬ r_1 = 0) → wX0_slides_7 H post x1 x2 x3 S mk cc sc)
-- passes(Z)I
def wX0_passes_27 (H : HB) (post : Int32 → CS → Prop)   (S : CS) (mk : Bool) (cc : Nat) (sc : Nat) : Prop :=
  (cOk S ∧ ∃ q ∈ mvC S.1.2, (90 : Int32) = nI q) ∧ (cc + 1 ≤ H.2.2.1 ∧ sc + (S.1.2.2.2.length + 1) ≤ H.2.2.2) ∧ ∀ (S_2 : CS), (∃ u : Nat → Nat, S_2 = ((u, goG S.1.2 (90 : Int32).toNatClampNeg), S.2)) → post (nI (cur S_2.1.2).2.2) S_2 ∧ H.1 = mk
def wX0_passes_25 (H : HB) (post : Int32 → CS → Prop)  (x2 : Int32) (S : CS) (mk : Bool) (cc : Nat) (sc : Nat) : Prop :=
  post x2 S ∧ H.1 = mk
def wX0_passes_16 (H : HB) (post : Int32 → CS → Prop)  (x1 : Int32) (s1 : Int32) (S : CS) (mk : Bool) (cc : Nat) (sc : Nat) : Prop :=
  (cOk S) ∧ (cc + (bgC s1 x1 S) ≤ H.2.2.1 ∧ sc + (bgS s1 x1 S) ≤ H.2.2.2) ∧ ∀ (r_1 : Int32) (S_2 : CS), (r_1 = s1 ∧ ((s1 = 0 ∧ x1 ≠ 0 ∧ ∃ (u : Nat → Nat) (b : Nat) (mo : Int32), S_2 = recX S u b mo) ∨ (¬ (s1 = 0 ∧ x1 ≠ 0) ∧ S_2 = S))) → ((0 ≤ r_1) → wX0_passes_27 H post S_2 mk (cc + (bgC s1 x1 S)) (sc + (bgS s1 x1 S))) ∧ ((¬ 0 ≤ r_1) → wX0_passes_25 H post r_1 S_2 mk (cc + (bgC s1 x1 S)) (sc + (bgS s1 x1 S)))
def wX0_passes_14 (H : HB) (post : Int32 → CS → Prop)  (x1 : Int32) (S : CS) (mk : Bool) (cc : Nat) (sc : Nat) : Prop :=
  wX0_passes_16 H post x1 (-5 : Int32) S mk cc sc
def wX0_passes_10 (H : HB) (post : Int32 → CS → Prop)  (x1 : Int32) (S : CS) (mk : Bool) (cc : Nat) (sc : Nat) : Prop :=
  wX0_passes_16 H post x1 (0 : Int32) S mk cc sc
def wX0_passes_0 (H : HB) (post : Int32 → CS → Prop)  (x1 : Int32) (S : CS) (mk : Bool) (cc : Nat) (sc : Nat) : Prop :=
  (cOk S ∧ H.1 = true ∧ pS S = H.2.1) ∧ (((b2 (!overG S.1.2 && isMvX S.1.2 (90 : Int32))) = 0) → wX0_passes_14 H post x1 S true cc sc) ∧ ((¬ (b2 (!overG S.1.2 && isMvX S.1.2 (90 : Int32))) = 0) → wX0_passes_10 H post x1 S true cc sc)
-- plays(IZ)I
def wX0_plays_73 (H : HB) (post : Int32 → CS → Prop)  (x4 : Int32) (S : CS) (mk : Bool) (cc : Nat) (sc : Nat) : Prop :=
  post x4 S ∧ H.1 = mk
def wX0_plays_56 (H : HB) (post : Int32 → CS → Prop) (L43 : Int32 → Int32 → CS → Bool → Nat → Nat → Prop) (x1 : Int32) (x4 : Int32) (S : CS) (mk : Bool) (cc : Nat) (sc : Nat) : Prop :=
  (cOk S ∧ H.1 = true ∧ pS S = H.2.1) ∧ (overG S.1.2 = false) ∧ (cOk S ∧ ∃ q ∈ mvC S.1.2, (nI (bestG S.1.2)) = nI q) ∧ (cc + 1 ≤ H.2.2.1 ∧ sc + (S.1.2.2.2.length + 1) ≤ H.2.2.2) ∧ ∀ (S_2 : CS), (∃ u : Nat → Nat, S_2 = ((u, goG S.1.2 (nI (bestG S.1.2)).toNatClampNeg), S.2)) → L43 x1 (x4 + (1 : Int32)) S_2 true (cc + 1) (sc + (S.1.2.2.2.length + 1))
def wX0_plays_49 (H : HB) (post : Int32 → CS → Prop) (L43 : Int32 → Int32 → CS → Bool → Nat → Nat → Prop) (x1 : Int32) (x4 : Int32) (S : CS) (mk : Bool) (cc : Nat) (sc : Nat) : Prop :=
  (cOk S ∧ H.1 = true ∧ pS S = H.2.1) ∧ ((¬ (b2 (overG S.1.2)) = 0) → wX0_plays_73 H post x4 S true cc sc) ∧ (((b2 (overG S.1.2)) = 0) → wX0_plays_56 H post L43 x1 x4 S true cc sc)
def wX0_plays_43_b (H : HB) (post : Int32 → CS → Prop) (L43 : Int32 → Int32 → CS → Bool → Nat → Nat → Prop) (x1 : Int32) (x4 : Int32) (S : CS) (mk : Bool) (cc : Nat) (sc : Nat) : Prop :=
  ((x1 ≤ x4) → wX0_plays_73 H post x4 S mk cc sc) ∧ ((¬ x1 ≤ x4) → wX0_plays_49 H post L43 x1 x4 S mk cc sc)
def wX0_plays_43 (H : HB) (post : Int32 → CS → Prop)  (x1 : Int32) (x4 : Int32) (S : CS) (mk : Bool) (cc : Nat) (sc : Nat) : Prop :=
  wloop (V := Int32 × Int32 × CS × Bool × Nat × Nat) (fun L v => wX0_plays_43_b H post (fun x1 x4 S mk cc sc => L (x1, x4, S, mk, cc, sc)) v.1 v.2.1 v.2.2.1 v.2.2.2.1 v.2.2.2.2.1 v.2.2.2.2.2) (x1, x4, S, mk, cc, sc)
def wX0_plays_40 (H : HB) (post : Int32 → CS → Prop)  (x1 : Int32) (S : CS) (mk : Bool) (cc : Nat) (sc : Nat) : Prop :=
  wX0_plays_43 H post x1 (0 : Int32) S mk cc sc
def wX0_plays_38 (H : HB) (post : Int32 → CS → Prop)  (x3 : Int32) (S : CS) (mk : Bool) (cc : Nat) (sc : Nat) : Prop :=
  post x3 S ∧ H.1 = mk
def wX0_plays_29 (H : HB) (post : Int32 → CS → Prop)  (x1 : Int32) (x2 : Int32) (s1 : Int32) (S : CS) (mk : Bool) (cc : Nat) (sc : Nat) : Prop :=
  (cOk S) ∧ (cc + (bgC s1 x2 S) ≤ H.2.2.1 ∧ sc + (bgS s1 x2 S) ≤ H.2.2.2) ∧ ∀ (r_1 : Int32) (S_2 : CS), (r_1 = s1 ∧ ((s1 = 0 ∧ x2 ≠ 0 ∧ ∃ (u : Nat → Nat) (b : Nat) (mo : Int32), S_2 = recX S u b mo) ∨ (¬ (s1 = 0 ∧ x2 ≠ 0) ∧ S_2 = S))) → ((0 ≤ r_1) → wX0_plays_40 H post x1 S_2 mk (cc + (bgC s1 x2 S)) (sc + (bgS s1 x2 S))) ∧ ((¬ 0 ≤ r_1) → wX0_plays_38 H post r_1 S_2 mk (cc + (bgC s1 x2 S)) (sc + (bgS s1 x2 S)))
def wX0_plays_28 (H : HB) (post : Int32 → CS → Prop)  (x1 : Int32) (x2 : Int32) (S : CS) (mk : Bool) (cc : Nat) (sc : Nat) : Prop :=
  wX0_plays_29 H post x1 x2 (0 : Int32) S mk cc sc
def wX0_plays_23 (H : HB) (post : Int32 → CS → Prop)  (x1 : Int32) (x2 : Int32) (S : CS) (mk : Bool) (cc : Nat) (sc : Nat) : Prop :=
  wX0_plays_29 H post x1 x2 (-5 : Int32) S mk cc sc
def wX0_plays_16 (H : HB) (post : Int32 → CS → Prop)  (x1 : Int32) (x2 : Int32) (S : CS) (mk : Bool) (cc : Nat) (sc : Nat) : Prop :=
  (cOk S ∧ H.1 = true ∧ pS S = H.2.1) ∧ (((b2 (overG S.1.2)) = 0) → wX0_plays_28 H post x1 x2 S true cc sc) ∧ ((¬ (b2 (overG S.1.2)) = 0) → wX0_plays_23 H post x1 x2 S true cc sc)
def wX0_plays_11 (H : HB) (post : Int32 → CS → Prop)  (x1 : Int32) (x2 : Int32) (S : CS) (mk : Bool) (cc : Nat) (sc : Nat) : Prop :=
  wX0_plays_29 H post x1 x2 (-2 : Int32) S mk cc sc
def wX0_plays_0 (H : HB) (post : Int32 → CS → Prop)  (x1 : Int32) (x2 : Int32) (S : CS) (mk : Bool) (cc : Nat) (sc : Nat) : Prop :=
  ∀ r_1 : Int32, qX0_isIn x1 (1 : Int32) (60 : Int32) r_1 → ((¬ r_1 = 0) → wX0_plays_16 H post x1 x2 S mk cc sc) ∧ ((r_1 = 0) → wX0_plays_11 H post x1 x2 S mk cc sc)
-- place(I)I
def wX0_place_0 (H : HB) (post : Int32 → CS → Prop)  (x1 : Int32) (S : CS) (mk : Bool) (cc : Nat) (sc : Nat) : Prop :=
  (cOk S) ∧ ((in09 x1) = true → H.1 = true ∧ pS S = H.2.1) ∧ (cc + (mvCl (placesG x1 S.1.2) (1 : Int32) S) ≤ H.2.2.1 ∧ sc + (mvSl (placesG x1 S.1.2) (1 : Int32) S) ≤ H.2.2.2) ∧ ∀ (r_1 : Int32) (S_2 : CS), (mvPo (placesG x1 S.1.2) (1 : Int32) S r_1 S_2) → post r_1 S_2 ∧ H.1 = (mk || (in09 x1))
-- slide(II)I
def wX0_slide_0 (H : HB) (post : Int32 → CS → Prop)  (x1 : Int32) (x2 : Int32) (S : CS) (mk : Bool) (cc : Nat) (sc : Nat) : Prop :=
  (cOk S) ∧ ((in09 x1 && in09 x2) = true → H.1 = true ∧ pS S = H.2.1) ∧ (cc + (mvCl (slidesG x1 x2 S.1.2) (1 : Int32) S) ≤ H.2.2.1 ∧ sc + (mvSl (slidesG x1 x2 S.1.2) (1 : Int32) S) ≤ H.2.2.2) ∧ ∀ (r_1 : Int32) (S_2 : CS), (mvPo (slidesG x1 x2 S.1.2) (1 : Int32) S r_1 S_2) → post r_1 S_2 ∧ H.1 = (mk || (in09 x1 && in09 x2))
-- pass()I
def wX0_pass_0 (H : HB) (post : Int32 → CS → Prop)   (S : CS) (mk : Bool) (cc : Nat) (sc : Nat) : Prop :=
  (cOk S) ∧ (true = true → H.1 = true ∧ pS S = H.2.1) ∧ (cc + (mvCl (mvsG 90 false S.1.2) (1 : Int32) S) ≤ H.2.2.1 ∧ sc + (mvSl (mvsG 90 false S.1.2) (1 : Int32) S) ≤ H.2.2.2) ∧ ∀ (r_1 : Int32) (S_2 : CS), (mvPo (mvsG 90 false S.1.2) (1 : Int32) S r_1 S_2) → post r_1 S_2 ∧ H.1 = (mk || true)
-- play(I)I
def wX0_play_0 (H : HB) (post : Int32 → CS → Prop)  (x1 : Int32) (S : CS) (mk : Bool) (cc : Nat) (sc : Nat) : Prop :=
  (cOk S ∧ S.1.2.2.2.length < 900000) ∧ ((plB x1) = true → H.1 = true ∧ pS S = H.2.1) ∧ (cc + (plCl x1 (1 : Int32) S) ≤ H.2.2.1 ∧ sc + (plSl x1 (1 : Int32) S) ≤ H.2.2.2) ∧ ∀ (r_1 : Int32) (S_2 : CS), (mvPo (playsG x1 S.1.2) (1 : Int32) S r_1 S_2) → post r_1 S_2 ∧ H.1 = (mk || (plB x1))
