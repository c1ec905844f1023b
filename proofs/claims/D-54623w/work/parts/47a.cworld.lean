/-! THE COMPONENT's WORLD: the state (now; past; saved; pad; past's count of changes; the pad's mark), the tables, fixed addresses fx (0 itself, 1 store, 2 things, 3 things' array, 4 past, 5 saved, 6 pad) -/
abbrev GX : Type := (Nat → Nat) × Gm
abbrev TX : Type := (Nat → Nat) × MS
abbrev TB : Type := Nat → Option TX
abbrev CS : Type := GX × (Option Nat × List GX) × (Nat → Option GX) × (Nat × Nat × (Nat → Int32) × List Nat) × Int32 × Int32
def tbE (T : TB) : List (Option Nat) := [(T 0).map (fun t => t.1 0), (T 1).map (fun t => t.1 0), (T 2).map (fun t => t.1 0), (T 3).map (fun t => t.1 0)]
def svF (v : Nat → Option GX) : Nat → Option Nat := fun k => (v k).map (fun x => x.1 0)
def gsW (ct : Nat → ClassId) (L : List GX) : va_W := L.flatMap (fun x => gW ct x.1 x.2)
def ogW (ct : Nat → ClassId) (o : Option GX) : va_W := match o with
  | none => []
  | some x => gW ct x.1 x.2
def otW (ct : Nat → ClassId) (o : Option TX) : va_W := match o with
  | none => []
  | some t => TW ct t.1 [] t.2
def tsW (ct : Nat → ClassId) (T : TB) : va_W := otW ct (T 0) ++ (otW ct (T 1) ++ (otW ct (T 2) ++ otW ct (T 3)))
/-- what is always there -/
def cP (ct : Nat → ClassId) (fx : Nat → Nat) (S : CS) (T : TB) : va_W := [(fx 0, .inr (0, [.ref (fx 1), .ref (S.1.1 0), .ref (fx 4), .ref (fx 5), .ref (fx 6)])), (fx 1, .inr (1, [.ref (fx 2)])), (fx 2, .inr (6, [.int 4, .ref (fx 3), .int (nI (tbE T).length)])), (fx 3, .inl (ct 3, 10, .inr (.inr (.inr (.inr (lsF (tbE T))))))), (fx 5, .inl (ct 4, 2, .inr (.inr (.inr (.inr (svF S.2.2.1)))))), (fx 6, .inr (7, [.ref S.2.2.2.1.1, .int 0, .int S.2.2.2.2.2, .int (nI S.2.2.2.1.2.2.2.length)])), (S.2.2.2.1.1, .inl (ct 2, S.2.2.2.1.2.1, .inl S.2.2.2.1.2.2.1))] ++ gW ct S.1.1 S.1.2
def pastE (S : CS) : List (Option Nat) := S.2.1.2.map (fun x => some (x.1 0))
/-- the rest: past, saved games, tables -/
def cG (ct : Nat → ClassId) (S : CS) (T : TB) (tl : va_W) : va_W := gsW ct S.2.1.2 ++ ((ogW ct (S.2.2.1 0) ++ ogW ct (S.2.2.1 1)) ++ (tsW ct T ++ tl))
def cR (ct : Nat → ClassId) (e0 : Nat) (fx : Nat → Nat) (S : CS) (T : TB) (tl : va_W) : va_W := lWo ct e0 (fx 4) S.2.1.1 S.2.2.2.2.1 10 (pastE S) ++ cG ct S T tl
def CW (ct : Nat → ClassId) (e0 : Nat) (fx : Nat → Nat) (S : CS) (T : TB) (tl : va_W) : va_W := cP ct fx S T ++ cR ct e0 fx S T tl
/-- the pair of settings -/
def pS (S : CS) : Nat := 2 * S.1.2.1 + S.1.2.2.1
def tOK (T : TB) : Prop := ∀ k x, k < 4 → T k = some x → tabF (k / 2) (k % 2) x.2
def tC (p : Nat) (T : TB) : Nat := if T p = none then 16 else 0
def tS (p : Nat) (T : TB) : Nat := if T p = none then 266894 else 0
def bC (b : Bool) (p : Nat) (T : TB) : Nat := if b then tC p T else 0
def bS (b : Bool) (p : Nat) (T : TB) : Nat := if b then tS p T else 0
/-- tables behind a call: the one that is asked for is there -/
def extB (b : Bool) (p : Nat) (T0 T : TB) : Prop := tOK T ∧ (∀ k, k ≠ p → T k = T0 k) ∧ (T0 p ≠ none → T p = T0 p) ∧ (b = true → T p ≠ none) ∧ (b = false → T = T0)
def hid (p : Nat) (T0 : TB) (mk : Bool) (c s : Nat) (T : TB) (kc ks : Nat) : Prop := extB mk p T0 T ∧ kc + tC p T ≤ c + tC p T0 ∧ ks + tS p T ≤ s + tS p T0
theorem tC_none {p : Nat} {T : TB} (h : T p ≠ none) : tC p T = 0 := if_neg h
theorem tS_none {p : Nat} {T : TB} (h : T p ≠ none) : tS p T = 0 := if_neg h
theorem hid.start {p : Nat} {T0 : TB} (h : tOK T0) : hid p T0 false 0 0 T0 0 0 := ⟨⟨h, fun _ _ => rfl, fun _ => rfl, fun z => (by cases z), fun _ => rfl⟩, by omega, by omega⟩
theorem extB.trans {b b' : Bool} {p : Nat} {T0 T T' : TB} (h : extB b p T0 T) (h' : extB b' p T T') : extB (b || b') p T0 T' := by
  obtain ⟨h1, h2, h3, h4, h5⟩ := h
  obtain ⟨g1, g2, g3, g4, g5⟩ := h'
  refine ⟨g1, fun k hk => (g2 k hk).trans (h2 k hk), fun hn => ?_, fun hb => ?_, fun hb => ?_⟩
  · have e := h3 hn
    exact (g3 (by rw [e]; exact hn)).trans e
  · rw [Bool.or_eq_true] at hb
    rcases hb with hb | hb
    · rw [g3 (h4 hb)]; exact h4 hb
    · exact g4 hb
  · rw [Bool.or_eq_false_iff] at hb
    rw [g5 hb.2, h5 hb.1]
theorem hid.call {p : Nat} {T0 T T' : TB} {mk b' : Bool} {c s c' s' kc ks : Nat} (h : hid p T0 mk c s T kc ks) (h' : extB b' p T T') : hid p T0 (mk || b') (c + c') (s + s') T' (kc + (c' + bC b' p T)) (ks + (s' + bS b' p T)) := by
  obtain ⟨h1, h2, h3⟩ := h
  refine ⟨h1.trans h', ?_, ?_⟩
  · cases b' with
    | false =>
      have := h'.2.2.2.2 rfl
      subst this
      show kc + (c' + 0) + _ ≤ _
      omega
    | true =>
      rw [tC_none (h'.2.2.2.1 rfl)]
      show kc + (c' + tC p T) + 0 ≤ _
      omega
  · cases b' with
    | false =>
      have := h'.2.2.2.2 rfl
      subst this
      show ks + (s' + 0) + _ ≤ _
      omega
    | true =>
      rw [tS_none (h'.2.2.2.1 rfl)]
      show ks + (s' + tS p T) + 0 ≤ _
      omega
theorem hid.room {p : Nat} {T0 T : TB} {mk b b' : Bool} {c s c' s' C Z kc ks : Nat} (h : hid p T0 mk c s T kc ks) (hm : mk = true → b = true) (hb : b' = true → b = true) (hc : c + c' ≤ C) (hs : s + s' ≤ Z) : kc + (c' + bC b' p T) ≤ C + bC b p T0 ∧ ks + (s' + bS b' p T) ≤ Z + bS b p T0 := by
  obtain ⟨h1, h2, h3⟩ := h
  have key : (b = true ∧ bC b p T0 = tC p T0 ∧ bS b p T0 = tS p T0) ∨ (b = false ∧ mk = false ∧ b' = false) := by
    cases b with
    | true => exact Or.inl ⟨rfl, rfl, rfl⟩
    | false =>
      refine Or.inr ⟨rfl, ?_, ?_⟩
      · cases mk with
        | false => rfl
        | true => exact absurd (hm rfl) (by decide)
      · cases b' with
        | false => rfl
        | true => exact absurd (hb rfl) (by decide)
  have hb' : bC b' p T ≤ tC p T ∧ bS b' p T ≤ tS p T := by
    cases b' with
    | false => exact ⟨Nat.zero_le _, Nat.zero_le _⟩
    | true => exact ⟨Nat.le_refl _, Nat.le_refl _⟩
  rcases key with ⟨e1, e2, e3⟩ | ⟨e1, e2, e3⟩
  · rw [e2, e3]; omega
  · subst e2
    subst e3
    have := h1.2.2.2.2 rfl
    subst this
    show kc + (c' + 0) ≤ C + bC b p T ∧ ks + (s' + 0) ≤ Z + bS b p T
    omega
/-- what a call of the component's says: cells c, slots s beside the table's (where b) -/
def mCi (l : Launch) (D : va_G) (ct : Nat → ClassId) (G : gE) (g : GP) (fx : Nat → Nat) (tl : va_W) (y : MethodName) (wc : List Cond) (f lo : Nat) (av : List Value) (S : CS) (T : TB) (b : Bool) (c s : Nat) (q : Int32 → CS → Prop) : Prop :=
  ∀ sz, Met l y wc { frames := f, cells := c + bC b (pS S) T, slots := s + bS b (pS S) T, locals := lo } (va_Pc av (cPre G D ct (CW ct g.2.1 fx S T tl) sz)) (va_Qi (fun (r : Int32) (u : CS × TB) => q r u.1 ∧ extB b (pS S) T u.2) (fun (u : CS × TB) => cB D ct (va_A (CW ct g.2.1 fx S T tl) sz) (CW ct g.2.1 fx u.1 u.2 tl)) (va_A (CW ct g.2.1 fx S T tl) sz)) (c + bC b (pS S) T) (s + bS b (pS S) T) (va_A (CW ct g.2.1 fx S T tl) sz)
def mCv (l : Launch) (D : va_G) (ct : Nat → ClassId) (G : gE) (g : GP) (fx : Nat → Nat) (tl : va_W) (y : MethodName) (wc : List Cond) (f lo : Nat) (av : List Value) (S : CS) (T : TB) (b : Bool) (c s : Nat) (q : CS → Prop) : Prop :=
  ∀ sz, Met l y wc { frames := f, cells := c + bC b (pS S) T, slots := s + bS b (pS S) T, locals := lo } (va_Pc av (cPre G D ct (CW ct g.2.1 fx S T tl) sz)) (va_Qv (fun (u : CS × TB) => q u.1 ∧ extB b (pS S) T u.2) (fun (u : CS × TB) => cB D ct (va_A (CW ct g.2.1 fx S T tl) sz) (CW ct g.2.1 fx u.1 u.2 tl)) (va_A (CW ct g.2.1 fx S T tl) sz)) (c + bC b (pS S) T) (s + bS b (pS S) T) (va_A (CW ct g.2.1 fx S T tl) sz)
def mCq (l : Launch) (D : va_G) (ct : Nat → ClassId) (G : gE) (g : GP) (fx : Nat → Nat) (tl : va_W) (y : MethodName) (wc : List Cond) (f lo : Nat) (av : List Value) (S : CS) (T : TB) (b : Bool) (c s : Nat) (q : Option Nat → CS → TB → Prop) : Prop :=
  ∀ sz, Met l y wc { frames := f, cells := c + bC b (pS S) T, slots := s + bS b (pS S) T, locals := lo } (va_Pc av (cPre G D ct (CW ct g.2.1 fx S T tl) sz)) (va_Qq (fun (r : Option Nat) (u : CS × TB) => q r u.1 u.2 ∧ extB b (pS S) T u.2) (fun (u : CS × TB) => cB D ct (va_A (CW ct g.2.1 fx S T tl) sz) (CW ct g.2.1 fx u.1 u.2 tl)) (va_A (CW ct g.2.1 fx S T tl) sz)) (c + bC b (pS S) T) (s + bS b (pS S) T) (va_A (CW ct g.2.1 fx S T tl) sz)
/-! the world in another order: now ahead; the table ahead -/
def tsX (ct : Nat → ClassId) (T : TB) (p : Nat) : va_W := (if p = 0 then [] else otW ct (T 0)) ++ ((if p = 1 then [] else otW ct (T 1)) ++ ((if p = 2 then [] else otW ct (T 2)) ++ (if p = 3 then [] else otW ct (T 3))))
theorem tsX_perm (ct : Nat → ClassId) (T : TB) {p : Nat} (hp : p < 4) : (tsW ct T).Perm (otW ct (T p) ++ tsX ct T p) := by
  unfold tsW tsX
  rcases (show p = 0 ∨ p = 1 ∨ p = 2 ∨ p = 3 by omega) with rfl | rfl | rfl | rfl
  · exact List.Perm.refl _
  · exact List.perm_append_comm_assoc _ _ _
  · refine (List.Perm.append_left _ (List.perm_append_comm_assoc _ _ _)).trans ?_
    exact List.perm_append_comm_assoc _ _ _
  · have e : ∀ a b c d : va_W, (a ++ (b ++ (c ++ d))).Perm (d ++ (a ++ (b ++ c))) := by
      intro a b c d
      have := List.perm_append_comm (l₁ := a ++ (b ++ c)) (l₂ := d)
      rwa [List.append_assoc, List.append_assoc] at this
    show (otW ct (T 0) ++ (otW ct (T 1) ++ (otW ct (T 2) ++ otW ct (T 3)))).Perm (otW ct (T 3) ++ (otW ct (T 0) ++ (otW ct (T 1) ++ (otW ct (T 2) ++ []))))
    rw [List.append_nil]
    exact e _ _ _ _
/-- all but now -/
def nR (ct : Nat → ClassId) (e0 : Nat) (fx : Nat → Nat) (S : CS) (T : TB) (tl : va_W) : va_W := [(fx 0, .inr (0, [.ref (fx 1), .ref (S.1.1 0), .ref (fx 4), .ref (fx 5), .ref (fx 6)])), (fx 1, .inr (1, [.ref (fx 2)])), (fx 2, .inr (6, [.int 4, .ref (fx 3), .int (nI (tbE T).length)])), (fx 3, .inl (ct 3, 10, .inr (.inr (.inr (.inr (lsF (tbE T))))))), (fx 5, .inl (ct 4, 2, .inr (.inr (.inr (.inr (svF S.2.2.1)))))), (fx 6, .inr (7, [.ref S.2.2.2.1.1, .int 0, .int S.2.2.2.2.2, .int (nI S.2.2.2.1.2.2.2.length)])), (S.2.2.2.1.1, .inl (ct 2, S.2.2.2.1.2.1, .inl S.2.2.2.1.2.2.1))] ++ cR ct e0 fx S T tl
theorem CW_now (ct : Nat → ClassId) (e0 : Nat) (fx : Nat → Nat) (S : CS) (T : TB) (tl : va_W) : (CW ct e0 fx S T tl).Perm (gW ct S.1.1 S.1.2 ++ nR ct e0 fx S T tl) := by
  unfold CW cP nR
  rw [List.append_assoc]
  exact List.perm_append_comm_assoc _ _ _
/-- all but the table p -/
def tR (ct : Nat → ClassId) (e0 : Nat) (fx : Nat → Nat) (S : CS) (T : TB) (p : Nat) (tl : va_W) : va_W := cP ct fx S T ++ (lWo ct e0 (fx 4) S.2.1.1 S.2.2.2.2.1 10 (pastE S) ++ (gsW ct S.2.1.2 ++ ((ogW ct (S.2.2.1 0) ++ ogW ct (S.2.2.1 1)) ++ (tsX ct T p ++ tl))))
theorem CW_tab (ct : Nat → ClassId) (e0 : Nat) (fx : Nat → Nat) (S : CS) (T : TB) (tl : va_W) {p : Nat} (hp : p < 4) : (CW ct e0 fx S T tl).Perm (otW ct (T p) ++ tR ct e0 fx S T p tl) := by
  unfold CW tR cR cG
  have h0 : (tsW ct T ++ tl).Perm (otW ct (T p) ++ (tsX ct T p ++ tl)) := by
    have := (tsX_perm ct T hp).append_right tl
    rwa [List.append_assoc] at this
  have up : ∀ {a b c d : va_W}, b.Perm (c ++ d) → (a ++ b).Perm (c ++ (a ++ d)) := by
    intro a b c d h
    exact (List.Perm.append_left a h).trans (List.perm_append_comm_assoc a c d)
  exact up (up (up (up h0)))
