/-! greatest, judge -/
def gT9 (d : Nat) (b : Bd) (o : Option Nat) (t : Nat) : Bool := fre (meB b) (otB b) t && (match o with | none => true | some p => isNb d p t)
def gM9 (o : Option Nat) (t : Nat) : Nat := match o with | none => t | some p => 9 + 9 * p + t
theorem gmv_eq (d : Nat) (b : Bd) (o : Option Nat) : gmv d b o = ((List.range 9).filter (gT9 d b o)).map (gM9 o) := by
  cases o with
  | none =>
    have e1 : gM9 none = id := rfl
    have e2 : gT9 d b none = fun t => fre (meB b) (otB b) t := by
      funext t
      show (fre (meB b) (otB b) t && true) = _
      rw [Bool.and_true]
    rw [e1, e2, List.map_id]; rfl
  | some p => rfl
def gP9 (st : MS) (d : Nat) (b : Bd) (o : Option Nat) (n : Int32) (k : Nat) : Int32 := mxL (((List.range k).filter (gT9 d b o)).map (fun t => rkS st b n (gM9 o t)))
theorem gP9_s (st : MS) (d : Nat) (b : Bd) (o : Option Nat) (n : Int32) (k : Nat) : gP9 st d b o n (k + 1) = if gT9 d b o k = true then mxI (gP9 st d b o n k) (rkS st b n (gM9 o k)) else gP9 st d b o n k := by
  unfold gP9 mxL
  rw [List.range_succ, List.filter_append, List.map_append, List.foldl_append]
  by_cases h : gT9 d b o k = true
  · rw [if_pos h, List.filter_cons_of_pos h]; rfl
  · rw [if_neg h, List.filter_cons_of_neg h]; rfl
theorem fre_B (b : Bd) (t : Nat) : fre (meB b) (otB b) t = fre b.1 b.2.1 t := by
  unfold meB otB sid
  by_cases h : b.2.2 = 0
  · rw [if_pos h, if_neg (by omega)]
  · rw [if_neg h, if_pos (by omega)]
    unfold fre
    exact Bool.and_comm _ _
theorem frI_or {x : Int32} {b : Bd} {o : Option Nat} (h : frI x b o) : (o = none ∧ x = -6) ∨ ∃ p, p < 9 ∧ o = some p ∧ x = nI p ∧ (meB b).testBit p = true := by
  cases o with
  | none => exact Or.inl ⟨rfl, h⟩
  | some p => exact Or.inr ⟨p, h.1, rfl, h.2.1, h.2.2⟩
theorem frI_inj {x : Int32} {b : Bd} {o o' : Option Nat} (h : frI x b o) (h' : frI x b o') : o = o' := by
  have key : ∀ p, p < 9 → ¬ nI p = (-6 : Int32) := by decide
  rcases frI_or h with ⟨rfl, e⟩ | ⟨p, hp, rfl, e, -⟩ <;> rcases frI_or h' with ⟨rfl, e'⟩ | ⟨p', hp', rfl, e', -⟩
  · rfl
  · exact absurd (e'.symm.trans e) (key p' hp')
  · exact absurd (e.symm.trans e') (key p hp)
  · rw [nI_inj (e.symm.trans e') (by omega) (by omega)]
theorem gM9_okm {x : Int32} {d : Nat} {b : Bd} {o : Option Nat} {t : Nat} (ho : frI x b o) (ht : t < 9) (h : gT9 d b o t = true) : okm (meB b) (otB b) (gM9 o t) := by
  unfold gT9 at h
  rw [Bool.and_eq_true] at h
  rcases frI_or ho with ⟨rfl, -⟩ | ⟨p, hp, rfl, -, hb⟩
  · exact Or.inr (Or.inl ⟨ht, h.1⟩)
  · have e1 : (9 + 9 * p + t - 9) / 9 = p := by omega
    have e2 : (9 + 9 * p + t - 9) % 9 = t := by omega
    refine Or.inr (Or.inr ⟨?_, ?_, ?_, ?_⟩)
    · show 9 ≤ 9 + 9 * p + t; omega
    · show 9 + 9 * p + t < 90; omega
    · show (meB b).testBit ((9 + 9 * p + t - 9) / 9) = true
      rw [e1]; exact hb
    · show fre (meB b) (otB b) ((9 + 9 * p + t - 9) % 9) = true
      rw [e2]; exact h.1
theorem g83 {post : Int32 → MS → Prop} {L46 : Int32 → Int32 → Int32 → Int32 → Int32 → Int32 → MS → Prop} {st : MS} {k q : Nat} {b : Bd} {x2 x3 x5 x6 x7 : Int32} (hc : cOK st) (hk1 : k < 19683) (hb : bokB b) (hs : st.1 3 k = nI (pkB b)) (hok : okm (meB b) (otB b) q) (hL : L46 (nI k) x2 x3 x5 (mxI x6 (rkS st b x3 q)) (x7 + 1) st) : wX5_greatest_83 post L46 (nI k) x2 x3 x5 x6 x7 (nI q) st := by
  refine ⟨⟨k, hk1, rfl⟩, fun r1 h1 => ⟨⟨k, hk1, rfl⟩, fun r3 h3 => ⟨⟨k, hk1, rfl⟩, fun r5 h5 => ?_⟩⟩⟩
  have h1 := h1 k b hk1 rfl hb hs
  have h3 := h3 k b hk1 rfl hb hs
  have h5 := h5 k b hk1 rfl hb hs
  have hbd : isBd b r1 r3 r5 := ⟨hb, h1, h3, h5⟩
  refine ⟨⟨hc, b, q, hbd, hok, rfl⟩, fun r7 h7 r9 h9 r10 h10 => ?_⟩
  have h7 := h7 b q hbd hok rfl
  have h9 : r9 = rkI r7 x3 := h9
  have h10 : r10 = mxI x6 r9 := h10
  subst h10
  subst h9
  subst h7
  exact hL
theorem vcX5_greatest (x1 x2 x3 : Int32) (st : MS) (hp : pX5_greatest x1 x2 x3 st) : wX5_greatest_0 (fun (r : Int32) (u : MS) => qX5_greatest x1 x2 x3 st r ∧ st = u) x1 x2 x3 st := by
  obtain ⟨hc, ⟨d, l, hr⟩, k, b, o, rfl, ⟨hk1, hb, hs⟩, ho⟩ := hp
  have hd := hr.1
  have l1 : b.1 < 512 := hb.1
  have l2 : b.2.1 < 512 := hb.2.1
  have fin : ∀ r : Int32, r = mxL ((gmv d b o).map (rkS st b x3)) → qX5_greatest (nI k) x2 x3 st r ∧ st = st := by
    intro r h
    refine ⟨?_, rfl⟩
    intro d' l' k' b' o' hr' e hk' ho'
    obtain ⟨rfl, rfl⟩ := rOK_inj hr hr'
    have hk1' := hk'.1
    have := nI_inj e (by omega) (by omega)
    subst this
    have := pkB_inj hb hk'.2.1 (hs.symm.trans hk'.2.2)
    subst this
    have := frI_inj ho ho'
    subst this
    exact h
  have loop : ∀ tg, tg < 512 → (∀ t, t < 9 → tg.testBit t = gT9 d b o t) → wX5_greatest_38 (fun (r : Int32) (u : MS) => qX5_greatest (nI k) x2 x3 st r ∧ st = u) (nI k) x2 x3 (nI tg) st := by
    intro tg htg htb
    unfold wX5_greatest_38 wX5_greatest_46
    refine wloop_up 9 (fun j (v : Int32 × Int32 × Int32 × Int32 × Int32 × Int32 × MS) => j ≤ 9 ∧ v = (nI k, x2, x3, nI tg, gP9 st d b o x3 j, nI j, st)) 0 ⟨Nat.zero_le _, rfl⟩ ?_
    rintro j v L ⟨hj, rfl⟩ hL
    refine ⟨fun h => ?_, fun h => ?_⟩
    · have := nle_of (show nI 9 ≤ nI j from h) (by omega) (by omega)
      have e : j = 9 := by omega
      subst e
      exact fin _ (by rw [gmv_eq, List.map_map]; rfl)
    · have hlt := nlt_of (show ¬ nI 9 ≤ nI j from h) (by omega) (by omega)
      refine ⟨fun h2 => ?_, fun h2 => ?_⟩
      · have hb2 : gT9 d b o j = false := by
          rw [← htb j hlt, ← Bool.not_eq_true]
          exact fun z => h2 ((bit_t tg htg j hlt).mpr z)
        refine hL _ hlt ⟨by omega, ?_⟩
        show (nI k, x2, x3, nI tg, gP9 st d b o x3 j, nI j + 1, st) = _
        rw [gP9_s, hb2, nI_up]; rfl
      · have hb2 : gT9 d b o j = true := by
          rw [← htb j hlt]
          exact (bit_t tg htg j hlt).mp h2
        have hok := gM9_okm ho hlt hb2
        have hnx : L (nI k, x2, x3, nI tg, mxI (gP9 st d b o x3 j) (rkS st b x3 (gM9 o j)), nI j + 1, st) := by
          refine hL _ hlt ⟨by omega, ?_⟩
          rw [gP9_s, if_pos hb2, nI_up]
        have key : ∀ p, p < 9 → (0 : Int32) ≤ nI p := by decide
        rcases frI_or ho with ⟨rfl, rfl⟩ | ⟨p, hp, rfl, rfl, -⟩
        · refine ⟨fun h4 => absurd (show (0 : Int32) ≤ -6 from h4) (by decide), fun h4 => ?_⟩
          exact g83 (q := j) hc hk1 hb hs hok hnx
        · refine ⟨fun h4 => ?_, fun h4 => absurd (key p hp) h4⟩
          have e : ((9 : Int32) + ((9 : Int32) * nI p)) + nI j = nI (9 + 9 * p + j) := by
            show (nI 9 + nI 9 * nI p) + nI j = _
            rw [pk_mul, nI_add, nI_add]
          show wX5_greatest_83 _ _ (nI k) (nI p) x3 (nI tg) _ (nI j) (((9 : Int32) + ((9 : Int32) * nI p)) + nI j) st
          rw [e]
          exact g83 (q := 9 + 9 * p + j) hc hk1 hb hs hok hnx
  refine ⟨⟨k, hk1, rfl⟩, fun r1 h1 => ⟨⟨k, hk1, rfl⟩, fun r3 h3 => ?_⟩⟩
  have h1 := h1 k b hk1 rfl hb hs
  have h3 := h3 k b hk1 rfl hb hs
  subst h1
  subst h3
  have hx1 : 511 &&& (511 ^^^ b.1) < 512 := Nat.lt_of_le_of_lt Nat.and_le_left (by decide)
  have hx2 : (511 &&& (511 ^^^ b.1)) &&& (511 ^^^ b.2.1) < 512 := Nat.lt_of_le_of_lt Nat.and_le_left hx1
  have efree : ((511 : Int32) &&& (nI b.1 ^^^ (-1 : Int32))) &&& (nI b.2.1 ^^^ (-1 : Int32)) = nI ((511 &&& (511 ^^^ b.1)) &&& (511 ^^^ b.2.1)) := by
    rw [show (511 : Int32) = nI 511 from rfl, nI_andn (by decide) l1, nI_andn hx1 l2]
  have etb : ∀ t, t < 9 → ((511 &&& (511 ^^^ b.1)) &&& (511 ^^^ b.2.1)).testBit t = fre (meB b) (otB b) t := by
    intro t ht
    have h5 : Nat.testBit 511 t = true := by
      have : ∀ j, j < 9 → Nat.testBit 511 j = true := by decide
      exact this t ht
    rw [Nat.testBit_and, Nat.testBit_and, tb511 ht, tb511 ht, h5, Bool.true_and, fre_B]; rfl
  rw [efree]
  have key : ∀ p, p < 9 → (0 : Int32) ≤ nI p := by decide
  rcases frI_or ho with ⟨rfl, rfl⟩ | ⟨p, hp, rfl, rfl, -⟩
  · refine ⟨fun h4 => absurd (show (0 : Int32) ≤ -6 from h4) (by decide), fun h4 => ?_⟩
    refine loop _ hx2 (fun t ht => ?_)
    rw [etb t ht]
    show _ = (fre (meB b) (otB b) t && true)
    rw [Bool.and_true]
  · refine ⟨fun h4 => ?_, fun h4 => absurd (key p hp) h4⟩
    refine ⟨⟨p, hp, rfl⟩, fun r5 h5 => ?_⟩
    have h5 := h5 d l p hr hp rfl
    subst h5
    have hn := nxM_lt d hd p hp
    rw [nI_and5 (by omega) (by omega)]
    refine loop _ (Nat.lt_of_le_of_lt Nat.and_le_left hn) (fun t ht => ?_)
    rw [Nat.testBit_and, nxM_tb d hd p hp t ht, etb t ht, Bool.and_comm]; rfl
