/-! PROOFS of the wp predicates, group A: the open board -/
theorem opn_inj {st : MS} {f s mv f' s' mv' : Nat} (h : opn st f s mv) (h' : opn st f' s' mv') : f = f' ∧ s = s' ∧ mv = mv' := by
  obtain ⟨hb, hc, hm⟩ := h
  obtain ⟨hb', hc', hm'⟩ := h'
  have e := cel_inj hb.1 hb.2.1 hb'.1 hb'.2.1 hb.2.2.1 hb'.2.2.1 (fun k hk => by
    have h1 := cel_lt hb.2.2.1 k
    have h2 := cel_lt hb'.2.2.1 k
    exact nI_inj ((hc k hk).symm.trans (hc' k hk)))
  have h1 := hb.2.2.2
  have h2 := hb'.2.2.2
  exact ⟨e.1, e.2, nI_inj (hm.symm.trans hm')⟩
theorem sett_inj {st : MS} {d l d' l' : Nat} (h : sett st d l) (h' : sett st d' l') : d = d' ∧ l = l' := by
  obtain ⟨h1, h2, h3, h4⟩ := h
  obtain ⟨g1, g2, g3, g4⟩ := h'
  exact ⟨nI_inj (h1.symm.trans g1), nI_inj (h2.symm.trans g2)⟩
theorem cnt_le (m : Nat) : cnt m ≤ 9 := by
  unfold cnt
  exact Nat.le_trans List.countP_le_length (by decide)
theorem vcX3_in (x0 : Int64) (x2 x3 : Int32) : wX3_in_0 (fun (r : Int32) (_ : Unit) => qX3_in x0 x2 x3 r) x0 x2 x3 := by
  unfold wX3_in_0 wX3_in_7 wX3_in_18 wX3_in_14 wX3_in_19
  simp only [lg_cmp_lt, lg_cmp_gt, Int64.lt_iff_toInt_lt, Int32.toInt_toInt64, qX3_in]
  refine ⟨fun h => ⟨Or.inl rfl, ?_⟩, fun h => ⟨fun h2 => ⟨Or.inl rfl, ?_⟩, fun h2 => ⟨Or.inr rfl, ?_⟩⟩⟩
  · rw [decide_eq_false (by omega)]; rfl
  · rw [decide_eq_false (by omega)]; rfl
  · rw [decide_eq_true (by omega)]; rfl
theorem vcX3_now (st : MS) (hp : pX3_now st) : wX3_now_0 (fun (r : Int32) (u : MS) => qX3_now st r ∧ st = u) st := by
  obtain ⟨n, hn, e⟩ := hp
  have e2 : ((2 : Int32)).toNatClampNeg = 2 := nI_clamp (n := 2) (by decide)
  have e3 : (3 : Int32) + nI n = nI (3 + n) := nI_add 3 n
  unfold wX3_now_0
  rw [e2, e, e3]
  refine ⟨vin (n := 2) (by decide), vin (by omega), ?_, rfl⟩
  intro m hm em
  obtain rfl : n = m := nI_inj (e.symm.trans em)
  rw [nI_clamp (by omega)]
theorem vcX3_open (x1 : Int32) (st : MS) (hp : pX3_open x1 st) : wX3_open_0 (qX3_open x1 st) x1 st := by
  obtain ⟨f, s, mv, hb, rfl⟩ := hp
  have hlt := cod_lt hb
  have ht := trn_lt hb.2.2.1 9
  have h9 : (3 : Nat) ^ 9 = 19683 := by decide
  have hmv := hb.2.2.2
  unfold wX3_open_0 wX3_open_17
  have e1 : irm (nI (cod f s mv)) (19683 : Int32) = nI (trn f s 9) := by
    rw [show (19683 : Int32) = nI 19683 from rfl, irm_n (by omega) (by decide) (by decide)]
    congr 1; unfold cod; omega
  have e2 : nI (cod f s mv) / (19683 : Int32) = nI mv := by
    rw [show (19683 : Int32) = nI 19683 from rfl, pk_div (by omega) (by decide) (by decide)]
    congr 1; unfold cod; omega
  rw [e1, e2]
  refine wloop_up 9 (fun k v => k ≤ 9 ∧ v.1 = nI (trn f s 9 / 3 ^ k) ∧ v.2.1 = nI k ∧ frm [7] [3] st v.2.2 ∧ v.2.2.2 3 = nI mv ∧ ∀ j, j < k → v.2.2.1 7 j = nI (cel f s j)) 0 ⟨by omega, by simp, rfl, frm_F (frm.refl _ _ _) (by simp), mF_self _ _ _, fun j hj => by omega⟩ ?_
  rintro k ⟨x2, x3, s1⟩ L ⟨hk, h1, h2, h3, h4, h5⟩ hL
  dsimp only at h1 h2 h3 h4 h5 ⊢
  subst h1; subst h2
  have hdl : trn f s 9 / 3 ^ k ≤ trn f s 9 := Nat.div_le_self _ _
  unfold wX3_open_17_b wX3_open_42 wX3_open_23
  refine ⟨fun hc => ?_, fun hc => ?_⟩
  · have : 9 ≤ k := nle_of (a := 9) hc
    obtain rfl : k = 9 := by omega
    refine ⟨h3, fun f' s' mv' hb' e => ?_⟩
    have := cod_lt hb'
    obtain ⟨rfl, rfl, rfl⟩ := cod_inj hb hb' (nI_inj e)
    exact ⟨hb, h5, h4⟩
  · have hk9 : k < 9 := nlt_of (a := 9) hc
    refine ⟨vin hk9, hL _ hk9 ⟨by omega, ?_, nI_1 k, frm_A h3 (by simp), h4, ?_⟩⟩
    · dsimp only
      rw [show (3 : Int32) = nI 3 from rfl, pk_div (by omega) (by decide) (by decide), Nat.div_div_eq_div_mul, ← Nat.pow_succ]
    · intro j hj
      dsimp only
      rw [nI_clamp (by omega), mA_self]
      by_cases q : j = k
      · subst q
        rw [pk_us, show (3 : Int32) = nI 3 from rfl, irm_n (by omega) (by decide) (by decide), trn_mod hb.2.2.1 9 j hk9]
      · rw [pk_un q]; exact h5 j (by omega)
theorem vcX3_men (x1 : Int32) (st : MS) (hp : pX3_men x1 st) : wX3_men_0 (fun (r : Int32) (u : MS) => qX3_men x1 st r ∧ st = u) x1 st := by
  obtain ⟨⟨f, s, mv, ho⟩, pl, hpl, rfl⟩ := hp
  have hb := ho.1
  unfold wX3_men_0 wX3_men_4
  refine wloop_up 9 (fun k v => k ≤ 9 ∧ v = (nI pl, nI ((List.range k).countP (fun j => (sid f s pl).testBit j)), nI k, st)) 0 ⟨by omega, rfl⟩ ?_
  rintro k v L ⟨hk, rfl⟩ hL
  dsimp only
  unfold wX3_men_4_b wX3_men_36 wX3_men_10 wX3_men_27 wX3_men_23 wX3_men_28
  have hcl := cel_lt hb.2.2.1 k
  refine ⟨fun hc => ?_, fun hc => ?_⟩
  · have : 9 ≤ k := nle_of (a := 9) hc
    obtain rfl : k = 9 := by omega
    refine ⟨?_, rfl⟩
    intro f' s' mv' pl' ho' hpl' e
    obtain ⟨rfl, rfl, rfl⟩ := opn_inj ho ho'
    obtain rfl : pl = pl' := nI_inj e
    rfl
  · have hk9 : k < 9 := nlt_of (a := 9) hc
    rw [nI_clamp (by omega), ho.2.1 k hk9, show (1 : Int32) = nI 1 from rfl, nI_add]
    refine ⟨vin hk9, fun h => hL _ hk9 ⟨by omega, ?_⟩, fun h => hL _ hk9 ⟨by omega, ?_⟩⟩
    · have : ¬ cel f s k = pl + 1 := fun q => h (by rw [q])
      rw [cel_sid hb.2.2.1 hpl] at this
      rw [List.range_succ, List.countP_append, nI_add]
      simp [this, show (0 : Int32) = nI 0 from rfl, nI_add]
    · have : cel f s k = pl + 1 := nI_inj h
      rw [cel_sid hb.2.2.1 hpl] at this
      rw [List.range_succ, List.countP_append, nI_add, nI_add]
      simp [this]
theorem vcX3_three (x1 x2 x3 : Int32) (st : MS) (hp : pX3_three x1 x2 x3 st) : wX3_three_0 (fun (r : Int32) (u : MS) => qX3_three x1 x2 x3 st r ∧ st = u) x1 x2 x3 st := by
  obtain ⟨⟨f, s, mv, ho⟩, ⟨pl, hpl, rfl⟩, i, j, rfl, rfl, hij⟩ := hp
  have hb := ho.1
  have key : ∀ b : Bool, b = ((sid f s pl).testBit i && (sid f s pl).testBit (i + j) && (sid f s pl).testBit (i + 2 * j)) → qX3_three (nI pl) (nI i) (nI j) st (b2 b) ∧ st = st := by
    intro b e
    refine ⟨?_, rfl⟩
    intro f' s' mv' pl' i' j' ho' hpl' e1 e2 e3 hij'
    obtain ⟨rfl, rfl, rfl⟩ := opn_inj ho ho'
    obtain rfl : pl = pl' := nI_inj e1
    obtain rfl : i = i' := nI_inj e2
    obtain rfl : j = j' := nI_inj e3
    rw [e]
  have hcell : ∀ k, k < 9 → (st.1 7 k = nI (pl + 1) ↔ (sid f s pl).testBit k = true) := by
    intro k hk
    rw [ho.2.1 k hk, ← cel_sid hb.2.2.1 hpl]
    have hcl := cel_lt hb.2.2.1 k
    exact ⟨fun q => nI_inj q, fun q => by rw [q]⟩
  unfold wX3_three_0 wX3_three_16 wX3_three_29 wX3_three_44 wX3_three_48 wX3_three_49
  rw [show (1 : Int32) = nI 1 from rfl, show (2 : Int32) = nI 2 from rfl, nI_add, nI_add, pk_mul, nI_add, nI_clamp (by omega), nI_clamp (by omega), nI_clamp (by omega), hcell i (by omega), hcell (i + j) (by omega), hcell (i + 2 * j) (by omega)]
  refine ⟨vin (by omega), fun h => ⟨Or.inl rfl, key false (by simp [h])⟩, fun h => ⟨vin (by omega), fun h2 => ⟨Or.inl rfl, key false (by simp [h2])⟩, fun h2 => ⟨vin (by omega), fun h3 => ⟨Or.inl rfl, key false (by simp [h3])⟩, fun h3 => ⟨Or.inr rfl, key true (by simp [h, h2, h3])⟩⟩⟩⟩
theorem wloop_dn {V : Type} {body : (V → Prop) → V → Prop} (P : Nat → V → Prop) {v : V} (n0 : Nat) (h0 : P n0 v) (hs : ∀ (n : Nat) (v : V) (L : V → Prop), P n v → (∀ m v', n = m + 1 → P m v' → L v') → body L v) : wloop body v :=
  ⟨P, n0, h0, fun n v h => hs n v _ h (fun m v' e h' => ⟨m, by omega, h'⟩)⟩
theorem vcX3_code (st : MS) (hp : pX3_code st) : wX3_code_0 (fun (r : Int32) (u : MS) => qX3_code st r ∧ st = u) st := by
  obtain ⟨f, s, mv, ho⟩ := hp
  have hb := ho.1
  have ht := trn_lt hb.2.2.1 9
  have h9 : (3 : Nat) ^ 9 = 19683 := by decide
  unfold wX3_code_0 wX3_code_5
  refine wloop_dn (fun n v => n ≤ 9 ∧ v = (nI (trn f s 9 / 3 ^ n), nI n + (-1 : Int32), st)) 9 ⟨by omega, ?_⟩ ?_
  · rw [Nat.div_eq_of_lt ht]; rfl
  · rintro n v L ⟨hn, rfl⟩ hL
    dsimp only
    unfold wX3_code_5_b wX3_code_26 wX3_code_9
    cases n with
    | zero =>
      refine ⟨fun _ => ⟨?_, rfl⟩, fun h => absurd (show nI 0 + (-1 : Int32) < 0 by decide) h⟩
      intro f' s' mv' ho'
      obtain ⟨rfl, rfl, rfl⟩ := opn_inj ho ho'
      rw [ho.2.2, show (19683 : Int32) = nI 19683 from rfl, pk_mul, nI_add]
      simp [cod]
    | succ n =>
      rw [neg1_n]
      have hdl : trn f s 9 / 3 ^ n ≤ trn f s 9 := Nat.div_le_self _ _
      refine ⟨fun h => absurd h (nI_pos (by omega)), fun _ => ⟨vin (by omega), hL n _ rfl ⟨by omega, ?_⟩⟩⟩
      rw [nI_clamp (by omega), ho.2.1 n (by omega), show (3 : Int32) = nI 3 from rfl, pk_mul, nI_add]
      have h1 := trn_mod hb.2.2.1 9 n (by omega)
      have h2 : trn f s 9 / 3 ^ (n + 1) = trn f s 9 / 3 ^ n / 3 := by rw [Nat.pow_succ, Nat.div_div_eq_div_mul]
      rw [h2, ← h1, Nat.div_add_mod]
theorem nb_far : ∀ i, i < 9 → ∀ j, j < 9 → ((((nI i / (3 : Int32)) - (nI j / (3 : Int32))) * ((nI i / (3 : Int32)) - (nI j / (3 : Int32)))) + (((irm (nI i) (3 : Int32)) - (irm (nI j) (3 : Int32))) * ((irm (nI i) (3 : Int32)) - (irm (nI j) (3 : Int32))))) = nI (farN i j) := by decide +kernel
theorem far_lt : ∀ i, i < 9 → ∀ j, j < 9 → farN i j < 9 := by decide +kernel
theorem vcX3_areNeighbours (x1 x2 : Int32) (st : MS) (hp : pX3_areNeighbours x1 x2 st) : wX3_areNeighbours_0 (fun (r : Int32) (u : MS) => qX3_areNeighbours x1 x2 st r ∧ st = u) x1 x2 st := by
  obtain ⟨⟨d, l, hs⟩, i, j, hi, hj, rfl, rfl⟩ := hp
  have key : ∀ b : Bool, b = isNb d i j → isB (b2 b) ∧ qX3_areNeighbours (nI i) (nI j) st (b2 b) ∧ st = st := by
    intro b e
    refine ⟨isB_b2 b, ?_, rfl⟩
    intro d' l' i' j' hs' hi' hj' e1 e2
    obtain ⟨rfl, rfl⟩ := sett_inj hs hs'
    obtain rfl : i = i' := nI_inj e1
    obtain rfl : j = j' := nI_inj e2
    rw [e]
  have hf := far_lt i hi j hj
  have hd := hs.2.2.1
  have e0 : ((0 : Int32)).toNatClampNeg = 0 := rfl
  unfold wX3_areNeighbours_0 wX3_areNeighbours_34 wX3_areNeighbours_40 wX3_areNeighbours_50 wX3_areNeighbours_55 wX3_areNeighbours_60 wX3_areNeighbours_64 wX3_areNeighbours_65
  rw [nb_far i hi j hj, e0, hs.1]
  refine ⟨fun h => key true ?_, fun h => ⟨fun h2 => key false ?_, fun h2 => ⟨vin (n := 0) (by decide), fun h3 => key false ?_, fun h3 => ⟨fun h4 => key true ?_, fun h4 => ⟨fun h5 => key false ?_, fun h5 => key true ?_⟩⟩⟩⟩⟩
  · have : farN i j = 1 := nI_inj (b := 1) h
    simp [isNb, this]
  · have g1 : ¬ farN i j = 1 := fun q => h (by rw [q]; rfl)
    have g2 : ¬ farN i j = 2 := fun q => h2 (by rw [q]; rfl)
    simp [isNb, g1, g2]
  · have g1 : ¬ farN i j = 1 := fun q => h (by rw [q]; rfl)
    have g2 : ¬ d = 1 := fun q => h3 (by rw [q]; rfl)
    simp [isNb, g1, g2]
  · have g1 : farN i j = 2 := nI_inj (b := 2) h2
    have g2 : d = 1 := nI_inj (b := 1) h3
    have g3 : i = 4 := nI_inj (b := 4) h4
    rw [isNb, g1, g2, g3]; rfl
  · have g1 : ¬ farN i j = 1 := fun q => h (by rw [q]; rfl)
    have g3 : ¬ i = 4 := fun q => h4 (by rw [q]; rfl)
    have g4 : ¬ j = 4 := fun q => h5 (by rw [q]; rfl)
    simp [isNb, g1, g3, g4]
  · have g1 : farN i j = 2 := nI_inj (b := 2) h2
    have g2 : d = 1 := nI_inj (b := 1) h3
    have g3 : j = 4 := nI_inj (b := 4) h5
    rw [isNb, g1, g2, g3]; simp
def tri (m i j : Nat) : Bool := m.testBit i && m.testBit (i + j) && m.testBit (i + 2 * j)
theorem hasL_tri : ∀ m, m < 512 → ∀ d, d < 2 → hasL d m = (tri m 0 1 || tri m 0 3 || tri m 3 1 || tri m 1 3 || tri m 6 1 || tri m 2 3 || (d == 1 && (tri m 0 4 || tri m 2 2))) := by decide +kernel
theorem sid_lt {f s pl mv : Nat} (h : bok f s mv) : sid f s pl < 512 := by
  unfold sid
  split
  · exact h.1
  · exact h.2.1
theorem vcX3_hasLine (x1 : Int32) (st : MS) (hp : pX3_hasLine x1 st) : wX3_hasLine_0 (fun (r : Int32) (u : MS) => qX3_hasLine x1 st r ∧ st = u) x1 st := by
  obtain ⟨⟨f, s, mv, ho⟩, ⟨pl, hpl, rfl⟩, d, l, hs⟩ := hp
  have hb := ho.1
  have hd := hs.2.2.1
  have hm := sid_lt (pl := pl) hb
  have key : ∀ b : Bool, b = hasL d (sid f s pl) → isB (b2 b) ∧ qX3_hasLine (nI pl) st (b2 b) ∧ st = st := by
    intro b e
    refine ⟨isB_b2 b, ?_, rfl⟩
    intro f' s' mv' pl' d' l' ho' hpl' e1 hs'
    obtain ⟨rfl, rfl, rfl⟩ := opn_inj ho ho'
    obtain ⟨rfl, rfl⟩ := sett_inj hs hs'
    obtain rfl : pl = pl' := nI_inj e1
    rw [e]
  have p3 : ∀ i j, i + 2 * j < 9 → pX3_three (nI pl) (nI i) (nI j) st := fun i j h => ⟨⟨f, s, mv, ho⟩, ⟨pl, hpl, rfl⟩, i, j, rfl, rfl, h⟩
  have q3 : ∀ i j r, i + 2 * j < 9 → qX3_three (nI pl) (nI i) (nI j) st r → r = b2 (tri (sid f s pl) i j) := fun i j r h q => q f s mv pl i j ho hpl rfl rfl rfl h
  rw [hasL_tri _ hm d hd] at key
  unfold wX3_hasLine_0 wX3_hasLine_2
  refine wloop_up 3 (fun k v => k ≤ 3 ∧ v = (nI pl, nI k, st) ∧ ∀ j, j < k → tri (sid f s pl) (3 * j) 1 = false ∧ tri (sid f s pl) j 3 = false) 0 ⟨by omega, rfl, fun j hj => by omega⟩ ?_
  rintro k v L ⟨hk, rfl, hno⟩ hL
  dsimp only
  unfold wX3_hasLine_2_b wX3_hasLine_37 wX3_hasLine_7 wX3_hasLine_19 wX3_hasLine_31 wX3_hasLine_29 wX3_hasLine_47 wX3_hasLine_57 wX3_hasLine_67 wX3_hasLine_71 wX3_hasLine_72
  refine ⟨fun hc => ?_, fun hc => ?_⟩
  · have : 3 ≤ k := nle_of (a := 3) hc
    obtain rfl : k = 3 := by omega
    have n0 := hno 0 (by omega)
    have n1 := hno 1 (by omega)
    have n2 := hno 2 (by omega)
    simp only [Nat.mul_zero, Nat.mul_one, show 3 * 2 = 6 from rfl] at n0 n1 n2
    rw [n0.1, n0.2, n1.1, n1.2, n2.1, n2.2] at key
    rw [show ((0 : Int32)).toNatClampNeg = 0 from rfl, hs.1]
    refine ⟨vin (n := 0) (by decide), fun h => key false ?_, fun h => ⟨p3 0 4 (by decide), fun r1 h1 => ?_⟩⟩
    · have g2 : ¬ d = 1 := fun q => h (by rw [q]; rfl)
      simp [g2]
    · have g2 : d = 1 := nI_inj (b := 1) h
      have e1 := q3 0 4 r1 (by decide) h1
      subst e1
      refine ⟨fun h2 => key true ?_, fun h2 => ⟨p3 2 2 (by decide), fun r2 h3 => ?_⟩⟩
      · rw [b2_n0] at h2
        simp [g2, h2]
      · have e2 := q3 2 2 r2 (by decide) h3
        subst e2
        rw [b2_0] at h2
        refine ⟨fun h4 => key false ?_, fun h4 => key true ?_⟩
        · rw [b2_0] at h4
          simp [h2, h4]
        · rw [b2_n0] at h4
          simp [g2, h4]
  · have hk3 : k < 3 := nlt_of (a := 3) hc
    rw [show (3 : Int32) = nI 3 from rfl, pk_mul]
    refine ⟨p3 (3 * k) 1 (by omega), fun r1 h1 => ?_⟩
    have e1 := q3 (3 * k) 1 r1 (by omega) h1
    subst e1
    refine ⟨fun h2 => key true ?_, fun h2 => ⟨p3 k 3 (by omega), fun r2 h3 => ?_⟩⟩
    · rw [b2_n0] at h2
      rcases (show k = 0 ∨ k = 1 ∨ k = 2 by omega) with rfl | rfl | rfl <;> simp at h2 <;> simp [h2]
    · have e2 := q3 k 3 r2 (by omega) h3
      subst e2
      rw [b2_0] at h2
      refine ⟨fun h4 => hL _ hk3 ⟨by omega, ?_, ?_⟩, fun h4 => key true ?_⟩
      · rw [← nI_1]
      · intro j hj
        rcases (show j = k ∨ j < k by omega) with rfl | q
        · exact ⟨h2, b2_0.mp h4⟩
        · exact hno j q
      · rw [b2_n0] at h4
        rcases (show k = 0 ∨ k = 1 ∨ k = 2 by omega) with rfl | rfl | rfl <;> simp [h4]
