theorem opn_frm {as fs : List Nat} {st st1 : MS} {f s mv : Nat} (h : frm as fs st st1) (h7 : 7 ∉ as) (h3 : 3 ∉ fs) (ho : opn st f s mv) : opn st1 f s mv := ⟨ho.1, fun k hk => by rw [h.1 7 h7]; exact ho.2.1 k hk, by rw [h.2 3 h3]; exact ho.2.2⟩
theorem sett_frm {as fs : List Nat} {st st1 : MS} {d l : Nat} (h : frm as fs st st1) (h0 : 0 ∉ as) (hs : sett st d l) : sett st1 d l := ⟨by rw [h.1 0 h0]; exact hs.1, by rw [h.1 0 h0]; exact hs.2.1, hs.2.2⟩
theorem vcX3_isLegal (st : MS) (hp : pX3_isLegal st) : wX3_isLegal_0 (fun (r : Int32) (u : MS) => qX3_isLegal st r ∧ st = u) st := by
  obtain ⟨⟨f, s, mv, ho⟩, d, l, hs⟩ := hp
  have hmv := ho.1.2.2.2
  have key : ∀ b : Bool, b = legal d f s mv → isB (b2 b) ∧ qX3_isLegal st (b2 b) ∧ st = st := by
    intro b e
    refine ⟨isB_b2 b, ?_, rfl⟩
    intro f' s' mv' d' l' ho' hs'
    obtain ⟨rfl, rfl, rfl⟩ := opn_inj ho ho'
    obtain ⟨rfl, rfl⟩ := sett_inj hs hs'
    rw [e]
  unfold wX3_isLegal_0
  refine ⟨⟨⟨f, s, mv, ho⟩, 0, by decide, rfl⟩, fun r1 h1 => ⟨⟨⟨f, s, mv, ho⟩, 1, by decide, rfl⟩, fun r2 h2 => ?_⟩⟩
  have e1 := h1 f s mv 0 ho (by decide) rfl
  have e2 := h2 f s mv 1 ho (by decide) rfl
  subst e1; subst e2
  have hca : sid f s 0 = f := rfl
  have hcb : sid f s 1 = s := rfl
  rw [hca, hcb]
  have ha := cnt_le f
  have hbn := cnt_le s
  have no : ¬ ((cnt f = cnt s ∧ cnt f < 3 ∧ mv = 0) ∨ (cnt f = cnt s + 1 ∧ cnt f ≤ 3 ∧ mv = 1) ∨ (cnt f = 3 ∧ cnt s = 3)) → wX3_isLegal_63 (fun (r : Int32) (u : MS) => qX3_isLegal st r ∧ st = u) st := by
    intro h
    unfold wX3_isLegal_63 wX3_isLegal_64 wX3_isLegal_84 wX3_isLegal_85
    refine ⟨fun _ => key false ?_, fun h => absurd rfl h⟩
    unfold legal
    rw [decide_eq_false (fun q => h (Or.inl q)), decide_eq_false (fun q => h (Or.inr (Or.inl q))), decide_eq_false (fun q => h (Or.inr (Or.inr q)))]
    rfl
  have yes : ((cnt f = cnt s ∧ cnt f < 3 ∧ mv = 0) ∨ (cnt f = cnt s + 1 ∧ cnt f ≤ 3 ∧ mv = 1) ∨ (cnt f = 3 ∧ cnt s = 3)) → wX3_isLegal_59 (fun (r : Int32) (u : MS) => qX3_isLegal st r ∧ st = u) st := by
    intro h
    unfold wX3_isLegal_59 wX3_isLegal_64 wX3_isLegal_69 wX3_isLegal_80 wX3_isLegal_84 wX3_isLegal_85
    refine ⟨fun h => absurd h (by decide), fun _ => ⟨⟨⟨f, s, mv, ho⟩, ⟨mv, hmv, ho.2.2⟩, d, l, hs⟩, fun r3 h3 => ?_⟩⟩
    have e3 := h3 f s mv mv d l ho hmv ho.2.2 hs
    subst e3
    have hl : legal d f s mv = !hasL d (sid f s mv) := by
      unfold legal
      rcases h with h | h | h <;> (rw [decide_eq_true h]; simp)
    refine ⟨fun h4 => key false ?_, fun h4 => key true ?_⟩
    · rw [hl, b2_n0.mp h4]; rfl
    · rw [hl, b2_0.mp h4]; rfl
  have m0 : st.2 3 = nI mv := ho.2.2
  have last : ¬ (cnt f = cnt s ∧ cnt f < 3 ∧ mv = 0) → ¬ (cnt f = cnt s + 1 ∧ cnt f ≤ 3 ∧ mv = 1) → wX3_isLegal_49 (fun (r : Int32) (u : MS) => qX3_isLegal st r ∧ st = u) (nI (cnt f)) (nI (cnt s)) st := by
    intro g1 g2
    unfold wX3_isLegal_49 wX3_isLegal_54
    refine ⟨fun h => no ?_, fun h => ⟨fun h' => no ?_, fun h' => yes ?_⟩⟩
    · have : ¬ cnt f = 3 := fun q => h (by rw [q]; rfl)
      omega
    · have : ¬ cnt s = 3 := fun q => h' (by rw [q]; rfl)
      omega
    · have := nI_inj (b := 3) h
      have := nI_inj (b := 3) h'
      omega
  have mid : ¬ (cnt f = cnt s ∧ cnt f < 3 ∧ mv = 0) → wX3_isLegal_29 (fun (r : Int32) (u : MS) => qX3_isLegal st r ∧ st = u) (nI (cnt f)) (nI (cnt s)) st := by
    intro g1
    unfold wX3_isLegal_29 wX3_isLegal_36 wX3_isLegal_41
    rw [m0, show (1 : Int32) = nI 1 from rfl, nI_add]
    refine ⟨fun h => last g1 ?_, fun h => ⟨fun h' => last g1 ?_, fun h' => ⟨fun h'' => yes ?_, fun h'' => last g1 ?_⟩⟩⟩
    · have : ¬ cnt f = cnt s + 1 := fun q => h (by rw [q])
      omega
    · have := nl_of (a := 3) h'
      omega
    · have := nI_inj h
      have := nge_of (a := 3) h'
      have := nI_inj h''
      omega
    · have : ¬ mv = 1 := fun q => h'' (by rw [q])
      omega
  unfold wX3_isLegal_17 wX3_isLegal_22
  rw [m0]
  refine ⟨fun h => mid ?_, fun h => ⟨fun h' => mid ?_, fun h' => ⟨fun h'' => yes ?_, fun h'' => mid ?_⟩⟩⟩
  · have : ¬ cnt f = cnt s := fun q => h (by rw [q])
    omega
  · have := nle_of (a := 3) h'
    omega
  · have := nI_inj h
    have := nlt_of (a := 3) h'
    have := nI_inj (b := 0) h''
    omega
  · have : ¬ mv = 0 := fun q => h'' (by rw [q]; rfl)
    omega
theorem lst_add {st : MS} {L : List Nat} {q : Nat} (h : lst st L) (hl : L.length < 40) : lst (mF (mA st 8 ((st.2 4)).toNatClampNeg (nI q)) 4 (((mA st 8 ((st.2 4)).toNatClampNeg (nI q)).2 4) + (1 : Int32))) (L ++ [q]) := by
  refine ⟨?_, fun j hj => ?_⟩
  · rw [mF_self, mA_F, h.1, show (1 : Int32) = nI 1 from rfl, nI_add, List.length_append]; rfl
  · rw [mF_A, mA_self, h.1, nI_clamp (by omega)]
    rw [List.length_append, List.length_singleton] at hj
    by_cases e : j = L.length
    · subst e
      rw [pk_us]
      simp
    · rw [pk_un e, h.2 j (by omega)]
      congr 1
      simp only [List.getD_eq_getElem?_getD]
      rw [List.getElem?_append_left (by omega)]
theorem fre_sid {f s mv : Nat} (h : mv < 2) (k : Nat) : fre f s k = fre (sid f s mv) (sid f s (1 - mv)) k := by
  rcases (show mv = 0 ∨ mv = 1 by omega) with rfl | rfl
  · rfl
  · simp only [fre, sid]
    exact Bool.and_comm _ _
theorem cntP_mono {p : Nat → Bool} {n m : Nat} (h : n ≤ m) : (List.range n).countP p ≤ (List.range m).countP p := by
  obtain ⟨k, rfl⟩ := Nat.exists_eq_add_of_le h
  rw [List.range_add, List.countP_append]
  omega
def nbq (d q : Nat) : Bool := decide (9 ≤ q) && isNb d ((q - 9) / 9) ((q - 9) % 9)
theorem nbq_c : ∀ d, d < 2 → (List.range 90).countP (nbq d) ≤ 32 := by decide +kernel
/-- on a board where men slide, a list of slides is short -/
theorem sl_len {d l me ot n : Nat} (hd : d < 2) (hc : ¬ cnt me < 3) (hn : n ≤ 90) : ((List.range n).filter (isMv d l me ot)).length ≤ 32 := by
  rw [← List.countP_eq_length_filter]
  refine Nat.le_trans (Nat.le_trans (List.countP_mono_left (q := nbq d) ?_) (cntP_mono hn)) (nbq_c d hd)
  intro q hq h
  have hq' : q < 90 := Nat.lt_of_lt_of_le (List.mem_range.mp hq) hn
  simp only [isMv, hc, if_false, isSl, Bool.and_eq_true, Bool.or_eq_true, decide_eq_true_eq, beq_iff_eq] at h
  rcases h.2 with h | h
  · simp [nbq, h.1.1.1.1, h.2]
  · omega
theorem flt_succ {p : Nat → Bool} (n : Nat) : (List.range (n + 1)).filter p = (List.range n).filter p ++ (if p n then [n] else []) := by
  rw [List.range_succ, List.filter_append]
  congr 1
  by_cases h : p n <;> simp [h]
theorem flt_same {p : Nat → Bool} {n m : Nat} (h : n ≤ m) (hn : ∀ q, n ≤ q → q < m → p q = false) : (List.range m).filter p = (List.range n).filter p := by
  obtain ⟨k, rfl⟩ := Nat.exists_eq_add_of_le h
  rw [List.range_add, List.filter_append]
  have : ((List.range k).map (fun x => n + x)).filter p = [] := by
    rw [List.filter_eq_nil_iff]
    intro q hq
    obtain ⟨j, hj, rfl⟩ := List.mem_map.mp hq
    have := List.mem_range.mp hj
    rw [hn _ (by omega) (by omega)]
    simp
  rw [this, List.append_nil]
