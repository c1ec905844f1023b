/-! PURE 3: worths of boards; levels -/
set_option maxRecDepth 100000
def meB (b : Bd) : Nat := sid b.1 b.2.1 b.2.2
def otB (b : Bd) : Nat := sid b.1 b.2.1 (1 - b.2.2)
def bokB (b : Bd) : Prop := bok b.1 b.2.1 b.2.2
def codB (b : Bd) : Nat := cod b.1 b.2.1 b.2.2
def legB (d : Nat) (b : Bd) : Bool := legal d b.1 b.2.1 b.2.2
def mvl (d l : Nat) (b : Bd) : List Nat := lookL d l (meB b) (otB b)
def wrb (d l : Nat) (b : Bd) : Int := (vlF (tabw d l) (codB b) : Int) - 16
theorem meB_lt {b : Bd} (h : bokB b) : meB b < 512 := by
  unfold meB sid
  split
  · exact h.1
  · exact h.2.1
theorem otB_lt {b : Bd} (h : bokB b) : otB b < 512 := by
  unfold otB sid
  split
  · exact h.1
  · exact h.2.1
theorem B_apart {b : Bd} (h : bokB b) : meB b &&& otB b = 0 := by
  obtain ⟨f, s, mv⟩ := b
  rcases (show mv = 0 ∨ mv = 1 by have : mv < 2 := h.2.2.2; omega) with rfl | rfl
  · exact h.2.2.1
  · show s &&& f = 0
    rw [Nat.and_comm]; exact h.2.2.1
theorem isMv_okm {d l me ot q : Nat} (h : isMv d l me ot q = true) : okm me ot q := by
  unfold isMv at h
  simp only [Bool.and_eq_true] at h
  have h2 := h.2
  split at h2
  · simp only [Bool.and_eq_true, decide_eq_true_eq] at h2
    exact Or.inr (Or.inl h2)
  · simp only [Bool.or_eq_true, Bool.and_eq_true, beq_iff_eq] at h2
    rcases h2 with h2 | h2
    · have h3 := isSl_lt h2
      unfold isSl at h2
      simp only [Bool.and_eq_true, decide_eq_true_eq] at h2
      exact Or.inr (Or.inr ⟨h3.1, h3.2, h2.1.1.2, h2.1.2⟩)
    · exact Or.inl h2.1.1
theorem app_tb {me q : Nat} (hm : me < 512) (k : Nat) : (app me q).testBit k = if q = 90 then me.testBit k else if q < 9 then (me.testBit k || decide (q = k)) else ((me.testBit k && !decide ((q - 9) / 9 = k)) || decide ((q - 9) % 9 = k)) := by
  unfold app
  split
  · rfl
  · split
    · rw [Nat.testBit_or, Nat.testBit_two_pow]
    · rw [Nat.testBit_or, Nat.testBit_and, Nat.testBit_xor, Nat.testBit_two_pow, Nat.testBit_two_pow]
      congr 1
      by_cases hk : k < 9
      · have h3 : Nat.testBit 511 k = true := by
          have : ∀ j, j < 9 → Nat.testBit 511 j = true := by decide
          exact this k hk
        rw [h3]
        simp
      · rw [tb_hi hm (by omega)]; rfl
theorem app_lt {me q : Nat} (hm : me < 512) (hq : q ≤ 90) : app me q < 512 := by
  unfold app
  split
  · exact hm
  · split
    · exact Nat.or_lt_two_pow (n := 9) hm (Nat.pow_lt_pow_right (by decide) (by omega))
    · refine Nat.or_lt_two_pow (n := 9) ?_ (Nat.pow_lt_pow_right (by decide) (by omega))
      exact Nat.lt_of_le_of_lt Nat.and_le_left hm
theorem okm_le {me ot q : Nat} (h : okm me ot q) : q ≤ 90 := by
  unfold okm at h
  omega
/-- behind a move the men are apart still -/
theorem app_apart {me ot q : Nat} (hm : me < 512) (h0 : me &&& ot = 0) (hk : okm me ot q) : app me q &&& ot = 0 := by
  apply and0_of
  intro k
  rw [app_tb hm]
  have h2 := and0 h0 k
  rcases hk with rfl | ⟨h3, h4⟩ | ⟨h3, h4, h5, h6⟩
  · simpa using h2
  · have e1 : ¬ q = 90 := by omega
    simp only [e1, h3, if_false, if_true]
    by_cases e : q = k
    · subst e
      unfold fre at h4
      simp_all
    · simpa [e] using h2
  · have e1 : ¬ q = 90 := by omega
    have e2 : ¬ q < 9 := by omega
    simp only [e1, e2, if_false]
    by_cases e : (q - 9) % 9 = k
    · rw [e] at h6
      unfold fre at h6
      simp_all
    · simp only [e, decide_false, Bool.or_false, Bool.and_eq_true]
      intro h7
      exact h2 ⟨h7.1.1, h7.2⟩
theorem nxb_bok {b : Bd} {q : Nat} (h : bokB b) (hk : okm (meB b) (otB b) q) : bokB (nxb b q) := by
  have h1 := app_lt (meB_lt h) (okm_le hk)
  have h2 := app_apart (meB_lt h) (B_apart h) hk
  obtain ⟨f, s, mv⟩ := b
  rcases (show mv = 0 ∨ mv = 1 by have : mv < 2 := h.2.2.2; omega) with rfl | rfl
  · exact ⟨h1, h.2.1, h2, show 1 < 2 by decide⟩
  · exact ⟨h.1, h1, by show f &&& app s q = 0; rw [Nat.and_comm]; exact h2, show 0 < 2 by decide⟩
theorem cnt_set : ∀ m, m < 512 → ∀ q, q < 9 → m.testBit q = false → cnt (m ||| 2 ^ q) = cnt m + 1 := by decide +kernel
theorem cnt_clr : ∀ m, m < 512 → ∀ q, q < 9 → m.testBit q = true → cnt (m &&& (511 ^^^ 2 ^ q)) + 1 = cnt m := by decide +kernel
theorem cnt_app {d l me ot q : Nat} (hm : me < 512) (h : isMv d l me ot q = true) : cnt (app me q) = if cnt me < 3 then cnt me + 1 else cnt me := by
  have hk := isMv_okm h
  unfold isMv at h
  simp only [Bool.and_eq_true] at h
  have h2 := h.2
  split at h2
  · rename_i hc
    rw [if_pos hc]
    simp only [Bool.and_eq_true, decide_eq_true_eq] at h2
    have h3 := h2.2
    unfold fre at h3
    simp only [Bool.and_eq_true, Bool.not_eq_true'] at h3
    unfold app
    rw [if_neg (by omega), if_pos h2.1]
    exact cnt_set me hm q h2.1 h3.1
  · rename_i hc
    rw [if_neg hc]
    simp only [Bool.or_eq_true, Bool.and_eq_true, beq_iff_eq] at h2
    rcases h2 with h2 | h2
    · have h3 := isSl_lt h2
      unfold isSl at h2
      simp only [Bool.and_eq_true, decide_eq_true_eq] at h2
      have h5 := h2.1.2
      unfold fre at h5
      simp only [Bool.and_eq_true, Bool.not_eq_true'] at h5
      unfold app
      rw [if_neg (by omega), if_neg (by omega)]
      have e1 := cnt_clr me hm ((q - 9) / 9) (by omega) h2.1.1.2
      have e2 := cnt_set (me &&& (511 ^^^ 2 ^ ((q - 9) / 9))) (Nat.lt_of_le_of_lt Nat.and_le_left hm) ((q - 9) % 9) (by omega) (by rw [Nat.testBit_and, h5.1]; rfl)
      omega
    · rw [h2.1.1]; rfl
theorem mem_mvl {d l : Nat} {b : Bd} {q : Nat} : q ∈ mvl d l b ↔ q < 91 ∧ isMv d l (meB b) (otB b) q = true := look_mem
theorem nxb_legal {d l : Nat} {b : Bd} {q : Nat} (h : bokB b) (hg : legB d b = true) (hq : q ∈ mvl d l b) : legB d (nxb b q) = true := by
  have hm := (mem_mvl.mp hq).2
  have hc := cnt_app (meB_lt h) hm
  have hl : hasL d (otB b) = false := by
    unfold isMv at hm
    simp only [Bool.and_eq_true, Bool.not_eq_true'] at hm
    exact hm.1
  obtain ⟨f, s, mv⟩ := b
  unfold legB legal at hg
  simp only [Bool.and_eq_true, Bool.or_eq_true, decide_eq_true_eq] at hg
  obtain ⟨hg, -⟩ := hg
  rcases (show mv = 0 ∨ mv = 1 by have : mv < 2 := h.2.2.2; omega) with rfl | rfl
  · have hc : cnt (app f q) = if cnt f < 3 then cnt f + 1 else cnt f := hc
    have hl : hasL d s = false := hl
    show legal d (app f q) s 1 = true
    unfold legal
    have e : sid (app f q) s 1 = s := rfl
    rw [e, hl]
    split at hc <;> simp <;> omega
  · have hc : cnt (app s q) = if cnt s < 3 then cnt s + 1 else cnt s := hc
    have hl : hasL d f = false := hl
    show legal d f (app s q) 0 = true
    unfold legal
    have e : sid f (app s q) 0 = f := rfl
    rw [e, hl]
    split at hc <;> simp <;> omega
/-- what holds between a board's worth and those behind its moves -/
def certP (w : Int) (us : List Int) : Prop := (us = [] ∧ w = -1) ∨ (us ≠ [] ∧ ((w < 0 ∧ -11 ≤ w ∧ w ≤ -3 ∧ (∀ u ∈ us, 0 < u ∧ u ≤ -2 - w) ∧ (-2 - w) ∈ us) ∨ (w = 0 ∧ (∀ u ∈ us, 0 ≤ u) ∧ (0 : Int) ∈ us) ∨ (0 < w ∧ w ≤ 10 ∧ (∀ u ∈ us, u < 0 → u ≤ -w) ∧ -w ∈ us)))
theorem okF_cert {v : Nat} {us : List Nat} (h : okF v us = true) : certP ((v : Int) - 16) (us.map (fun u : Nat => (u : Int) - 16)) := by
  cases us with
  | nil =>
    left
    simp only [okF, beq_iff_eq] at h
    exact ⟨rfl, by omega⟩
  | cons u r =>
    right
    refine ⟨by simp, ?_⟩
    generalize hL : u :: r = L at *
    have hok : (if v < 16 then Nat.ble 5 v && (Nat.ble v 13 && (L.all (fun u => Nat.ble 17 u && Nat.ble u (30 - v)) && L.any (fun u => u == 30 - v)))
    else if v = 16 then L.all (fun u => Nat.ble 16 u) && L.any (fun u => u == 16)
    else Nat.ble v 26 && (L.all (fun u => Nat.ble 16 u || Nat.ble u (32 - v)) && L.any (fun u => u == 32 - v))) = true := by
      rw [← hL] at h ⊢
      exact h
    have mem : ∀ x : Nat, x ∈ L → ((x : Int) - 16) ∈ L.map (fun u : Nat => (u : Int) - 16) := fun x hx => List.mem_map.mpr ⟨x, hx, rfl⟩
    split at hok
    · left
      simp only [Bool.and_eq_true, Nat.ble_eq, List.all_eq_true, List.any_eq_true, beq_iff_eq] at hok
      obtain ⟨h1, h2, h3, x, hx, rfl⟩ := hok
      refine ⟨by omega, by omega, by omega, ?_, ?_⟩
      · intro z hz
        obtain ⟨y, hy, rfl⟩ := List.mem_map.mp hz
        have := h3 y hy
        omega
      · have := mem _ hx
        rw [show (-2 - ((v : Int) - 16)) = ((30 - v : Nat) : Int) - 16 by omega]
        exact this
    · split at hok
      · right; left
        rename_i hv
        simp only [Bool.and_eq_true, Nat.ble_eq, List.all_eq_true, List.any_eq_true, beq_iff_eq] at hok
        obtain ⟨h3, x, hx, rfl⟩ := hok
        refine ⟨by omega, ?_, mem _ hx⟩
        intro z hz
        obtain ⟨y, hy, rfl⟩ := List.mem_map.mp hz
        have := h3 y hy
        omega
      · right; right
        simp only [Bool.and_eq_true, Bool.or_eq_true, Nat.ble_eq, List.all_eq_true, List.any_eq_true, beq_iff_eq] at hok
        obtain ⟨h1, h3, x, hx, rfl⟩ := hok
        refine ⟨by omega, by omega, ?_, ?_⟩
        · intro z hz
          obtain ⟨y, hy, rfl⟩ := List.mem_map.mp hz
          have := h3 y hy
          omega
        · have := mem _ hx
          rw [show -((v : Int) - 16) = ((32 - v : Nat) : Int) - 16 by omega]
          exact this
theorem msk_mem : ∀ m, m < 512 → (cnt m = 0 → m ∈ msk0) ∧ (cnt m = 1 → m ∈ msk1) ∧ (cnt m = 2 → m ∈ msk2) ∧ (cnt m = 3 → m ∈ msk3) := by decide +kernel
theorem hasF_le : ∀ m, m < 512 → ∀ d, d < 2 → hasF d m < 2 := by
  intro m _ d _
  exact Nat.mod_lt _ (by decide)
theorem rnF_use {T d l mv f s : Nat} {A B : List Nat} {P : Nat → Nat → Bool} (h : A.all (fun f => B.all (fun s => (f &&& s != 0) || (hasF d (sid f s mv) == 1) || P f s)) = true) (hf : f ∈ A) (hs : s ∈ B) (hb : bok f s mv) (hd : d < 2) (hl : hasL d (sid f s mv) = false) : P f s = true := by
  have h1 := List.all_eq_true.mp (List.all_eq_true.mp h f hf) s hs
  simp only [Bool.or_eq_true, bne_iff_ne, ne_eq, beq_iff_eq] at h1
  rcases h1 with (h1 | h1) | h1
  · exact absurd hb.2.2.1 h1
  · have : sid f s mv < 512 := meB_lt (b := (f, s, mv)) hb
    rw [hasF_eq _ this d hd, hl] at h1
    cases h1
  · exact h1
/-- every legal board is among those that are run through -/
theorem all_use {d : Nat} {R : Nat → List Nat → List Nat → Bool} {P : Nat → Nat → Nat → Bool} (hR : ∀ mv A B, R mv A B = A.all (fun f => B.all (fun s => (f &&& s != 0) || (hasF d (sid f s mv) == 1) || P mv f s))) (h : (R 0 msk0 msk0 && (R 0 msk1 msk1 && (R 0 msk2 msk2 && (R 1 msk1 msk0 && (R 1 msk2 msk1 && (R 1 msk3 msk2 && (R 0 msk3 msk3 && R 1 msk3 msk3))))))) = true) {f s mv : Nat} (hd : d < 2) (hb : bok f s mv) (hg : legal d f s mv = true) : P mv f s = true := by
  simp only [Bool.and_eq_true] at h
  obtain ⟨h0, h1, h2, h3, h4, h5, h6, h7⟩ := h
  unfold legal at hg
  simp only [Bool.and_eq_true, Bool.or_eq_true, decide_eq_true_eq, Bool.not_eq_true'] at hg
  obtain ⟨hg, hl⟩ := hg
  have mf := msk_mem f hb.1
  have ms := msk_mem s hb.2.1
  have hmv := hb.2.2.2
  rw [hR] at h0 h1 h2 h3 h4 h5 h6 h7
  rcases hg with (hg | hg) | hg
  · obtain ⟨e1, e2, rfl⟩ := hg
    rcases (show cnt f = 0 ∨ cnt f = 1 ∨ cnt f = 2 by omega) with e | e | e
    · exact rnF_use (T := 0) (l := 0) h0 (mf.1 e) (ms.1 (by omega)) hb hd hl
    · exact rnF_use (T := 0) (l := 0) h1 (mf.2.1 e) (ms.2.1 (by omega)) hb hd hl
    · exact rnF_use (T := 0) (l := 0) h2 (mf.2.2.1 e) (ms.2.2.1 (by omega)) hb hd hl
  · obtain ⟨e1, e2, rfl⟩ := hg
    rcases (show cnt f = 1 ∨ cnt f = 2 ∨ cnt f = 3 by omega) with e | e | e
    · exact rnF_use (T := 0) (l := 0) h3 (mf.2.1 e) (ms.1 (by omega)) hb hd hl
    · exact rnF_use (T := 0) (l := 0) h4 (mf.2.2.1 e) (ms.2.1 (by omega)) hb hd hl
    · exact rnF_use (T := 0) (l := 0) h5 (mf.2.2.2 e) (ms.2.2.1 (by omega)) hb hd hl
  · rcases (show mv = 0 ∨ mv = 1 by omega) with rfl | rfl
    · exact rnF_use (T := 0) (l := 0) h6 (mf.2.2.2 hg.1) (ms.2.2.2 hg.2) hb hd hl
    · exact rnF_use (T := 0) (l := 0) h7 (mf.2.2.2 hg.1) (ms.2.2.2 hg.2) hb hd hl
theorem vnF_eq {T : Nat} {b : Bd} {q : Nat} (hb : bokB b) (hk : okm (meB b) (otB b) q) : vnF T b.1 b.2.1 b.2.2 q = vlF T (codB (nxb b q)) := by
  have h := nxb_bok hb hk
  obtain ⟨f, s, mv⟩ := b
  have hmv := hb.2.2.2
  rcases (show mv = 0 ∨ mv = 1 by have : mv < 2 := hmv; omega) with rfl | rfl
  · show vlF T (codF (app f q) s 1) = vlF T (cod (app f q) s 1)
    rw [codF_eq (f := app f q) (s := s) h.1 h.2.1]
  · show vlF T (codF f (app s q) 0) = vlF T (cod f (app s q) 0)
    rw [codF_eq (f := f) (s := app s q) h.1 h.2.1]
theorem al_ok {d l : Nat} (hd : d < 2) (hl : l < 2) : alF d l = true := by
  rcases (show d = 0 ∨ d = 1 by omega) with rfl | rfl <;> rcases (show l = 0 ∨ l = 1 by omega) with rfl | rfl
  · exact al_00
  · exact al_01
  · exact al_10
  · exact al_11
theorem ap_ok {d l : Nat} (hd : d < 2) (hl : l < 2) : apF d l = true := by
  rcases (show d = 0 ∨ d = 1 by omega) with rfl | rfl <;> rcases (show l = 0 ∨ l = 1 by omega) with rfl | rfl
  · exact ap_00
  · exact ap_01
  · exact ap_10
  · exact ap_11
/-- THE CERTIFICATE: on every legal board the table's worth fits those behind the moves -/
theorem cert {d l : Nat} {b : Bd} (hd : d < 2) (hl : l < 2) (hb : bokB b) (hg : legB d b = true) : certP (wrb d l b) ((mvl d l b).map (fun q => wrb d l (nxb b q))) := by
  have h1 := all_use (R := fun mv A B => rnF (tabw d l) d l mv A B) (P := fun mv f s => chF (tabw d l) d l f s mv) (fun mv A B => rfl) (al_ok hd hl) hd hb hg
  have h2 := okF_cert h1
  rw [List.map_map, codF_eq hb.1 hb.2.1, mvF_eq hd (show sid b.1 b.2.1 b.2.2 < 512 from meB_lt hb) (show sid b.1 b.2.1 (1 - b.2.2) < 512 from otB_lt hb)] at h2
  have e : (mvl d l b).map (fun q => wrb d l (nxb b q)) = (lookL d l (sid b.1 b.2.1 b.2.2) (sid b.1 b.2.1 (1 - b.2.2))).map ((fun u : Nat => (u : Int) - 16) ∘ vnF (tabw d l) b.1 b.2.1 b.2.2) := by
    apply List.map_congr_left
    intro q hq
    show _ = ((vnF (tabw d l) b.1 b.2.1 b.2.2 q : Nat) : Int) - 16
    rw [vnF_eq hb (isMv_okm (mem_mvl.mp hq).2)]
    rfl
  rw [e]
  exact h2
def lev (w : Int) : Int := if 0 < w then w else -1 - w
/-- what is known after n levels -/
def clp (n : Int) (w : Int) : Int := if w ≠ 0 ∧ lev w ≤ n then w else 0
theorem lev_p {w : Int} (h : 0 < w) : lev w = w := if_pos h
theorem lev_m {w : Int} (h : ¬ 0 < w) : lev w = -1 - w := if_neg h
theorem clp_y {n w : Int} (h : w ≠ 0) (h2 : lev w ≤ n) : clp n w = w := if_pos ⟨h, h2⟩
theorem clp_n {n w : Int} (h : ¬ (w ≠ 0 ∧ lev w ≤ n)) : clp n w = 0 := if_neg h
theorem clp_or (n w : Int) : (clp n w = w ∧ w ≠ 0 ∧ lev w ≤ n) ∨ (clp n w = 0 ∧ ¬ (w ≠ 0 ∧ lev w ≤ n)) := by
  by_cases h : w ≠ 0 ∧ lev w ≤ n
  · exact Or.inl ⟨if_pos h, h⟩
  · exact Or.inr ⟨if_neg h, h⟩
theorem clp_judge {w : Int} {us : List Int} {n : Int} (h : certP w us) (hn : 1 ≤ n) (h0 : clp (n - 1) w = 0) :
    us ≠ [] ∧ ((∃ u ∈ us, clp (n - 1) u = -n) → clp n w = n) ∧ ((¬ ∃ u ∈ us, clp (n - 1) u = -n) → (∀ u ∈ us, 0 < clp (n - 1) u ∧ clp (n - 1) u < n) → clp n w = -1 - n) ∧ ((¬ ∃ u ∈ us, clp (n - 1) u = -n) → (¬ ∀ u ∈ us, 0 < clp (n - 1) u ∧ clp (n - 1) u < n) → clp n w = 0) := by
  have hw : w = 0 ∨ n ≤ lev w := by
    rcases clp_or (n - 1) w with h1 | h1
    · exact absurd (h1.1.symm.trans h0) h1.2.1
    · by_cases e : w = 0
      · exact Or.inl e
      · right
        have : ¬ lev w ≤ n - 1 := fun z => h1.2 ⟨e, z⟩
        omega
  have cneg : ∀ u : Int, clp (n - 1) u = -n ↔ u = -n := by
    intro u
    constructor
    · intro h
      rcases clp_or (n - 1) u with h1 | h1
      · rw [← h1.1]; exact h
      · omega
    · intro h
      subst h
      exact clp_y (by omega) (by rw [lev_m (by omega)]; omega)
  have cpos : ∀ u : Int, (0 < clp (n - 1) u ∧ clp (n - 1) u < n) ↔ (0 < u ∧ u < n) := by
    intro u
    constructor
    · intro h
      rcases clp_or (n - 1) u with h1 | h1
      · rw [← h1.1]; exact h
      · omega
    · intro h
      rw [clp_y (by omega) (by rw [lev_p h.1]; omega)]
      exact h
  simp only [cneg, cpos]
  rcases h with ⟨rfl, rfl⟩ | ⟨hne, h⟩
  · rw [lev_m (by omega)] at hw
    omega
  · refine ⟨hne, ?_, ?_, ?_⟩
    · rintro ⟨u, hu, rfl⟩
      rcases h with ⟨h1, h2, h3, h4, h5⟩ | ⟨h1, h2, h3⟩ | ⟨h1, h2, h3, h4⟩
      · have := h4 _ hu; omega
      · have := h2 _ hu; omega
      · have := h3 _ hu (by omega)
        rw [lev_p h1] at hw
        obtain rfl : w = n := by omega
        exact clp_y (by omega) (by rw [lev_p h1]; omega)
    · intro hno hall
      rcases h with ⟨h1, h2, h3, h4, h5⟩ | ⟨h1, h2, h3⟩ | ⟨h1, h2, h3, h4⟩
      · have := hall _ h5
        rw [lev_m (by omega)] at hw
        obtain rfl : w = -1 - n := by omega
        exact clp_y (by omega) (by rw [lev_m (by omega)]; omega)
      · have := hall _ h3; omega
      · have := hall _ h4; omega
    · intro hno hnall
      rcases clp_or n w with hc | hc
      · exfalso
        rcases h with ⟨h1, h2, h3, h4, h5⟩ | ⟨h1, h2, h3⟩ | ⟨h1, h2, h3, h4⟩
        · rw [lev_m (by omega)] at hw hc
          apply hnall
          intro u hu
          have := h4 u hu
          omega
        · exact hc.2.1 h1
        · rw [lev_p h1] at hw hc
          apply hno
          exact ⟨_, h4, by omega⟩
      · exact hc.1
/-- is there a legal board that is found in level n -/
def atL (d l : Nat) (n : Int) : Prop := ∃ b : Bd, bokB b ∧ legB d b = true ∧ wrb d l b ≠ 0 ∧ lev (wrb d l b) = n
theorem atL_down {d l : Nat} (hd : d < 2) (hl : l < 2) {n : Int} (hn : 0 ≤ n) (h : atL d l (n + 1)) : atL d l n := by
  obtain ⟨b, hb, hg, h0, hv⟩ := h
  have hc := cert hd hl hb hg
  have key : ∀ u : Int, u ∈ (mvl d l b).map (fun q => wrb d l (nxb b q)) → u ≠ 0 → lev u = n → atL d l n := by
    intro u hu h1 h2
    obtain ⟨q, hq, rfl⟩ := List.mem_map.mp hu
    exact ⟨nxb b q, nxb_bok hb (isMv_okm (mem_mvl.mp hq).2), nxb_legal hb hg hq, h1, h2⟩
  generalize wrb d l b = w at *
  rcases hc with ⟨h1, h2⟩ | ⟨hne, ⟨h1, h2, h3, h4, h5⟩ | ⟨h1, h2, h3⟩ | ⟨h1, h2, h3, h4⟩⟩
  · subst h2
    rw [lev_m (by omega)] at hv
    omega
  · rw [lev_m (by omega)] at hv
    exact key _ h5 (by omega) (by rw [lev_p (by omega)]; omega)
  · omega
  · rw [lev_p h1] at hv
    exact key _ h4 (by omega) (by rw [lev_m (by omega)]; omega)
theorem lev_nn {d l : Nat} (hd : d < 2) (hl : l < 2) {b : Bd} (hb : bokB b) (hg : legB d b = true) (h0 : wrb d l b ≠ 0) : 0 ≤ lev (wrb d l b) ∧ lev (wrb d l b) ≤ 10 ∧ -11 ≤ wrb d l b ∧ wrb d l b ≤ 10 := by
  have hc := cert hd hl hb hg
  generalize wrb d l b = w at *
  rcases hc with ⟨h1, h2⟩ | ⟨hne, ⟨h1, h2, h3, h4, h5⟩ | ⟨h1, h2, h3⟩ | ⟨h1, h2, h3, h4⟩⟩
  · subst h2; rw [lev_m (by omega)]; omega
  · rw [lev_m (by omega)]; omega
  · omega
  · rw [lev_p h1]; omega
/-- where a level finds nothing, all is known -/
theorem clp_done {d l : Nat} (hd : d < 2) (hl : l < 2) {n : Int} (hn : 1 ≤ n) (h : ¬ atL d l n) {b : Bd} (hb : bokB b) (hg : legB d b = true) : clp (n - 1) (wrb d l b) = wrb d l b := by
  have up : ∀ k : Nat, ¬ atL d l (n + k) := by
    intro k
    induction k with
    | zero => simpa using h
    | succ k ih =>
      intro h2
      apply ih
      apply atL_down hd hl (by omega)
      rw [show n + (k : Int) + 1 = n + ((k + 1 : Nat) : Int) by omega]
      exact h2
  unfold clp
  split
  · rfl
  · rename_i hc
    by_cases h0 : wrb d l b = 0
    · exact h0.symm
    · exfalso
      have h1 : n ≤ lev (wrb d l b) := by
        have : ¬ lev (wrb d l b) ≤ n - 1 := fun z => hc ⟨h0, z⟩
        omega
      exact up (lev (wrb d l b) - n).toNat ⟨b, hb, hg, h0, by omega⟩
