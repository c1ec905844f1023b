/-! PROOFS of the wp predicates, group B -/
theorem mid_use {n w : Int} {v : Int32} (h : mid n w v) (hn : 1 ≤ n) (hn2 : n ≤ 11) (h1 : -11 ≤ w) (h2 : w ≤ 10) : (v = iI (-n) ↔ clp (n - 1) w = -n) ∧ ((0 < v ∧ v < iI n) ↔ (0 < clp (n - 1) w ∧ clp (n - 1) w < n)) := by
  have hr := clp_rng (n := n - 1) h1 h2
  rcases h with rfl | ⟨g1, g2, rfl⟩
  · unfold enc
    split
    · rename_i e
      rw [e, show (1000 : Int32) = iI 1000 from rfl, show (0 : Int32) = iI 0 from rfl, iI_eq, iI_lt, iI_lt]
      omega
    · rw [show (0 : Int32) = iI 0 from rfl, iI_eq, iI_lt, iI_lt]
      exact ⟨Iff.rfl, Iff.rfl⟩
  · have e : clp (n - 1) w = 0 := clp_n (fun z => by omega)
    rw [e, show (0 : Int32) = iI 0 from rfl]
    unfold mrk
    split
    · rw [iI_eq, iI_lt, iI_lt]; omega
    · rw [iI_eq, iI_lt, iI_lt]; omega
theorem lst_frm {as fs : List Nat} {st st1 : MS} {L : List Nat} (h : frm as fs st st1) (h8 : 8 ∉ as) (h4 : 4 ∉ fs) (hl : lst st L) : lst st1 L := ⟨by rw [h.2 4 h4]; exact hl.1, fun j hj => by rw [h.1 8 h8]; exact hl.2 j hj⟩
theorem lvOK_frm {as fs : List Nat} {st st1 : MS} {d l k : Nat} {n : Int} (h : frm as fs st st1) (h9 : 9 ∉ as) (hl : lvOK st d l k n) : lvOK st1 d l k n := fun b h1 h2 => by rw [h.1 9 h9]; exact hl b h1 h2
theorem mvl_len {d l : Nat} (hd : d < 2) (b : Bd) : (mvl d l b).length ≤ 33 := by
  unfold mvl lookL
  by_cases hc : cnt (meB b) < 3
  · have : (List.range 91).filter (isMv d l (meB b) (otB b)) = (List.range 9).filter (isMv d l (meB b) (otB b)) := flt_same (by omega) (fun q h1 h2 => by unfold isMv; simp only [hc, if_true]; simp; omega)
    rw [this]
    exact Nat.le_trans (List.length_filter_le _ _) (by simp)
  · rw [flt_succ, List.length_append]
    have := sl_len (l := l) (ot := otB b) hd hc (Nat.le_refl 90)
    have h2 : (if isMv d l (meB b) (otB b) 90 then [90] else []).length ≤ 1 := by split <;> simp
    omega
theorem mem_getD {L : List Nat} {j : Nat} (h : j < L.length) : L.getD j 0 ∈ L := by
  rw [List.getD_eq_getElem?_getD, List.getElem?_eq_getElem h]
  exact List.getElem_mem h
theorem vcX3_found (x1 x2 x3 : Int32) (st : MS) (hp : pX3_found x1 x2 x3 st) : wX3_found_0 (qX3_found x1 x2 x3 st) x1 x2 x3 st := by
  obtain ⟨d, l, k, n, b, hA⟩ := hp
  have hA' := hA
  obtain ⟨hs, hk, rfl, hb, rfl, hg, rfl, hn1, hn2, hcl, hlv⟩ := hA
  have hd := hs.2.2.1
  have hl := hs.2.2.2
  have key : ∀ r st1, frm [7, 8] [3, 4] st st1 → r = enc (clp n (wrb d l b)) → qX3_found (nI (39366 * k)) (nI (codB b)) (nI n) st r st1 := by
    intro r st1 hf e
    refine ⟨hf, fun d' l' k' n' b' h' => ?_⟩
    obtain ⟨hs', hk', e1, hb', e2, hg', e3, hn1', hn2', -, -⟩ := h'
    obtain ⟨rfl, rfl⟩ := sett_inj hs hs'
    have c1 := codB_lt hb
    have c2 := codB_lt hb'
    have e2' : codB b = codB b' := nI_inj e2
    have e3' : n = n' := nI_inj e3
    obtain ⟨i1, i2, i3⟩ := cod_inj hb hb' e2'
    have : b = b' := Prod.ext i1 (Prod.ext i2 i3)
    subst this
    subst e3'
    exact e
  have hj := clp_judge (cert hd hl hb hg) (show (1 : Int) ≤ n by omega) hcl
  obtain ⟨hne, jw, jl, jo⟩ := hj
  have hlen := mvl_len (l := l) hd b
  unfold wX3_found_0
  refine ⟨⟨b.1, b.2.1, b.2.2, hb, rfl⟩, fun st1 h1 => ?_⟩
  have ho1 : opn st1 b.1 b.2.1 b.2.2 := h1.2 _ _ _ hb rfl
  have hs1 := sett_frm h1.1 (by simp) hs
  refine ⟨⟨⟨_, _, _, ho1⟩, d, l, hs1⟩, fun st2 h2 => ?_⟩
  have hls2 : lst st2 (mvl d l b) := h2.2 _ _ _ _ _ ho1 hs1
  have ho2 := opn_frm h2.1 (by simp) (by simp) ho1
  have hf2 : frm [7, 8] [3, 4] st st2 := (h1.1.mono (by simp) (by simp)).trans (h2.1.mono (by simp) (by simp))
  generalize hL : mvl d l b = L at *
  have hmem : ∀ q ∈ L, okm (meB b) (otB b) q ∧ bokB (nxb b q) ∧ legB d (nxb b q) = true := by
    intro q hq
    rw [← hL] at hq
    have h3 := isMv_okm (mem_mvl.mp hq).2
    exact ⟨h3, nxb_bok hb h3, nxb_legal hb hg hq⟩
  unfold wX3_found_15
  refine wloop_up L.length (fun j v => j ≤ L.length ∧ ∃ (al : Bool) (s3 : MS), v = (nI (39366 * k), nI n, b2 al, nI j, s3) ∧ frm [7, 8] [3, 4] st s3 ∧ opn s3 b.1 b.2.1 b.2.2 ∧ lst s3 L ∧ (∀ i, i < j → ¬ clp ((n : Int) - 1) (wrb d l (nxb b (L.getD i 0))) = -n) ∧ (al = true ↔ ∀ i, i < j → 0 < clp ((n : Int) - 1) (wrb d l (nxb b (L.getD i 0))) ∧ clp ((n : Int) - 1) (wrb d l (nxb b (L.getD i 0))) < n)) 0 ⟨by omega, true, st2, rfl, hf2, ho2, hls2, fun i hi => by omega, by simp⟩ ?_
  rintro j v Lp ⟨hj, al, s3, rfl, hf3, ho3, hls3, hno, hal⟩ hLp
  dsimp only
  unfold wX3_found_15_b wX3_found_82 wX3_found_24
  rw [hls3.1]
  have allmem : ∀ u, u ∈ L.map (fun q => wrb d l (nxb b q)) ↔ ∃ i, i < L.length ∧ u = wrb d l (nxb b (L.getD i 0)) := by
    intro u
    rw [List.mem_map]
    constructor
    · rintro ⟨q, hq, rfl⟩
      obtain ⟨i, hi, rfl⟩ := List.getElem_of_mem hq
      exact ⟨i, hi, by rw [List.getD_eq_getElem?_getD, List.getElem?_eq_getElem hi]; rfl⟩
    · rintro ⟨i, hi, rfl⟩
      exact ⟨_, mem_getD hi, rfl⟩
  refine ⟨fun hc => ?_, fun hc => ?_⟩
  · have hjl : L.length ≤ j := nle_of hc
    obtain rfl : j = L.length := by omega
    have hno' : ¬ ∃ u ∈ L.map (fun q => wrb d l (nxb b q)), clp ((n : Int) - 1) u = -n := by
      rintro ⟨u, hu, e⟩
      obtain ⟨i, hi, rfl⟩ := (allmem u).mp hu
      exact hno i hi e
    unfold wX3_found_93 wX3_found_87 wX3_found_96
    refine ⟨fun h4 => key _ _ hf3 ?_, fun h4 => key _ _ hf3 ?_⟩
    · have h5 := b2_0.mp h4
      rw [jo hno' (fun hall => ?_)]
      · rfl
      · have : al = true := hal.mpr (fun i hi => hall _ ((allmem _).mpr ⟨i, hi, rfl⟩))
        rw [this] at h5
        cases h5
    · have h5 := hal.mp (b2_n0.mp h4)
      rw [jl hno' (fun u hu => ?_)]
      · unfold enc
        rw [if_neg (by omega), show (-1 : Int32) = iI (-1) from rfl, iI_nI, iI_sub]
      · obtain ⟨i, hi, rfl⟩ := (allmem u).mp hu
        exact h5 i hi
  · have hjl : j < L.length := nlt_of hc
    have hq := mem_getD hjl
    have hmq := hmem _ hq
    have hq90 := okm_le hmq.1
    have hcb := codB_lt hmq.2.1
    rw [nI_clamp (by omega), hls3.2 j hjl]
    refine ⟨vin (by omega), ⟨b.1, b.2.1, b.2.2, _, ho3, rfl, hmq.1⟩, fun r1 s4 h4 => ?_⟩
    obtain ⟨h4f, h4q⟩ := h4
    obtain ⟨ho4, -, e4⟩ := h4q b.1 b.2.1 b.2.2 _ ho3 rfl hmq.1
    have e4 : r1 = nI (codB (nxb b (L.getD j 0))) := e4
    subst e4
    have hf4 : frm [7, 8] [3, 4] st s4 := hf3.trans (h4f.mono (by simp) (by simp))
    have hls4 : lst s4 L := lst_frm h4f (by simp) (by simp) hls3
    rw [nI_add, nI_clamp (by omega)]
    have hm := lvOK_frm hf4 (by simp) hlv _ hmq.2.1 hmq.2.2
    have hrg := wrb_rng hd hl hmq.2.1 hmq.2.2
    obtain ⟨u1, u2⟩ := mid_use hm (by omega) (by omega) hrg.1 hrg.2
    generalize s4.1 9 (39366 * k + codB (nxb b (L.getD j 0))) = vv at *
    rw [show iI (-(n : Int)) = -nI n by rw [iI_nI, iI_neg]] at u1
    rw [← iI_nI] at u2
    refine ⟨vin (by omega), fun h5 => ?_, fun h5 => ?_⟩
    · rw [u1] at h5
      unfold wX3_found_53 wX3_found_58 wX3_found_63 wX3_found_73 wX3_found_69 wX3_found_74
      have nx : ∀ al' : Bool, (al' = true ↔ (al = true ∧ (0 < vv ∧ vv < nI n))) → Lp (nI (39366 * k), nI n, b2 al', nI j + (1 : Int32), s4) := by
        intro al' hal'
        refine hLp _ hjl ⟨by omega, al', s4, by rw [nI_1], hf4, ho4, hls4, ?_, ?_⟩
        · intro i hi
          rcases (show i = j ∨ i < j by omega) with rfl | q
          · exact h5
          · exact hno i q
        · rw [hal', hal, u2]
          constructor
          · rintro ⟨g1, g2⟩ i hi
            rcases (show i = j ∨ i < j by omega) with rfl | q
            · exact g2
            · exact g1 i q
          · intro g
            exact ⟨fun i hi => g i (by omega), g j (by omega)⟩
      refine ⟨fun h6 => nx false ?_, fun h6 => ⟨fun h7 => nx false ?_, fun h7 => ⟨fun h8 => nx false ?_, fun h8 => nx true ?_⟩⟩⟩
      · rw [b2_0.mp h6]; simp
      · simp only [Bool.false_eq_true, false_iff]
        rintro ⟨-, z, -⟩
        exact (Int32.not_lt.mpr h7) z
      · simp only [Bool.false_eq_true, false_iff]
        rintro ⟨-, -, z⟩
        exact (Int32.not_lt.mpr h8) z
      · simp only [true_iff]
        exact ⟨b2_n0.mp h6, Int32.not_le.mp h7, Int32.not_le.mp h8⟩
    · rw [u1] at h5
      unfold wX3_found_51
      refine key _ _ hf4 ?_
      rw [jw ⟨_, (allmem _).mpr ⟨j, hjl, rfl⟩, h5⟩]
      unfold enc
      rw [if_neg (by omega), iI_nI]
theorem cE_0 {d l : Nat} (hd : d < 2) (hl : l < 2) {b : Bd} (hb : bokB b) (hg : legB d b = true) : cE d l 0 (codB b) = if mvl d l b = [] then (-1 : Int32) else 1000 := by
  unfold cE
  rw [bOf_cod hb, if_pos hg]
  have hc := cert hd hl hb hg
  have hnil : (mvl d l b).map (fun q => wrb d l (nxb b q)) = [] ↔ mvl d l b = [] := List.map_eq_nil_iff
  generalize wrb d l b = w at *
  rcases hc with ⟨h1, h2⟩ | ⟨hne, h⟩
  · rw [if_pos (hnil.mp h1), h2, clp_y (by decide) (by decide)]
    rfl
  · rw [if_neg (fun z => hne (hnil.mpr z)), clp_n]
    · rfl
    · rintro ⟨h3, h4⟩
      rcases h with ⟨h1, h2, h3, h4', h5⟩ | ⟨h1, h2, h3⟩ | ⟨h1, h2, h3, h4'⟩
      · rw [lev_m (by omega)] at h4; omega
      · omega
      · rw [lev_p h1] at h4; omega
theorem enc_ne {w : Int} (h : w ≠ 0) : enc w = iI w := if_neg h
theorem vcX3_make (x1 : Int32) (st : MS) (hp : pX3_make x1 st) : wX3_make_0 (qX3_make x1 st) x1 st := by
  obtain ⟨d, l, hs, rfl⟩ := hp
  have hd := hs.2.2.1
  have hl := hs.2.2.2
  obtain ⟨k, hk⟩ : ∃ k, k = 2 * d + l := ⟨_, rfl⟩
  have hk4 : k < 4 := by omega
  -- the last loop
  have last : ∀ st1, frm [7, 8, 9] [3, 4] st st1 → seg (st.1 9) (st1.1 9) (39366 * k) 0 (finC d l) (fun c => if legB d (bOf c) = true then enc (wrb d l (bOf c)) else 2000) → wX3_make_226 (qX3_make (nI (39366 * (2 * d + l))) st) (nI (39366 * k)) st1 := by
    intro st1 hf1 hg1
    unfold wX3_make_226 wX3_make_228
    refine wloop_up 39366 (fun j v => j ≤ 39366 ∧ ∃ s2, v = (nI (39366 * k), nI (39366 * k + j), s2) ∧ frm [7, 8, 9] [3, 4] st s2 ∧ seg (st.1 9) (s2.1 9) (39366 * k) j (finC d l) (fun c => if legB d (bOf c) = true then enc (wrb d l (bOf c)) else 2000)) 0 ⟨by omega, st1, rfl, hf1, hg1⟩ ?_
    rintro j v L ⟨hj, s2, rfl, hf2, hg2⟩ hL
    dsimp only
    unfold wX3_make_228_b wX3_make_270 wX3_make_236 wX3_make_253 wX3_make_257 wX3_make_263
    rw [show (39366 : Int32) = nI 39366 from rfl, nI_add, show nI (39366 * k + j) + (1 : Int32) = nI (39366 * k + (j + 1)) from nI_1 _, nI_clamp (n := 39366 * k + j) (by omega)]
    refine ⟨fun hc => ?_, fun hc => ?_⟩
    · have : 39366 * k + 39366 ≤ 39366 * k + j := nle_of hc
      obtain rfl : j = 39366 := by omega
      refine ⟨hf2, fun d' l' hs' _ => ?_⟩
      obtain ⟨rfl, rfl⟩ := sett_inj hs hs'
      rw [← hk]
      exact ⟨hg2.1, hg2.2.2⟩
    · have hj2 : j < 39366 := by
        have : 39366 * k + j < 39366 * k + 39366 := nlt_of hc
        omega
      have hv := hg2.2.1 j (Nat.le_refl _) hj2
      dsimp only at hv
      have hbo := bOf_ok hj2
      have h10 : s2.1 9 (39366 * k + j) = 1000 → finC d l j = 0 := by
        intro e
        rw [hv] at e
        unfold finC
        split at e
        · rename_i hg
          rw [if_pos hg]
          have hr := wrb_rng hd hl hbo.1 hg
          rw [enc_1000 hr.1 hr.2] at e
          rw [e]; rfl
        · exact absurd e (by decide)
      have h11 : ¬ s2.1 9 (39366 * k + j) = 1000 → s2.1 9 (39366 * k + j) = finC d l j := by
        intro e
        rw [hv] at e ⊢
        unfold finC
        split at e
        · rename_i hg
          have hr := wrb_rng hd hl hbo.1 hg
          rw [enc_1000 hr.1 hr.2] at e
          rw [if_pos hg, if_pos hg, enc_ne e]
        · rename_i hg
          rw [if_neg hg, if_neg hg]
      refine ⟨vin (by omega), fun h3 => ⟨vin (by omega), vin (by omega), hL _ hj2 ⟨by omega, _, rfl, frm_A hf2 (by simp), ?_⟩⟩, fun h3 => ⟨vin (by omega), hL _ hj2 ⟨by omega, _, rfl, frm_A hf2 (by simp), ?_⟩⟩⟩
      · rw [mA_self]; exact seg_put hg2 hj2 (h11 h3)
      · rw [mA_self]; exact seg_put hg2 hj2 (h10 h3).symm
  -- the rounds
  have rounds : ∀ st1, frm [7, 8, 9] [3, 4] st st1 → seg (st.1 9) (st1.1 9) (39366 * k) 39366 (cE d l 0) (cE d l 0) → wX3_make_60 (qX3_make (nI (39366 * (2 * d + l))) st) (nI (39366 * k)) st1 := by
    intro st1 hf1 hg1
    unfold wX3_make_60 wX3_make_64
    refine wloop_up 12 (fun n v => 1 ≤ n ∧ ∃ (go : Bool) (s2 : MS), v = (nI (39366 * k), b2 go, nI n, s2) ∧ frm [7, 8, 9] [3, 4] st s2 ∧ seg (st.1 9) (s2.1 9) (39366 * k) 39366 (cE d l ((n : Int) - 1)) (cE d l 0) ∧ (go = true → n ≤ 11) ∧ (go = false → ∀ b, bokB b → legB d b = true → clp ((n : Int) - 1) (wrb d l b) = wrb d l b)) 1 ⟨by omega, true, st1, rfl, hf1, (by rw [show ((1 : Nat) : Int) - 1 = 0 by decide]; exact hg1), (fun _ => by omega), (fun h => by cases h)⟩ ?_
    rintro n v L ⟨hn1, go, s2, rfl, hf2, hg2, hgo1, hgo2⟩ hL
    dsimp only
    unfold wX3_make_64_b
    refine ⟨fun hc => ?_, fun hc => ?_⟩
    · have hgo := hgo2 (b2_0.mp hc)
      refine last s2 hf2 ⟨fun c hc => by omega, fun c _ hc => ?_, hg2.2.2⟩
      rw [hg2.1 c hc]
      unfold cE
      have hbo := bOf_ok hc
      dsimp only
      split
      · rename_i hg
        rw [hgo _ hbo.1 hg]
      · rfl
    · have hn2 := hgo1 (b2_n0.mp hc)
      unfold wX3_make_68 wX3_make_73
      refine wloop_up 39366 (fun j v => j ≤ 39366 ∧ ∃ (fl : Bool) (s3 : MS), v = (nI (39366 * k), b2 fl, nI n, nI j, s3) ∧ frm [7, 8, 9] [3, 4] st s3 ∧ seg (st.1 9) (s3.1 9) (39366 * k) j (cM d l n) (cE d l ((n : Int) - 1)) ∧ (fl = true → atL d l n) ∧ (fl = false → ∀ c, c < j → legB d (bOf c) = true → ¬ (wrb d l (bOf c) ≠ 0 ∧ lev (wrb d l (bOf c)) = n))) 0 ⟨by omega, false, s2, rfl, hf2, ⟨fun c hc => by omega, fun c _ hc => hg2.1 c hc, hg2.2.2⟩, (fun h => by cases h), (fun _ c hc => by omega)⟩ ?_
      rintro j v L3 ⟨hj, fl, s3, rfl, hf3, hg3, hfl1, hfl2⟩ hL3
      dsimp only
      unfold wX3_make_73_b
      refine ⟨fun hc3 => ?_, fun hc3 => ?_⟩
      · have : 39366 ≤ j := nle_of (a := 39366) hc3
        obtain rfl : j = 39366 := by omega
        unfold wX3_make_153 wX3_make_156
        refine wloop_up 39366 (fun i v => i ≤ 39366 ∧ ∃ s4, v = (nI (39366 * k), b2 fl, nI n, nI (39366 * k + i), s4) ∧ frm [7, 8, 9] [3, 4] st s4 ∧ seg (st.1 9) (s4.1 9) (39366 * k) i (cE d l n) (cM d l n)) 0 ⟨by omega, s3, rfl, hf3, seg_start hg3⟩ ?_
        rintro i v L4 ⟨hi, s4, rfl, hf4, hg4⟩ hL4
        dsimp only
        unfold wX3_make_156_b wX3_make_220 wX3_make_165 wX3_make_186 wX3_make_192 wX3_make_205 wX3_make_211 wX3_make_212
        rw [show (39366 : Int32) = nI 39366 from rfl, nI_add, show nI (39366 * k + i) + (1 : Int32) = nI (39366 * k + (i + 1)) from nI_1 _, nI_clamp (n := 39366 * k + i) (by omega), show nI n + (1 : Int32) = nI (n + 1) from nI_1 _]
        refine ⟨fun hc4 => ?_, fun hc4 => ?_⟩
        · have : 39366 * k + 39366 ≤ 39366 * k + i := nle_of hc4
          obtain rfl : i = 39366 := by omega
          refine hL _ (by omega) ⟨by omega, fl, s4, rfl, hf4, ⟨fun c hc => ?_, fun c h1 h2 => by omega, hg4.2.2⟩, fun h => ?_, fun h b hb hg => ?_⟩
          · rw [hg4.1 c hc, show ((n + 1 : Nat) : Int) - 1 = n by omega]
          · obtain ⟨b, hb, hg, h0, hv⟩ := hfl1 h
            have := lev_nn hd hl hb hg h0
            omega
          · have hno : ¬ atL d l n := by
              rintro ⟨b', hb', hg', h0', hv'⟩
              have := hfl2 h (codB b') (codB_lt hb')
              rw [bOf_cod hb'] at this
              exact this hg' ⟨h0', hv'⟩
            have h1 := clp_done hd hl (n := n) (by omega) hno hb hg
            rw [show ((n + 1 : Nat) : Int) - 1 = n by omega]
            rcases clp_or ((n : Int) - 1) (wrb d l b) with h2 | h2
            · exact clp_y h2.2.1 (by omega)
            · rw [h2.1] at h1
              rw [← h1]
              exact clp_n (fun z => z.1 rfl)
        · have hi2 : i < 39366 := by
            have : 39366 * k + i < 39366 * k + 39366 := nlt_of hc4
            omega
          have hv := hg4.2.1 i (Nat.le_refl _) hi2
          have hbo := bOf_ok hi2
          have st9 : ∀ w : Int32, w = cE d l n i → L4 (nI (39366 * k), b2 fl, nI n, nI (39366 * k + (i + 1)), mA s4 9 (39366 * k + i) w) := by
            intro w hw
            refine hL4 _ hi2 ⟨by omega, _, rfl, frm_A hf4 (by simp), ?_⟩
            rw [mA_self]
            exact seg_put hg4 hi2 hw
          have tri : (∃ w : Int, 5000 < w ∧ w < 20000 ∧ s4.1 9 (39366 * k + i) = iI w ∧ cE d l n i = iI (w - 10000)) ∨ (∃ w : Int, w < -5000 ∧ -20000 < w ∧ s4.1 9 (39366 * k + i) = iI w ∧ cE d l n i = iI (w + 10000)) ∨ (∃ w : Int, -5000 ≤ w ∧ w ≤ 5000 ∧ s4.1 9 (39366 * k + i) = iI w ∧ cE d l n i = iI w) := by
            rw [hv]
            unfold cM cE
            split
            · rename_i hg
              have hr := wrb_rng hd hl hbo.1 hg
              generalize wrb d l (bOf i) = w at *
              split
              · rename_i h0
                rw [clp_y h0.1 (by omega), enc_ne h0.1]
                unfold mrk
                split
                · exact Or.inl ⟨w + 10000, by omega, by omega, rfl, by congr 1; omega⟩
                · exact Or.inr (Or.inl ⟨w - 10000, by omega, by omega, rfl, by congr 1; omega⟩)
              · rename_i h0
                have e : clp n w = clp ((n : Int) - 1) w := by
                  rcases clp_or ((n : Int) - 1) w with h2 | h2
                  · rw [h2.1]; exact clp_y h2.2.1 (by omega)
                  · rw [h2.1]
                    apply clp_n
                    rintro ⟨z1, z2⟩
                    have : ¬ lev w = n := fun z => h0 ⟨z1, z⟩
                    exact h2.2 ⟨z1, by omega⟩
                rw [e]
                have hr2 := clp_rng (n := (n : Int) - 1) hr.1 hr.2
                right; right
                by_cases e0 : clp ((n : Int) - 1) w = 0
                · rw [e0]; exact ⟨1000, by omega, by omega, rfl, rfl⟩
                · rw [enc_ne e0]; exact ⟨_, by omega, by omega, rfl, rfl⟩
            · exact Or.inr (Or.inr ⟨2000, by omega, by omega, rfl, rfl⟩)
          refine ⟨vin (by omega), vin (by omega), fun h5 => ⟨vin (by omega), fun h6 => ⟨vin (by omega), st9 _ ?_⟩, fun h6 => ⟨vin (by omega), st9 _ ?_⟩⟩, fun h5 => ⟨vin (by omega), st9 _ ?_⟩⟩
          · rcases tri with ⟨w, h1, h2, h3, h4⟩ | ⟨w, h1, h2, h3, h4⟩ | ⟨w, h1, h2, h3, h4⟩
            · rw [h3, show (5000 : Int32) = iI 5000 from rfl, iI_le] at h5; omega
            · rw [h3, show (-5000 : Int32) = iI (-5000) from rfl, iI_le] at h6; omega
            · rw [h3, h4, show (0 : Int32) = iI 0 from rfl, iI_add]; congr 1; omega
          · rcases tri with ⟨w, h1, h2, h3, h4⟩ | ⟨w, h1, h2, h3, h4⟩ | ⟨w, h1, h2, h3, h4⟩
            · rw [h3, show (5000 : Int32) = iI 5000 from rfl, iI_le] at h5; omega
            · rw [h3, h4, show (10000 : Int32) = iI 10000 from rfl, iI_add]
            · rw [h3, show (-5000 : Int32) = iI (-5000) from rfl, iI_le] at h6; omega
          · rcases tri with ⟨w, h1, h2, h3, h4⟩ | ⟨w, h1, h2, h3, h4⟩ | ⟨w, h1, h2, h3, h4⟩
            · rw [h3, h4, show (-10000 : Int32) = iI (-10000) from rfl, iI_add]; congr 1
            · rw [h3, show (5000 : Int32) = iI 5000 from rfl, iI_le] at h5; omega
            · rw [h3, show (5000 : Int32) = iI 5000 from rfl, iI_le] at h5; omega
      · have hj2 : j < 39366 := nlt_of (a := 39366) hc3
        have hv := hg3.2.1 j (Nat.le_refl _) hj2
        have hbo := bOf_ok hj2
        unfold wX3_make_80 wX3_make_106 wX3_make_95 wX3_make_109 wX3_make_119 wX3_make_147 wX3_make_134 wX3_make_140 wX3_make_143 wX3_make_147
        rw [nI_add, nI_clamp (n := 39366 * k + j) (by omega), show nI j + (1 : Int32) = nI (j + 1) from nI_1 _]
        have skip : cE d l ((n : Int) - 1) j = cM d l n j → (legB d (bOf j) = true → ¬ (wrb d l (bOf j) ≠ 0 ∧ lev (wrb d l (bOf j)) = n)) → ∀ s4, frm [7, 8, 9] [3, 4] st s4 → s4.1 9 = s3.1 9 → L3 (nI (39366 * k), b2 fl, nI n, nI (j + 1), s4) := by
          intro e hno s4 hf4 e9
          refine hL3 _ hj2 ⟨by omega, fl, s4, rfl, hf4, by rw [e9]; exact seg_skip hg3 hj2 e, hfl1, fun h c hc hg => ?_⟩
          rcases (show c = j ∨ c < j by omega) with rfl | q
          · exact hno hg
          · exact hfl2 h c q hg
        refine ⟨vin (by omega), fun h5 => ⟨fun _ => ?_, fun h => absurd rfl h⟩, fun h5 => ?_⟩
        · -- known, or not legal
          rw [hv] at h5
          have hno : legB d (bOf j) = true → ¬ (wrb d l (bOf j) ≠ 0 ∧ lev (wrb d l (bOf j)) = n) := by
            intro hg h0
            apply h5
            unfold cE
            rw [if_pos hg, clp_n (fun z => by omega)]
            rfl
          refine skip ?_ hno s3 hf3 rfl
          unfold cE cM
          split
          · rename_i hg
            rw [if_neg (hno hg)]
          · rfl
        · rw [hv] at h5
          have hg : legB d (bOf j) = true := by
            apply Classical.byContradiction
            intro hg
            unfold cE at h5
            rw [if_neg hg] at h5
            exact absurd h5 (by decide)
          have hr := wrb_rng hd hl hbo.1 hg
          have hr2 := clp_rng (n := (n : Int) - 1) hr.1 hr.2
          have hr3 := clp_rng (n := (n : Int)) hr.1 hr.2
          have h0 : clp ((n : Int) - 1) (wrb d l (bOf j)) = 0 := by
            unfold cE at h5
            rw [if_pos hg, enc_1000 hr2.1 hr2.2] at h5
            exact h5
          have hfa : foundAt (nI (39366 * k)) (nI j) (nI n) s3 d l k n (bOf j) := by
            refine ⟨sett_frm hf3 (by simp) hs, hk4, rfl, hbo.1, by rw [hbo.2], hg, rfl, hn1, hn2, h0, ?_⟩
            intro b hb hgb
            have hcb := codB_lt hb
            by_cases hlt : codB b < j
            · rw [hg3.1 _ hlt]
              unfold cM mid
              rw [bOf_cod hb, if_pos hgb]
              split
              · rename_i hz
                exact Or.inr ⟨hz.1, hz.2, rfl⟩
              · exact Or.inl rfl
            · rw [hg3.2.1 _ (by omega) hcb]
              unfold cE mid
              rw [bOf_cod hb, if_pos hgb]
              exact Or.inl rfl
          refine ⟨⟨d, l, k, n, bOf j, hfa⟩, fun r1 s4 h6 => ?_⟩
          have e6 := h6.2 d l k n _ hfa
          subst e6
          have hf4 : frm [7, 8, 9] [3, 4] st s4 := hf3.trans (h6.1.mono (by simp) (by simp))
          have e9 : s4.1 9 = s3.1 9 := h6.1.1 9 (by simp)
          refine ⟨fun h7 => ?_, fun h7 => ?_⟩
          · rw [enc_1000 hr3.1 hr3.2] at h7
            have hno : ¬ (wrb d l (bOf j) ≠ 0 ∧ lev (wrb d l (bOf j)) = n) := by
              rintro ⟨z1, z2⟩
              rw [clp_y z1 (by omega)] at h7
              exact z1 h7
            refine skip ?_ (fun _ => hno) s4 hf4 e9
            unfold cE cM
            rw [if_pos hg, if_pos hg, if_neg hno]
          · rw [enc_1000 hr3.1 hr3.2] at h7
            have hz : wrb d l (bOf j) ≠ 0 ∧ lev (wrb d l (bOf j)) = n := by
              rcases clp_or (n : Int) (wrb d l (bOf j)) with z | z
              · refine ⟨z.2.1, ?_⟩
                rcases clp_or ((n : Int) - 1) (wrb d l (bOf j)) with y | y
                · exact absurd (y.1.symm.trans h0) y.2.1
                · have : ¬ lev (wrb d l (bOf j)) ≤ (n : Int) - 1 := fun q => y.2 ⟨z.2.1, q⟩
                  omega
              · exact absurd z.1 h7
            have ew : clp n (wrb d l (bOf j)) = wrb d l (bOf j) := clp_y hz.1 (by omega)
            have mk : ∀ v : Int32, v = iI (mrk (wrb d l (bOf j))) → L3 (nI (39366 * k), (1 : Int32), nI n, nI (j + 1), mA s4 9 (39366 * k + j) v) := by
              intro v hv2
              refine hL3 _ hj2 ⟨by omega, true, _, rfl, frm_A hf4 (by simp), ?_, fun _ => ⟨bOf j, hbo.1, hg, hz⟩, (fun h => by cases h)⟩
              rw [mA_self, e9]
              refine seg_put hg3 hj2 ?_
              rw [hv2]
              unfold cM
              rw [if_pos hg, if_pos hz]
            rw [ew, enc_ne hz.1]
            refine ⟨fun h8 => ⟨vin (by omega), mk _ ?_⟩, fun h8 => ⟨vin (by omega), mk _ ?_⟩⟩
            · rw [show (0 : Int32) = iI 0 from rfl, iI_le] at h8
              rw [show (-10000 : Int32) = iI (-10000) from rfl, iI_add]
              unfold mrk
              rw [if_neg (by omega)]
              rfl
            · rw [show (0 : Int32) = iI 0 from rfl, iI_le] at h8
              rw [show (10000 : Int32) = iI 10000 from rfl, iI_add]
              unfold mrk
              rw [if_pos (by omega)]
  -- the first loop
  unfold wX3_make_0 wX3_make_2
  rw [← hk]
  refine wloop_up 39366 (fun j v => j ≤ 39366 ∧ ∃ s2, v = (nI (39366 * k), nI j, s2) ∧ frm [7, 8, 9] [3, 4] st s2 ∧ seg (st.1 9) (s2.1 9) (39366 * k) j (cE d l 0) (fun c => st.1 9 (39366 * k + c))) 0 ⟨by omega, st, rfl, frm.refl _ _ _, fun c hc => by omega, fun c _ _ => rfl, fun i _ => rfl⟩ ?_
  rintro j v L ⟨hj, s2, rfl, hf2, hg2⟩ hL
  dsimp only
  unfold wX3_make_2_b
  refine ⟨fun hc => ?_, fun hc => ?_⟩
  · have : 39366 ≤ j := nle_of (a := 39366) hc
    obtain rfl : j = 39366 := by omega
    have := rounds s2 hf2 ⟨hg2.1, fun c h1 h2 => by omega, hg2.2.2⟩
    rw [← hk] at this
    exact this
  · have hj2 : j < 39366 := nlt_of (a := 39366) hc
    obtain ⟨hb, hcb⟩ := bOf_ok hj2
    have hs2 := sett_frm hf2 (by simp) hs
    unfold wX3_make_8 wX3_make_39 wX3_make_33 wX3_make_46 wX3_make_50 wX3_make_53
    refine ⟨⟨_, _, _, hb, congrArg nI hcb.symm⟩, fun s3 h3 => ?_⟩
    have ho3 : opn s3 (bOf j).1 (bOf j).2.1 (bOf j).2.2 := h3.2 _ _ _ hb (congrArg nI hcb.symm)
    have hs3 := sett_frm h3.1 (by simp) hs2
    refine ⟨⟨⟨_, _, _, ho3⟩, d, l, hs3⟩, fun r h4 => ⟨⟨⟨_, _, _, ho3⟩, d, l, hs3⟩, fun s4 h5 => ?_⟩⟩
    have e4 : r = b2 (legB d (bOf j)) := h4 _ _ _ _ _ ho3 hs3
    have hl5 : lst s4 (mvl d l (bOf j)) := h5.2 _ _ _ _ _ ho3 hs3
    have hf4 : frm [7, 8, 9] [3, 4] st s4 := (hf2.trans (h3.1.mono (by simp) (by simp))).trans (h5.1.mono (by simp) (by simp))
    have e9 : s4.1 9 = s2.1 9 := (h5.1.1 9 (by simp)).trans (h3.1.1 9 (by simp))
    subst e4
    have hlen := mvl_len (l := l) hd (bOf j)
    rw [nI_add, nI_clamp (n := 39366 * k + j) (by omega), show nI j + (1 : Int32) = nI (j + 1) from nI_1 _, hl5.1]
    have put : ∀ v : Int32, v = cE d l 0 j → L (nI (39366 * k), nI (j + 1), mA s4 9 (39366 * k + j) v) := by
      intro v hv
      refine hL _ hj2 ⟨by omega, _, rfl, frm_A hf4 (by simp), ?_⟩
      rw [mA_self, e9]
      exact seg_put hg2 hj2 hv
    refine ⟨fun h6 => ⟨fun h7 => ⟨vin (by omega), put _ ?_⟩, fun h7 => ⟨vin (by omega), put _ ?_⟩⟩, fun h6 => ⟨vin (by omega), put _ ?_⟩⟩
    · have := cE_0 hd hl hb (b2_n0.mp h6)
      rw [hcb] at this
      rw [this, if_neg]
      intro z
      rw [z] at h7
      exact h7 rfl
    · have := cE_0 hd hl hb (b2_n0.mp h6)
      rw [hcb] at this
      rw [this, if_pos]
      exact List.eq_nil_of_length_eq_zero (nI_inj (b := 0) h7)
    · unfold cE
      rw [b2_0.mp h6]
      rfl
theorem tabs_frm {as fs : List Nat} {st st1 : MS} (h : frm as fs st st1) (h9 : 9 ∉ as) (h10 : 10 ∉ as) (ht : tabs st) : tabs st1 := fun d l hd hl => by
  rw [h.1 10 h10, h.1 9 h9]
  exact ht d l hd hl
theorem vcX3_table (st : MS) (hp : pX3_table st) : wX3_table_0 (qX3_table st) st := by
  obtain ⟨⟨d, l, hs⟩, ht⟩ := hp
  have hd := hs.2.2.1
  have hl := hs.2.2.2
  have hT := ht d l hd hl
  unfold wX3_table_0
  rw [show ((0 : Int32)).toNatClampNeg = 0 from rfl, show ((1 : Int32)).toNatClampNeg = 1 from rfl, hs.1, hs.2.1, show (2 : Int32) = nI 2 from rfl, show (39366 : Int32) = nI 39366 from rfl, pk_mul, nI_add, pk_mul, nI_clamp (by omega)]
  refine ⟨vin (n := 0) (by decide), vin (n := 1) (by decide), vin (by omega), fun h1 => ?_, fun h1 => ?_⟩
  · unfold wX3_table_42
    refine ⟨frm.refl _ _ _, ht, fun d' l' hs' => ?_⟩
    obtain ⟨rfl, rfl⟩ := sett_inj hs hs'
    rcases hT with h | h
    · exact absurd h h1
    · exact ⟨rfl, h.2, h.1, fun _ => rfl⟩
  · unfold wX3_table_30 wX3_table_42
    rw [nI_clamp (by omega), show vp_nar .boolean (1 : Int32) = 1 from rfl]
    have hs1 : sett (mA st 10 (2 * d + l) 1) d l := by
      unfold sett
      rw [mA_ne _ _ _ (by decide)]
      exact hs
    refine ⟨vin (by omega), ⟨d, l, hs1, rfl⟩, fun st1 h2 => ?_⟩
    obtain ⟨hf, hm⟩ := h2
    obtain ⟨m1, m2⟩ := hm d l hs1 rfl
    have hf' : frm [7, 8, 9, 10] [3, 4] st st1 := (frm_A (frm.refl _ _ _) (by simp)).trans (hf.mono (by simp) (by simp))
    have e10 : st1.1 10 = upd (st.1 10) (2 * d + l) 1 := by rw [hf.1 10 (by simp), mA_self]
    refine ⟨hf', fun d' l' hd' hl' => ?_, fun d' l' hs' => ?_⟩
    · by_cases e : 2 * d' + l' = 2 * d + l
      · obtain rfl : d' = d := by omega
        obtain rfl : l' = l := by omega
        right
        refine ⟨by rw [e10, pk_us], m1⟩
      · rw [e10, pk_un e]
        rcases ht d' l' hd' hl' with h | h
        · exact Or.inl h
        · refine Or.inr ⟨h.1, fun c hc => ?_⟩
          rw [m2 _ (by omega), mA_ne _ _ _ (by decide)]
          exact h.2 c hc
    · obtain ⟨rfl, rfl⟩ := sett_inj hs hs'
      exact ⟨rfl, m1, by rw [e10, pk_us], fun h => absurd h1 h⟩
theorem vcX3_worthAt (x1 : Int32) (st : MS) (hp : pX3_worthAt x1 st) : wX3_worthAt_0 (qX3_worthAt x1 st) x1 st := by
  obtain ⟨hT, c, hc, rfl⟩ := hp
  obtain ⟨d, l, hs⟩ := hT.1
  have hd := hs.2.2.1
  have hl := hs.2.2.2
  unfold wX3_worthAt_0
  refine ⟨hT, fun r1 st1 h1 => ?_⟩
  obtain ⟨hf, ht, hq⟩ := h1
  obtain ⟨rfl, hv, hmd, -⟩ := hq d l hs
  rw [nI_add, nI_clamp (by omega), hv c hc]
  refine ⟨vin (by omega), hf, ht, fun d' l' c' hs' hc' e => ?_⟩
  obtain ⟨rfl, rfl⟩ := sett_inj hs hs'
  obtain rfl : c = c' := nI_inj e
  exact ⟨rfl, hmd⟩
