theorem vcX3_count (x : Int32) (S : SS) (st : MS) (h : mOK st S) : wX3_count_0 (fun r st1 => r = sCount x S ∧ mOK st1 S) x st := by
  unfold wX3_count_0
  refine ⟨gst_pnow h.1, fun r1 h1 => ?_⟩
  rw [gst_now h.1 h1]
  refine ⟨gst_popen h.1, fun st3 h3 => ?_⟩
  have ho := gst_open h.1 h3
  have hm : mOK st3 S := mOK_frm h3.1 (by simp) (by simp) h
  have hb := (cur_ok hm.1.1).1
  have hmv : (cur S.1).2.2 < 2 := hb.2.2.2
  have ho2 : ∀ st4, frm [7, 8] [3, 4] st3 st4 → mOK st4 S := fun st4 hf => mOK_frm hf (by simp) (by simp) hm
  refine ⟨fun e => ?_, fun e => ?_, fun e => ?_, fun e => ?_, fun e => ?_, fun e => ?_, fun e => ?_, fun e => ?_, fun e => ?_, fun e => ?_, fun e => ?_, fun e => ?_, fun e0 e1 e2 e3 e4 e5 e6 e7 e8 e9 e10 e11 => ?_⟩
  · subst e
    exact ⟨ho.2.2, hm⟩
  · subst e
    exact ⟨vin (n := 2) (by decide), hm.1.2.2.2.2.1, hm⟩
  · subst e
    unfold wX3_count_84
    refine ⟨⟨⟨_, _, _, ho⟩, 0, by decide, rfl⟩, fun r4 h4 => ⟨?_, hm⟩⟩
    exact h4 _ _ _ 0 ho (by decide) rfl
  · subst e
    unfold wX3_count_84
    refine ⟨⟨⟨_, _, _, ho⟩, 1, by decide, rfl⟩, fun r4 h4 => ⟨?_, hm⟩⟩
    exact h4 _ _ _ 1 ho (by decide) rfl
  · subst e
    unfold wX3_count_92 wX3_count_103 wX3_count_99 wX3_count_104
    refine ⟨⟨S.1, hm.1⟩, fun r4 st4 h4 => ?_⟩
    have e4 := h4.2 S.1 hm.1
    subst e4
    have eS : sCount 4 S = b2 (overG S.1) := rfl
    rw [eS]
    exact ⟨fun h5 => ⟨h5.symm, ho2 st4 h4.1⟩, fun h5 => ⟨(b2_t (b2_n0.mp h5)).symm, ho2 st4 h4.1⟩⟩
  · subst e
    unfold wX3_count_105 wX3_count_121 wX3_count_112 wX3_count_123
    refine ⟨⟨S.1, hm.1⟩, fun r4 st4 h4 => ?_⟩
    obtain ⟨e4, ho4⟩ := h4.2 S.1 hm.1
    subst e4
    have eS : sCount 5 S = if lostG S.1 then nI (1 - (cur S.1).2.2) else -6 := rfl
    rw [eS]
    refine ⟨fun h5 => ⟨?_, ho2 st4 h4.1⟩, fun h5 => ⟨?_, ho2 st4 h4.1⟩⟩
    · rw [b2_0.mp h5]; rfl
    · rw [b2_n0.mp h5, ho4.2.2, show (1 : Int32) = nI 1 from rfl, sub_n (by omega)]; rfl
  · subst e
    unfold wX3_count_124 wX3_count_135 wX3_count_131 wX3_count_136
    refine ⟨⟨S.1, hm.1⟩, fun r4 st4 h4 => ?_⟩
    have e4 := h4.2 S.1 hm.1
    subst e4
    have eS : sCount 6 S = b2 (decide (3 ≤ oftG S.1) && !lostG S.1) := rfl
    rw [eS]
    exact ⟨fun h5 => ⟨h5.symm, ho2 st4 h4.1⟩, fun h5 => ⟨(b2_t (b2_n0.mp h5)).symm, ho2 st4 h4.1⟩⟩
  · subst e
    unfold wX3_count_137
    exact ⟨⟨S.1, hm.1⟩, fun r4 h4 => ⟨h4 S.1 hm.1, hm⟩⟩
  · subst e
    exact ⟨vin (n := 0) (by decide), hm.1.2.2.1, hm⟩
  · subst e
    exact ⟨vin (n := 1) (by decide), hm.1.2.2.2.1, hm⟩
  · subst e
    exact ⟨hm.2.2.2.2.2.1, hm⟩
  · subst e
    exact ⟨hm.2.2.1.2.1, hm⟩
  · refine ⟨?_, hm⟩
    unfold sCount
    rw [if_neg e0, if_neg e1, if_neg e2, if_neg e3, if_neg e4, if_neg e5, if_neg e6, if_neg e7, if_neg e8, if_neg e9, if_neg e10, if_neg e11]
theorem nI_or : ∀ a, a < 512 → ∀ t, t < 9 → nI a ||| ((1 : Int32) <<< (nI t &&& 31)) = nI (a ||| 2 ^ t) := by decide +kernel
theorem nbM_lt (d p : Nat) : ∀ t, t ≤ 9 → nbM d p t < 512
  | 0, _ => (by decide : (0 : Nat) < 512)
  | t + 1, h => by
    have := nbM_lt d p t (by omega)
    unfold nbM
    split
    · exact Nat.or_lt_two_pow (n := 9) this (Nat.pow_lt_pow_right (by decide) (by omega))
    · exact this
theorem or_0 (x : Int32) : x ||| 0 = x := by simp
theorem vcX3_neighbours (x : Int32) (S : SS) (st : MS) (h : mOK st S) : wX3_neighbours_0 (fun r st1 => r = sNb x S ∧ mOK st1 S) x st := by
  unfold wX3_neighbours_0 wX3_neighbours_11 wX3_neighbours_13 wX3_neighbours_17
  intro r1 h1
  rw [in_09 h1]
  refine ⟨fun h2 => ?_, fun h2 => ?_⟩
  · have hx := b2_n0.mp h2
    obtain ⟨a, ha, ex, ex2⟩ := in09_of hx
    have hs := gst_sett h.1
    refine wloop_up 9 (fun k v => k ≤ 9 ∧ v = (x, nI (nbM S.1.1 a k), nI k, st)) 0 ⟨by omega, rfl⟩ ?_
    rintro k v L ⟨hk, rfl⟩ hL
    dsimp only
    unfold wX3_neighbours_17_b wX3_neighbours_48 wX3_neighbours_23 wX3_neighbours_39 wX3_neighbours_33 wX3_neighbours_40
    refine ⟨fun hc => ?_, fun hc => ?_⟩
    · have : 9 ≤ k := nle_of (a := 9) hc
      obtain rfl : k = 9 := by omega
      refine ⟨?_, h⟩
      unfold sNb
      rw [hx, ex2]
      rfl
    · have hk9 : k < 9 := nlt_of (a := 9) hc
      refine ⟨⟨⟨_, _, hs⟩, a, k, ha, hk9, ex, rfl⟩, fun r4 h4 => ?_⟩
      have e4 := h4 _ _ a k hs ha hk9 ex rfl
      subst e4
      have hlt := nbM_lt S.1.1 a k (by omega)
      refine ⟨fun h5 => hL _ hk9 ⟨by omega, ?_⟩, fun h5 => hL _ hk9 ⟨by omega, ?_⟩⟩
      · rw [or_0, nI_1]
        conv => rhs; unfold nbM
        rw [b2_0.mp h5]
        rfl
      · rw [nI_or _ hlt k hk9, nI_1]
        conv => rhs; unfold nbM
        rw [b2_n0.mp h5]
        rfl
  · have hx := b2_0.mp h2
    unfold sNb
    rw [hx]
    exact ⟨rfl, h⟩
theorem vcX3_move (x : Int32) (S : SS) (st : MS) (h : mOK st S) : wX3_move_0 (fun r st1 => r = sMove x S ∧ mOK st1 S) x st := by
  unfold wX3_move_0 wX3_move_28 wX3_move_19 wX3_move_29
  refine ⟨⟨S.1, h.1⟩, fun st1 h1 => ?_⟩
  obtain ⟨ho, hl⟩ := h1.2 S.1 h.1
  have hm : mOK st1 S := mOK_frm h1.1 (by simp) (by simp) h
  have hlen := mvG_len h.1.1
  intro r2 h2
  have e2 : r2 = b2 (decide (0 ≤ x.toInt ∧ x.toInt < (mvG S.1).length)) := by
    unfold qX3_in at h2
    rw [h2, Int32.toInt_toInt64, hl.1, iI_nI, show (1 : Int32) = iI 1 from rfl, iI_sub, iI_toInt (by omega) (by omega)]
    congr 1
    rw [decide_eq_decide]
    show (0 : Int) ≤ x.toInt ∧ _ ↔ _
    omega
  subst e2
  refine ⟨fun h3 => ⟨?_, hm⟩, fun h3 => ?_⟩
  · unfold sMove
    rw [b2_0.mp h3]
    rfl
  · have h4 := of_decide_eq_true (b2_n0.mp h3)
    have ex := of_nn h4.1
    generalize hn : x.toInt.toNat = n at *
    have hnl : n < (mvG S.1).length := by omega
    rw [ex, nI_clamp (by omega), hl.2 n hnl, ← ex]
    refine ⟨by rw [ex]; exact vin (by omega), ?_, hm⟩
    unfold sMove
    rw [b2_n0.mp h3, hn]
    rfl
theorem vcX3_worth (S : SS) (st : MS) (h : mOK st S) : wX3_worth_0 (fun r st1 => r = sWorth S ∧ mOK st1 S) st := by
  have hc := cur_ok h.1.1
  unfold wX3_worth_0
  refine ⟨gst_pnow h.1, fun r1 h1 => ?_⟩
  rw [gst_now h.1 h1]
  refine ⟨⟨⟨⟨_, _, gst_sett h.1⟩, h.2.1⟩, _, codB_lt hc.1, rfl⟩, fun r3 st4 h3 => ?_⟩
  obtain ⟨hf, ht, hq⟩ := h3
  obtain ⟨e3, -⟩ := hq _ _ _ (gst_sett h.1) (codB_lt hc.1) rfl
  refine ⟨?_, mOK_tab hf ht h⟩
  rw [e3, finC_cod hc.1 hc.2, show (100 : Int32) = iI 100 from rfl, iI_add]
  rfl
theorem vcX3_behind (x : Int32) (S : SS) (st : MS) (h : mOK st S) : wX3_behind_0 (fun r st1 => r = sBehind x S ∧ mOK st1 S) x st := by
  have hc := cur_ok h.1.1
  unfold wX3_behind_0 wX3_behind_8 wX3_behind_10
  refine ⟨⟨S.1, h.1⟩, fun r1 st2 h1 => ?_⟩
  have e1 := h1.2 S.1 h.1
  subst e1
  have hm : mOK st2 S := mOK_frm h1.1 (by simp) (by simp) h
  refine ⟨fun h2 => ?_, fun h2 => ⟨?_, hm⟩⟩
  · obtain ⟨q, hq⟩ := Option.isSome_iff_exists.mp (b2_n0.mp h2)
    obtain ⟨hqm, rfl⟩ := ask_mem hq
    have hqc := mvG_mvC hqm
    have hok := isMv_okm (mem_mvl.mp hqc).2
    have hb2 := nxb_bok hc.1 hok
    have hl2 := nxb_legal hc.1 hc.2 hqc
    refine ⟨gst_pnow hm.1, fun r3 h3 => ?_⟩
    rw [gst_now hm.1 h3]
    refine ⟨gst_popen hm.1, fun st4 h4 => ?_⟩
    have ho4 := gst_open hm.1 h4
    have hm4 : mOK st4 S := mOK_frm h4.1 (by simp) (by simp) hm
    refine ⟨⟨_, _, _, q, ho4, rfl, hok⟩, fun r5 st5 h5 => ?_⟩
    obtain ⟨-, -, e5⟩ := h5.2 _ _ _ q ho4 rfl hok
    have e5 : r5 = nI (codB (nxb (cur S.1) q)) := e5
    subst e5
    have hm5 : mOK st5 S := mOK_frm h5.1 (by simp) (by simp) hm4
    refine ⟨⟨⟨⟨_, _, gst_sett hm5.1⟩, hm5.2.1⟩, _, codB_lt hb2, rfl⟩, fun r6 st6 h6 => ?_⟩
    obtain ⟨hf, ht, hq6⟩ := h6
    obtain ⟨e6, -⟩ := hq6 _ _ _ (gst_sett hm5.1) (codB_lt hb2) rfl
    refine ⟨?_, mOK_tab hf ht hm5⟩
    unfold sBehind
    rw [hq, e6, finC_cod hb2 hl2, show (100 : Int32) = iI 100 from rfl, iI_add]
    rfl
  · have hn : askG S.1 x = none := by simpa using b2_0.mp h2
    unfold sBehind
    rw [hn]
theorem vcX3_best (S : SS) (st : MS) (h : mOK st S) : wX3_best_0 (fun r st1 => r = sBest S ∧ mOK st1 S) st := by
  unfold wX3_best_0 wX3_best_12 wX3_best_7 wX3_best_16
  refine ⟨⟨S.1, h.1⟩, fun r1 st2 h1 => ?_⟩
  have e1 := h1.2 S.1 h.1
  subst e1
  have hm : mOK st2 S := mOK_frm h1.1 (by simp) (by simp) h
  refine ⟨fun h2 => ?_, fun h2 => ⟨?_, hm⟩⟩
  · have ho := b2_0.mp h2
    refine ⟨⟨hm.2.1, S.1, hm.1, ho⟩, fun r3 st3 h3 => ?_⟩
    obtain ⟨hf, ht, hq⟩ := h3
    refine ⟨?_, mOK_tab hf ht hm⟩
    unfold sBest
    rw [ho, hq S.1 hm.1 ho]
    rfl
  · unfold sBest
    rw [b2_n0.mp h2]
    rfl
theorem in_511 {x r : Int32} (h : qX3_in x.toInt64 (0 : Int32) (511 : Int32) r) : r = b2 (in511 x) := by
  unfold qX3_in at h
  rw [h, Int32.toInt_toInt64]
  rfl
theorem nI_and {a b : Nat} (ha : a < 512) (hb : b < 512) : nI a &&& nI b = nI (a &&& b) := by
  apply Int32.toBitVec.inj
  show BitVec.ofNat 32 a &&& BitVec.ofNat 32 b = BitVec.ofNat 32 (a &&& b)
  exact (BitVec.ofNat_and).symm
theorem bit_n : ∀ a, a < 512 → ∀ k, k < 9 → (nI a >>> (nI k &&& 31)) &&& (1 : Int32) = nI (a.testBit k).toNat := by decide +kernel
theorem vcX3_worthOf (x y z : Int32) (S : SS) (st : MS) (h : mOK st S) : wX3_worthOf_0 (fun r st1 => r = sWof x y z S ∧ mOK st1 S) x y z st := by
  unfold wX3_worthOf_0 wX3_worthOf_12 wX3_worthOf_24 wX3_worthOf_34 wX3_worthOf_40
  have bad : (in511 x && in511 y && in01 z && decide (x.toInt.toNat &&& y.toInt.toNat = 0) && legal S.1.1 x.toInt.toNat y.toInt.toNat z.toInt.toNat) = false → ∀ st1, mOK st1 S → (-2 : Int32) = sWof x y z S ∧ mOK st1 S := by
    intro hb st1 hm
    refine ⟨?_, hm⟩
    unfold sWof
    rw [hb]
    rfl
  intro r1 h1
  rw [in_511 h1]
  refine ⟨fun h2 => bad (by rw [b2_0.mp h2]; rfl) st h, fun h2 r3 h3 => ?_⟩
  rw [in_511 h3]
  refine ⟨fun h4 => bad (by rw [b2_0.mp h4, Bool.and_false]; rfl) st h, fun h4 r5 h5 => ?_⟩
  rw [in_01 h5]
  refine ⟨fun h6 => bad (by rw [b2_0.mp h6, Bool.and_false]; rfl) st h, fun h6 => ?_⟩
  have hx := b2_n0.mp h2
  have hy := b2_n0.mp h4
  have hz := b2_n0.mp h6
  obtain ⟨a, ha, ex, ex2⟩ := in511_of hx
  obtain ⟨b, hb, ey, ey2⟩ := in511_of hy
  obtain ⟨c, hc, ez, ez2⟩ := in01_of hz
  have hand : x &&& y = nI (a &&& b) := by rw [ex, ey, nI_and ha hb]
  have hlt : a &&& b < 512 := Nat.lt_of_le_of_lt Nat.and_le_left ha
  refine ⟨fun h7 => ?_, fun h7 => bad ?_ st h⟩
  · rw [hand] at h7
    have h8 : a &&& b = 0 := nI_inj (b := 0) h7
    have hok : bok a b c := ⟨ha, hb, h8, hc⟩
    unfold wX3_worthOf_43 wX3_worthOf_46
    refine wloop_up 9 (fun k v => k ≤ 9 ∧ ∃ s2, v = (x, y, z, nI k, s2) ∧ frm [7] [] st s2 ∧ ∀ j, j < k → s2.1 7 j = nI (cel a b j)) 0 ⟨by omega, st, rfl, frm.refl _ _ _, fun j hj => by omega⟩ ?_
    rintro k v L ⟨hk, s2, rfl, hf, hcel⟩ hL
    dsimp only
    unfold wX3_worthOf_46_b wX3_worthOf_53
    refine ⟨fun hc9 => ?_, fun hc9 => ?_⟩
    · have : 9 ≤ k := nle_of (a := 9) hc9
      obtain rfl : k = 9 := by omega
      unfold wX3_worthOf_81 wX3_worthOf_111 wX3_worthOf_99 wX3_worthOf_113
      have hf3 : frm [7] [3] st (mF s2 3 z) := frm_F (hf.mono (by simp) (by simp)) (by simp)
      have hm3 : mOK (mF s2 3 z) S := mOK_frm hf3 (by simp) (by simp) h
      have ho3 : opn (mF s2 3 z) a b c := ⟨hok, hcel, by rw [mF_self, ez]⟩
      refine ⟨⟨_, _, _, ho3⟩, fun r9 h9 => ⟨⟨⟨_, _, _, ho3⟩, _, _, gst_sett hm3.1⟩, fun r10 h10 => ?_⟩⟩
      have e9 := h9 _ _ _ ho3
      have e10 := h10 _ _ _ _ _ ho3 (gst_sett hm3.1)
      subst e9; subst e10
      refine ⟨fun h11 => bad ?_ _ hm3, fun h11 => ?_⟩
      · rw [ex2, ey2, ez2, b2_0.mp h11, Bool.and_false]
      · have hleg := b2_n0.mp h11
        refine ⟨⟨⟨⟨_, _, gst_sett hm3.1⟩, hm3.2.1⟩, _, cod_lt hok, rfl⟩, fun r12 st12 h12 => ?_⟩
        obtain ⟨hf12, ht12, hq12⟩ := h12
        obtain ⟨e12, -⟩ := hq12 _ _ _ (gst_sett hm3.1) (cod_lt hok) rfl
        refine ⟨?_, mOK_tab hf12 ht12 hm3⟩
        have e13 : finC S.1.1 S.1.2.1 (cod a b c) = iI (wrb S.1.1 S.1.2.1 (a, b, c)) := finC_cod (b := (a, b, c)) hok hleg
        unfold sWof
        rw [hx, hy, hz, ex2, ey2, ez2, hleg, decide_eq_true h8, e12, e13, show (100 : Int32) = iI 100 from rfl, iI_add]
        rfl
    · have hk9 : k < 9 := nlt_of (a := 9) hc9
      have hv : ((x >>> (nI k &&& 31)) &&& (1 : Int32)) + (2 : Int32) * ((y >>> (nI k &&& 31)) &&& (1 : Int32)) = nI (cel a b k) := by
        rw [ex, ey, bit_n a ha k hk9, bit_n b hb k hk9, show (2 : Int32) = nI 2 from rfl, pk_mul, nI_add]
        rfl
      rw [nI_clamp (by omega), hv, show nI k + (1 : Int32) = nI (k + 1) from nI_1 k]
      refine ⟨vin hk9, hL _ hk9 ⟨by omega, _, rfl, frm_A hf (by simp), fun j hj => ?_⟩⟩
      rw [mA_self]
      by_cases e : j = k
      · subst e; rw [pk_us]
      · rw [pk_un e]; exact hcel j (by omega)
  · rw [hand] at h7
    have : ¬ a &&& b = 0 := fun q => h7 (by rw [q]; rfl)
    rw [ex2, ey2, decide_eq_false this, Bool.and_false]
    rfl
