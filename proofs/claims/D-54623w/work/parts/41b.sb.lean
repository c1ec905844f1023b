/-! STRINGBUILDER: contracts, printed by gen_sb.py -/
theorem ctJ14_canEncode {l : Launch} {D : va_G} {ct : Nat → ClassId} {G : gE} {tl : va_W} (hG : gOK G) {x : Nat} (hx : x < 128) : ∀ sz, Met l yJ14_canEncode (ws_ yJ14_canEncode cJ14_canEncode 1 (some .boolean)) { frames := 0, cells := 0, slots := 0, locals := 0 } (va_Pc [.int (nI x)] (cPre G D ct tl sz)) (va_Qi (fun (r : Int32) (_ : Unit) => r = 1) (fun (u : Unit) => cB D ct (va_A tl sz) (tl)) (va_A tl sz)) 0 0 (va_A tl sz) := fun sz =>
  j_metF (Qc := fun A => va_Qi (fun (r : Int32) (_ : Unit) => r = 1) (fun (u : Unit) => cB D ct A (tl)) A) (by decide) hG (Nat.le_of_ble_eq_true rfl) (fun p e s m args below meth c A K hr hnm _ => by
    refine j_iload_n K 0 dJ14_canEncode_0 rfl rfl ?_
    refine j_sipush K (255 : Int32) dJ14_canEncode_1 (by decide) ?_
    refine j_icmp_gt K 11 dJ14_canEncode_4 (by decide) (fun hc4 => absurd hc4 (fun z => absurd (nl_of (show nI 255 < nI x from z) (by omega) (by omega)) (by omega))) (fun hc4 => ?_)
    refine j_iconst K (1 : Int32) dJ14_canEncode_7 (by decide) ?_
    refine j_goto K 12 dJ14_canEncode_8 (by decide) ?_
    exact j_zret (wf := fun _ => tl) () K hr rfl rfl (Or.inr rfl) (by omega) (by omega) dJ14_canEncode_12)
theorem ctJ8_checkIndex {l : Launch} {D : va_G} {ct : Nat → ClassId} {G : gE} {tl : va_W} (hG : gOK G) {x n : Nat} {g : GP} (hgc : gHasC G g) (hx : x < n) (hn : n < 1000000000) : ∀ sz, Met l yJ8_checkIndex (ws_ yJ8_checkIndex cJ8_checkIndex 2 none) { frames := 1, cells := 0, slots := 0, locals := 22 } (va_Pc [.int (nI x), .int (nI n)] (cPre G D ct tl sz)) (va_Qv (fun _ : Unit => True) (fun (u : Unit) => cB D ct (va_A tl sz) (tl)) (va_A tl sz)) 0 0 (va_A tl sz) := fun sz =>
  j_metF (Qc := fun A => va_Qv (fun _ : Unit => True) (fun (u : Unit) => cB D ct A (tl)) A) (by decide) hG (Nat.le_of_ble_eq_true rfl) (fun p e s m args below meth c A K hr hnm _ => by
    rcases (K.gc hgc).2.2.2.2.1 with hz | ⟨z, hz⟩
    · refine j_iload_n K 0 dJ8_checkIndex_0 rfl rfl ?_
      refine j_iload_n K 1 dJ8_checkIndex_1 rfl rfl ?_
      refine j_gets K hz q760 rfl dJ8_checkIndex_2 ?_
      refine j_callSi K (As := [.int (nI x), .int (nI n), .null]) (rest := []) (ctJ11_checkIndex (l := l) (D := D) (ct := ct) (G := G) (tl := tl) hG hx hn) (lw_S q783 q316 q86 q317) (n := 3) (by decide +kernel) ⟨Nat.le_of_ble_eq_true rfl, Nat.le_of_ble_eq_true rfl⟩ rfl rfl (Nat.le_of_ble_eq_true rfl) dJ8_checkIndex_5 ⟨by dsimp only; omega, by dsimp only; omega⟩ (fun r5 u5 hq5 => ?_)
      refine j_wsEq (ws' := tl) rfl ?_
      refine j_pop K dJ8_checkIndex_8 rfl ?_
      exact j_vret (wf := fun _ => tl) () K hr rfl trivial (by omega) (by omega) dJ8_checkIndex_9
    · refine j_iload_n K 0 dJ8_checkIndex_0 rfl rfl ?_
      refine j_iload_n K 1 dJ8_checkIndex_1 rfl rfl ?_
      refine j_gets K hz q760 rfl dJ8_checkIndex_2 ?_
      refine j_callSi K (As := [.int (nI x), .int (nI n), .ref z]) (rest := []) (ctJ11_checkIndex_r (l := l) (D := D) (ct := ct) (G := G) (tl := tl) hG hx hn) (lw_S q783 q316 q86 q317) (n := 3) (by decide +kernel) ⟨Nat.le_of_ble_eq_true rfl, Nat.le_of_ble_eq_true rfl⟩ rfl rfl (Nat.le_of_ble_eq_true rfl) dJ8_checkIndex_5 ⟨by dsimp only; omega, by dsimp only; omega⟩ (fun r5 u5 hq5 => ?_)
      refine j_wsEq (ws' := tl) rfl ?_
      refine j_pop K dJ8_checkIndex_8 rfl ?_
      exact j_vret (wf := fun _ => tl) () K hr rfl trivial (by omega) (by omega) dJ8_checkIndex_9)
theorem ctJ6_length {l : Launch} {D : va_G} {ct : Nat → ClassId} {G : gE} {tl : va_W} (hG : gOK G) {a b : Nat} {ml : Int32} {n cap : Nat} {f : Nat → Int32}  : ∀ sz, Met l yJ6_length (ws_ yJ6_length cJ6_length 1 (some .int)) { frames := 0, cells := 0, slots := 0, locals := 0 } (va_Pc [.ref a] (cPre G D ct ((a, .inr (7, [.ref b, .int (0 : Int32), .int ml, .int (nI n)])) :: (b, .inl (ct 2, cap, .inl f)) :: tl) sz)) (va_Qi (fun (x : Int32) (_ : Unit) => x = nI n) (fun (u : Unit) => cB D ct (va_A ((a, .inr (7, [.ref b, .int (0 : Int32), .int ml, .int (nI n)])) :: (b, .inl (ct 2, cap, .inl f)) :: tl) sz) (((a, .inr (7, [.ref b, .int (0 : Int32), .int ml, .int (nI n)])) :: (b, .inl (ct 2, cap, .inl f)) :: tl))) (va_A ((a, .inr (7, [.ref b, .int (0 : Int32), .int ml, .int (nI n)])) :: (b, .inl (ct 2, cap, .inl f)) :: tl) sz)) 0 0 (va_A ((a, .inr (7, [.ref b, .int (0 : Int32), .int ml, .int (nI n)])) :: (b, .inl (ct 2, cap, .inl f)) :: tl) sz) := fun sz =>
  j_metF (Qc := fun A => va_Qi (fun (x : Int32) (_ : Unit) => x = nI n) (fun (u : Unit) => cB D ct A (((a, .inr (7, [.ref b, .int (0 : Int32), .int ml, .int (nI n)])) :: (b, .inl (ct 2, cap, .inl f)) :: tl))) A) (by decide) hG (Nat.le_of_ble_eq_true rfl) (fun p e s m args below meth c A K hr hnm _ => by
    refine j_aload_n K 0 dJ6_length_0 rfl rfl ?_
    refine j_get K in_J7 0 rfl rfl 3 (by decide) q251 rfl rfl dJ6_length_1 ?_
    exact j_iret (wf := fun _ => ((a, .inr (7, [.ref b, .int (0 : Int32), .int ml, .int (nI n)])) :: (b, .inl (ct 2, cap, .inl f)) :: tl)) () K hr rfl rfl (by omega) (by omega) dJ6_length_4)
theorem ctJ7_length {l : Launch} {D : va_G} {ct : Nat → ClassId} {G : gE} {tl : va_W} (hG : gOK G) {a b : Nat} {ml : Int32} {n cap : Nat} {f : Nat → Int32}  : ∀ sz, Met l yJ7_length (ws_ yJ7_length cJ7_length 1 (some .int)) { frames := 1, cells := 0, slots := 0, locals := 20 } (va_Pc [.ref a] (cPre G D ct ((a, .inr (7, [.ref b, .int (0 : Int32), .int ml, .int (nI n)])) :: (b, .inl (ct 2, cap, .inl f)) :: tl) sz)) (va_Qi (fun (x : Int32) (_ : Unit) => x = nI n) (fun (u : Unit) => cB D ct (va_A ((a, .inr (7, [.ref b, .int (0 : Int32), .int ml, .int (nI n)])) :: (b, .inl (ct 2, cap, .inl f)) :: tl) sz) (((a, .inr (7, [.ref b, .int (0 : Int32), .int ml, .int (nI n)])) :: (b, .inl (ct 2, cap, .inl f)) :: tl))) (va_A ((a, .inr (7, [.ref b, .int (0 : Int32), .int ml, .int (nI n)])) :: (b, .inl (ct 2, cap, .inl f)) :: tl) sz)) 0 0 (va_A ((a, .inr (7, [.ref b, .int (0 : Int32), .int ml, .int (nI n)])) :: (b, .inl (ct 2, cap, .inl f)) :: tl) sz) := fun sz =>
  j_metF (Qc := fun A => va_Qi (fun (x : Int32) (_ : Unit) => x = nI n) (fun (u : Unit) => cB D ct A (((a, .inr (7, [.ref b, .int (0 : Int32), .int ml, .int (nI n)])) :: (b, .inl (ct 2, cap, .inl f)) :: tl))) A) (by decide) hG (Nat.le_of_ble_eq_true rfl) (fun p e s m args below meth c A K hr hnm _ => by
    refine j_aload_n K 0 dJ7_length_0 rfl rfl ?_
    refine j_callSUi_ K (As := []) (rest := []) (ctJ6_length (l := l) (D := D) (ct := ct) (G := G) (tl := tl) hG) (lw_SU q636 q1274 q260 q637 q80 q638) (n := 0) (by decide +kernel) ⟨Nat.le_of_ble_eq_true rfl, Nat.le_of_ble_eq_true rfl⟩ 0 rfl rfl rfl rfl rfl (Nat.le_of_ble_eq_true rfl) dJ7_length_1 ⟨by dsimp only; omega, by dsimp only; omega⟩ (fun r1 u1 hq1 => ?_)
    refine j_wsEq (ws' := ((a, .inr (7, [.ref b, .int (0 : Int32), .int ml, .int (nI n)])) :: (b, .inl (ct 2, cap, .inl f)) :: tl)) rfl ?_
    exact j_iret (wf := fun _ => ((a, .inr (7, [.ref b, .int (0 : Int32), .int ml, .int (nI n)])) :: (b, .inl (ct 2, cap, .inl f)) :: tl)) () K hr rfl hq1 (by omega) (by omega) dJ7_length_4)
theorem ctJ6_isLatin1 {l : Launch} {D : va_G} {ct : Nat → ClassId} {G : gE} {tl : va_W} (hG : gOK G) {a b : Nat} {ml : Int32} {n cap : Nat} {f : Nat → Int32} {g : GP} (hgc : gHasC G g)  : ∀ sz, Met l yJ6_isLatin1 (ws_ yJ6_isLatin1 cJ6_isLatin1 1 (some .boolean)) { frames := 0, cells := 0, slots := 0, locals := 0 } (va_Pc [.ref a] (cPre G D ct ((a, .inr (7, [.ref b, .int (0 : Int32), .int ml, .int (nI n)])) :: (b, .inl (ct 2, cap, .inl f)) :: tl) sz)) (va_Qi (fun (x : Int32) (_ : Unit) => x = 1) (fun (u : Unit) => cB D ct (va_A ((a, .inr (7, [.ref b, .int (0 : Int32), .int ml, .int (nI n)])) :: (b, .inl (ct 2, cap, .inl f)) :: tl) sz) (((a, .inr (7, [.ref b, .int (0 : Int32), .int ml, .int (nI n)])) :: (b, .inl (ct 2, cap, .inl f)) :: tl))) (va_A ((a, .inr (7, [.ref b, .int (0 : Int32), .int ml, .int (nI n)])) :: (b, .inl (ct 2, cap, .inl f)) :: tl) sz)) 0 0 (va_A ((a, .inr (7, [.ref b, .int (0 : Int32), .int ml, .int (nI n)])) :: (b, .inl (ct 2, cap, .inl f)) :: tl) sz) := fun sz =>
  j_metF (Qc := fun A => va_Qi (fun (x : Int32) (_ : Unit) => x = 1) (fun (u : Unit) => cB D ct A (((a, .inr (7, [.ref b, .int (0 : Int32), .int ml, .int (nI n)])) :: (b, .inl (ct 2, cap, .inl f)) :: tl))) A) (by decide) hG (Nat.le_of_ble_eq_true rfl) (fun p e s m args below meth c A K hr hnm _ => by
    refine j_gets K (K.gc hgc).2.2.2.1 q239 rfl dJ6_isLatin1_0 ?_
    refine j_if_eq K 17 dJ6_isLatin1_3 (by decide) (fun hc3 => absurd hc3 (by decide)) (fun hc3 => ?_)
    refine j_aload_n K 0 dJ6_isLatin1_6 rfl rfl ?_
    refine j_get K in_J7 0 rfl rfl 1 (by decide) q249 rfl rfl dJ6_isLatin1_7 ?_
    refine j_if_ne K 17 dJ6_isLatin1_10 (by decide) (fun hc10 => absurd hc10 (fun z => z rfl)) (fun hc10 => ?_)
    refine j_iconst K (1 : Int32) dJ6_isLatin1_13 (by decide) ?_
    refine j_goto K 18 dJ6_isLatin1_14 (by decide) ?_
    exact j_zret (wf := fun _ => ((a, .inr (7, [.ref b, .int (0 : Int32), .int ml, .int (nI n)])) :: (b, .inl (ct 2, cap, .inl f)) :: tl)) () K hr rfl rfl (Or.inr rfl) (by omega) (by omega) dJ6_isLatin1_18)
theorem ctJ6_charAt {l : Launch} {D : va_G} {ct : Nat → ClassId} {G : gE} {tl : va_W} (hG : gOK G) {a b : Nat} {ml : Int32} {n cap : Nat} {f : Nat → Int32} {x z : Nat} {g : GP} (hgc : gHasC G g) (hx : x < n) (hn : n ≤ cap) (hc9 : cap < 1000000) (hfx : f x = nI z) (hz : z < 128) : ∀ sz, Met l yJ6_charAt (ws_ yJ6_charAt cJ6_charAt 5 (some .char)) { frames := 2, cells := 0, slots := 0, locals := 43 } (va_Pc [.ref a, .int (nI x)] (cPre G D ct ((a, .inr (7, [.ref b, .int (0 : Int32), .int ml, .int (nI n)])) :: (b, .inl (ct 2, cap, .inl f)) :: tl) sz)) (va_Qi (fun (r : Int32) (_ : Unit) => r = nI z) (fun (u : Unit) => cB D ct (va_A ((a, .inr (7, [.ref b, .int (0 : Int32), .int ml, .int (nI n)])) :: (b, .inl (ct 2, cap, .inl f)) :: tl) sz) (((a, .inr (7, [.ref b, .int (0 : Int32), .int ml, .int (nI n)])) :: (b, .inl (ct 2, cap, .inl f)) :: tl))) (va_A ((a, .inr (7, [.ref b, .int (0 : Int32), .int ml, .int (nI n)])) :: (b, .inl (ct 2, cap, .inl f)) :: tl) sz)) 0 0 (va_A ((a, .inr (7, [.ref b, .int (0 : Int32), .int ml, .int (nI n)])) :: (b, .inl (ct 2, cap, .inl f)) :: tl) sz) := fun sz =>
  j_metF (Qc := fun A => va_Qi (fun (r : Int32) (_ : Unit) => r = nI z) (fun (u : Unit) => cB D ct A (((a, .inr (7, [.ref b, .int (0 : Int32), .int ml, .int (nI n)])) :: (b, .inl (ct 2, cap, .inl f)) :: tl))) A) (by decide) hG (Nat.le_of_ble_eq_true rfl) (fun p e s m args below meth c A K hr hnm _ => by
    refine j_aload_n K 0 dJ6_charAt_0 rfl rfl ?_
    refine j_get K in_J7 0 rfl rfl 1 (by decide) q249 rfl rfl dJ6_charAt_1 ?_
    refine j_istore_n K [(2, .int (0 : Int32)), (0, .ref a), (1, .int (nI x))] dJ6_charAt_4 rfl (by decide) rfl ?_
    refine j_aload_n K 1 dJ6_charAt_5 rfl rfl ?_
    refine j_get K in_J7 0 rfl rfl 0 (by decide) q248 rfl rfl dJ6_charAt_6 ?_
    refine j_astore_n K [(3, .ref b), (2, .int (0 : Int32)), (0, .ref a), (1, .int (nI x))] dJ6_charAt_9 rfl (by decide) rfl ?_
    refine j_aload_n K 2 dJ6_charAt_10 rfl rfl ?_
    refine j_get K in_J7 0 rfl rfl 3 (by decide) q251 rfl rfl dJ6_charAt_11 ?_
    refine j_aload_n K 0 dJ6_charAt_14 rfl rfl ?_
    refine j_alen K 1 2 rfl rfl (v := nI cap) rfl dJ6_charAt_15 ?_
    refine j_iload_n K 1 dJ6_charAt_16 rfl rfl ?_
    refine j_ishr K dJ6_charAt_17 ?_
    rw [show ((nI cap) >>> ((0 : Int32) &&& 31)) = (nI cap) from (sh0_n (by omega))]
    refine j_callSi K (As := [.int (nI n), .int (nI cap)]) (rest := []) (ctJ4_min (l := l) (D := D) (ct := ct) (G := G) (tl := ((a, .inr (7, [.ref b, .int (0 : Int32), .int ml, .int (nI n)])) :: (b, .inl (ct 2, cap, .inl f)) :: tl)) hG (x := nI n) (y := nI cap)) (lw_S q836 q189 q76 q190) (n := 2) (by decide +kernel) ⟨Nat.le_of_ble_eq_true rfl, Nat.le_of_ble_eq_true rfl⟩ rfl rfl (Nat.le_of_ble_eq_true rfl) dJ6_charAt_18 ⟨by dsimp only; omega, by dsimp only; omega⟩ (fun r18 u18 hq18 => ?_)
    rw [minI_nat hn (by omega) hq18]
    refine j_wsEq (ws' := ((a, .inr (7, [.ref b, .int (0 : Int32), .int ml, .int (nI n)])) :: (b, .inl (ct 2, cap, .inl f)) :: tl)) rfl ?_
    refine j_istore K [(4, .int (nI n)), (3, .ref b), (2, .int (0 : Int32)), (0, .ref a), (1, .int (nI x))] dJ6_charAt_21 (by decide) rfl ?_
    refine j_iload_n K 4 dJ6_charAt_23 rfl rfl ?_
    refine j_iload K 0 dJ6_charAt_24 rfl ?_
    refine j_callSv K (As := [.int (nI x), .int (nI n)]) (rest := []) (ctJ8_checkIndex (l := l) (D := D) (ct := ct) (G := G) (tl := ((a, .inr (7, [.ref b, .int (0 : Int32), .int ml, .int (nI n)])) :: (b, .inl (ct 2, cap, .inl f)) :: tl)) hG hgc hx (by omega)) (lw_S q837 q781 q82 q782) (n := 2) (by decide +kernel) ⟨Nat.le_of_ble_eq_true rfl, Nat.le_of_ble_eq_true rfl⟩ rfl rfl (Nat.le_of_ble_eq_true rfl) dJ6_charAt_26 ⟨by dsimp only; omega, by dsimp only; omega⟩ (fun u26 hq26 => ?_)
    refine j_wsEq (ws' := ((a, .inr (7, [.ref b, .int (0 : Int32), .int ml, .int (nI n)])) :: (b, .inl (ct 2, cap, .inl f)) :: tl)) rfl ?_
    refine j_iload_n K 2 dJ6_charAt_29 rfl rfl ?_
    refine j_if_ne K 42 dJ6_charAt_30 (by decide) (fun hc30 => absurd hc30 (fun q => q rfl)) (fun hc30 => ?_)
    refine j_aload_n K 1 dJ6_charAt_33 rfl rfl ?_
    refine j_iload_n K 4 dJ6_charAt_34 rfl rfl ?_
    refine j_bald K 1 2 rfl rfl (vin (show x < cap by omega) (by omega)) dJ6_charAt_35 ?_
    refine j_sipush K (255 : Int32) dJ6_charAt_36 (by decide) ?_
    refine j_iand K dJ6_charAt_39 ?_
    refine j_i2c K dJ6_charAt_40 ?_
    exact j_cret (wf := fun _ => ((a, .inr (7, [.ref b, .int (0 : Int32), .int ml, .int (nI n)])) :: (b, .inl (ct 2, cap, .inl f)) :: tl)) () K hr rfl (by rw [nI_clamp (by omega), hfx]; exact ch_n hz) (by rw [nI_clamp (by omega), hfx, ch_n hz]; exact ch_nar hz) (by omega) (by omega) dJ6_charAt_41)
theorem ctJ7_charAt {l : Launch} {D : va_G} {ct : Nat → ClassId} {G : gE} {tl : va_W} (hG : gOK G) {a b : Nat} {ml : Int32} {n cap : Nat} {f : Nat → Int32} {x z : Nat} {g : GP} (hgc : gHasC G g) (hx : x < n) (hn : n ≤ cap) (hc9 : cap < 1000000) (hfx : f x = nI z) (hz : z < 128) : ∀ sz, Met l yJ7_charAt (ws_ yJ7_charAt cJ7_charAt 2 (some .char)) { frames := 3, cells := 0, slots := 0, locals := 67 } (va_Pc [.ref a, .int (nI x)] (cPre G D ct ((a, .inr (7, [.ref b, .int (0 : Int32), .int ml, .int (nI n)])) :: (b, .inl (ct 2, cap, .inl f)) :: tl) sz)) (va_Qi (fun (r : Int32) (_ : Unit) => r = nI z) (fun (u : Unit) => cB D ct (va_A ((a, .inr (7, [.ref b, .int (0 : Int32), .int ml, .int (nI n)])) :: (b, .inl (ct 2, cap, .inl f)) :: tl) sz) (((a, .inr (7, [.ref b, .int (0 : Int32), .int ml, .int (nI n)])) :: (b, .inl (ct 2, cap, .inl f)) :: tl))) (va_A ((a, .inr (7, [.ref b, .int (0 : Int32), .int ml, .int (nI n)])) :: (b, .inl (ct 2, cap, .inl f)) :: tl) sz)) 0 0 (va_A ((a, .inr (7, [.ref b, .int (0 : Int32), .int ml, .int (nI n)])) :: (b, .inl (ct 2, cap, .inl f)) :: tl) sz) := fun sz =>
  j_metF (Qc := fun A => va_Qi (fun (r : Int32) (_ : Unit) => r = nI z) (fun (u : Unit) => cB D ct A (((a, .inr (7, [.ref b, .int (0 : Int32), .int ml, .int (nI n)])) :: (b, .inl (ct 2, cap, .inl f)) :: tl))) A) (by decide) hG (Nat.le_of_ble_eq_true rfl) (fun p e s m args below meth c A K hr hnm _ => by
    refine j_aload_n K 0 dJ7_charAt_0 rfl rfl ?_
    refine j_iload_n K 1 dJ7_charAt_1 rfl rfl ?_
    refine j_callSUi_ K (As := [.int (nI x)]) (rest := []) (ctJ6_charAt (l := l) (D := D) (ct := ct) (G := G) (tl := tl) hG hgc hx hn hc9 hfx hz) (lw_SU q833 q1280 q260 q834 q80 q835) (n := 1) (by decide +kernel) ⟨Nat.le_of_ble_eq_true rfl, Nat.le_of_ble_eq_true rfl⟩ 0 rfl rfl rfl rfl rfl (Nat.le_of_ble_eq_true rfl) dJ7_charAt_2 ⟨by dsimp only; omega, by dsimp only; omega⟩ (fun r2 u2 hq2 => ?_)
    refine j_wsEq (ws' := ((a, .inr (7, [.ref b, .int (0 : Int32), .int ml, .int (nI n)])) :: (b, .inl (ct 2, cap, .inl f)) :: tl)) rfl ?_
    exact j_cret (wf := fun _ => ((a, .inr (7, [.ref b, .int (0 : Int32), .int ml, .int (nI n)])) :: (b, .inl (ct 2, cap, .inl f)) :: tl)) () K hr rfl hq2 (by rw [hq2]; exact ch_nar hz) (by omega) (by omega) dJ7_charAt_5)
theorem ctJ6_ensureCapacityInternal_r {l : Launch} {D : va_G} {ct : Nat → ClassId} {G : gE} {tl : va_W} (hG : gOK G) {a b : Nat} {ml : Int32} {n cap : Nat} {f : Nat → Int32} {m_ : Nat} (hm : m_ ≤ cap) (hc9 : cap < 1000000) : ∀ sz, Met l yJ6_ensureCapacityInternal (ws_ yJ6_ensureCapacityInternal cJ6_ensureCapacityInternal 3 none) { frames := 0, cells := 0, slots := 0, locals := 0 } (va_Pc [.ref a, .int (nI m_)] (cPre G D ct ((a, .inr (7, [.ref b, .int (0 : Int32), .int ml, .int (nI n)])) :: (b, .inl (ct 2, cap, .inl f)) :: tl) sz)) (va_Qv (fun _ : Unit => True) (fun (u : Unit) => cB D ct (va_A ((a, .inr (7, [.ref b, .int (0 : Int32), .int ml, .int (nI n)])) :: (b, .inl (ct 2, cap, .inl f)) :: tl) sz) (((a, .inr (7, [.ref b, .int (0 : Int32), .int ml, .int (nI n)])) :: (b, .inl (ct 2, cap, .inl f)) :: tl))) (va_A ((a, .inr (7, [.ref b, .int (0 : Int32), .int ml, .int (nI n)])) :: (b, .inl (ct 2, cap, .inl f)) :: tl) sz)) 0 0 (va_A ((a, .inr (7, [.ref b, .int (0 : Int32), .int ml, .int (nI n)])) :: (b, .inl (ct 2, cap, .inl f)) :: tl) sz) := fun sz =>
  j_metF (Qc := fun A => va_Qv (fun _ : Unit => True) (fun (u : Unit) => cB D ct A (((a, .inr (7, [.ref b, .int (0 : Int32), .int ml, .int (nI n)])) :: (b, .inl (ct 2, cap, .inl f)) :: tl))) A) (by decide) hG (Nat.le_of_ble_eq_true rfl) (fun p e s m args below meth c A K hr hnm _ => by
    refine j_aload_n K 0 dJ6_ensureCapacityInternal_0 rfl rfl ?_
    refine j_get K in_J7 0 rfl rfl 0 (by decide) q248 rfl rfl dJ6_ensureCapacityInternal_1 ?_
    refine j_alen K 1 2 rfl rfl (v := nI cap) rfl dJ6_ensureCapacityInternal_4 ?_
    refine j_aload_n K 0 dJ6_ensureCapacityInternal_5 rfl rfl ?_
    refine j_get K in_J7 0 rfl rfl 1 (by decide) q249 rfl rfl dJ6_ensureCapacityInternal_6 ?_
    refine j_ishr K dJ6_ensureCapacityInternal_9 ?_
    rw [show ((nI cap) >>> ((0 : Int32) &&& 31)) = (nI cap) from (sh0_n (by omega))]
    refine j_istore_n K [(2, .int (nI cap)), (0, .ref a), (1, .int (nI m_))] dJ6_ensureCapacityInternal_10 rfl (by decide) rfl ?_
    refine j_iload_n K 2 dJ6_ensureCapacityInternal_11 rfl rfl ?_
    refine j_iload_n K 0 dJ6_ensureCapacityInternal_12 rfl rfl ?_
    refine j_isub K dJ6_ensureCapacityInternal_13 ?_
    refine j_if_le K 38 dJ6_ensureCapacityInternal_14 (by decide) (fun hc14 => ?_) (fun hc14 => absurd hc14 (fun z => z (subI_le hm (by omega))))
    exact j_vret (wf := fun _ => ((a, .inr (7, [.ref b, .int (0 : Int32), .int ml, .int (nI n)])) :: (b, .inl (ct 2, cap, .inl f)) :: tl)) () K hr rfl trivial (by omega) (by omega) dJ6_ensureCapacityInternal_38)
theorem ctJ5_copyOf_3 {l : Launch} {D : va_G} {ct : Nat → ClassId} {G : gE} {tl : va_W} (hG : gOK G) {b cap N : Nat} {f : Nat → Int32} (hN : cap < N) (hN9 : N < 1000000) (hfB : fBy f cap) : ∀ sz, Met l yJ5_copyOf_3 (ws_ yJ5_copyOf_3 cJ5_copyOf_3 3 (some (.array .byte))) { frames := 1, cells := 1, slots := N, locals := 32 } (va_Pc [.ref b, .int (nI N)] (cPre G D ct ((b, .inl (ct 2, cap, .inl f)) :: tl) sz)) (va_Qq (fun (z : Option Nat) (u : Nat) => z = some u) (fun (u : Nat) => cB D ct (va_A ((b, .inl (ct 2, cap, .inl f)) :: tl) sz) (((u, .inl (ct 2, N, .inl (grF f cap))) :: (b, .inl (ct 2, cap, .inl f)) :: tl))) (va_A ((b, .inl (ct 2, cap, .inl f)) :: tl) sz)) 1 N (va_A ((b, .inl (ct 2, cap, .inl f)) :: tl) sz) := fun sz =>
  j_metF (Qc := fun A => va_Qq (fun (z : Option Nat) (u : Nat) => z = some u) (fun (u : Nat) => cB D ct A (((u, .inl (ct 2, N, .inl (grF f cap))) :: (b, .inl (ct 2, cap, .inl f)) :: tl))) A) (by decide) hG (Nat.le_of_ble_eq_true rfl) (fun p e s m args below meth c A K hr hnm _ => by
    refine j_iload_n K 1 dJ5_copyOf_3_0 rfl rfl ?_
    refine j_aload_n K 0 dJ5_copyOf_3_1 rfl rfl ?_
    refine j_alen K 0 2 rfl rfl (v := nI cap) rfl dJ5_copyOf_3_2 ?_
    refine j_icmp_ne K 14 dJ5_copyOf_3_3 (by decide) (fun hc3 => ?_) (fun hc3 => absurd hc3 (fun z => absurd (nI_inj z (by omega) (by omega)) (by omega)))
    refine j_iload_n K 1 dJ5_copyOf_3_14 rfl rfl ?_
    refine j_newbF K N (nI_nn (by omega)) (nI_clamp (by omega)) (by omega) (by dsimp only; omega) (by dsimp only; omega) dJ5_copyOf_3_15 (fun a1_ => ?_)
    refine j_wsEq (ws' := ((a1_, .inl (ct 2, N, .inl (fun _ => 0))) :: (b, .inl (ct 2, cap, .inl f)) :: tl)) rfl ?_
    refine j_astore_n K [(2, .ref a1_), (0, .ref b), (1, .int (nI N))] dJ5_copyOf_3_17 rfl (by decide) rfl ?_
    refine j_aload_n K 1 dJ5_copyOf_3_18 rfl rfl ?_
    refine j_iconst K (0 : Int32) dJ5_copyOf_3_19 (by decide) ?_
    refine j_aload_n K 0 dJ5_copyOf_3_20 rfl rfl ?_
    refine j_iconst K (0 : Int32) dJ5_copyOf_3_21 (by decide) ?_
    refine j_aload_n K 1 dJ5_copyOf_3_22 rfl rfl ?_
    refine j_alen K 1 2 rfl rfl (v := nI cap) rfl dJ5_copyOf_3_23 ?_
    refine j_iload_n K 2 dJ5_copyOf_3_24 rfl rfl ?_
    refine j_callSi K (As := [.int (nI cap), .int (nI N)]) (rest := [.int (0 : Int32), .ref a1_, .int (0 : Int32), .ref b]) (ctJ4_min (l := l) (D := D) (ct := ct) (G := G) (tl := ((a1_, .inl (ct 2, N, .inl (fun _ => 0))) :: (b, .inl (ct 2, cap, .inl f)) :: tl)) hG (x := nI cap) (y := nI N)) (lw_S q188 q189 q76 q190) (n := 2) (by decide +kernel) ⟨Nat.le_of_ble_eq_true rfl, Nat.le_of_ble_eq_true rfl⟩ rfl rfl (Nat.le_of_ble_eq_true rfl) dJ5_copyOf_3_25 ⟨by dsimp only; omega, by dsimp only; omega⟩ (fun r25 u25 hq25 => ?_)
    rw [minI_nat (Nat.le_of_lt hN) (by omega) hq25]
    refine j_wsEq (ws' := ((a1_, .inl (ct 2, N, .inl (fun _ => 0))) :: (b, .inl (ct 2, cap, .inl f)) :: tl)) rfl ?_
    refine j_copyb K q191 1 0 rfl rfl (by decide) (by decide) (nI_nn (by omega)) (by rw [nI_clamp (by omega)]; show 0 + _ ≤ _; omega) (by rw [nI_clamp (by omega)]; show 0 + _ ≤ _; omega) (fun i hi => hfB _ (by rw [nI_clamp (by omega)] at hi; show 0 + i < cap; omega)) (Nat.le_of_ble_eq_true rfl) (Nat.le_of_ble_eq_true rfl) dJ5_copyOf_3_28 ?_
    refine j_wsEq (ws' := ((a1_, .inl (ct 2, N, .inl (va_cpy f (fun _ => 0) (0 : Int32).toNatClampNeg (0 : Int32).toNatClampNeg (nI cap).toNatClampNeg))) :: (b, .inl (ct 2, cap, .inl f)) :: tl)) rfl ?_
    refine j_aload_n K 0 dJ5_copyOf_3_31 rfl rfl ?_
    refine j_same (ws' := ((a1_, .inl (ct 2, N, .inl (grF f cap))) :: (b, .inl (ct 2, cap, .inl f)) :: tl)) ⟨sameE.ints (fun i _ => by rw [nI_clamp (by omega)]; exact gr_cpy f cap i), sameW.refl _⟩ ?_
    exact j_aretq (wf := fun u => ((u, .inl (ct 2, N, .inl (grF f cap))) :: (b, .inl (ct 2, cap, .inl f)) :: tl)) (r := (some a1_)) a1_ K hr (Or.inr ⟨_, rfl⟩) rfl rfl (by omega) (by omega) dJ5_copyOf_3_32)
theorem ctJ6_newCapacity {l : Launch} {D : va_G} {ct : Nat → ClassId} {G : gE} {tl : va_W} (hG : gOK G) {a b : Nat} {ml : Int32} {n cap : Nat} {f : Nat → Int32} (hc9 : cap < 100000) : ∀ sz, Met l yJ6_newCapacity (ws_ yJ6_newCapacity cJ6_newCapacity 6 (some .int)) { frames := 2, cells := 0, slots := 0, locals := 44 } (va_Pc [.ref a, .int (nI (cap + 1))] (cPre G D ct ((a, .inr (7, [.ref b, .int (0 : Int32), .int ml, .int (nI n)])) :: (b, .inl (ct 2, cap, .inl f)) :: tl) sz)) (va_Qi (fun (x : Int32) (_ : Unit) => x = nI (2 * cap + 2)) (fun (u : Unit) => cB D ct (va_A ((a, .inr (7, [.ref b, .int (0 : Int32), .int ml, .int (nI n)])) :: (b, .inl (ct 2, cap, .inl f)) :: tl) sz) (((a, .inr (7, [.ref b, .int (0 : Int32), .int ml, .int (nI n)])) :: (b, .inl (ct 2, cap, .inl f)) :: tl))) (va_A ((a, .inr (7, [.ref b, .int (0 : Int32), .int ml, .int (nI n)])) :: (b, .inl (ct 2, cap, .inl f)) :: tl) sz)) 0 0 (va_A ((a, .inr (7, [.ref b, .int (0 : Int32), .int ml, .int (nI n)])) :: (b, .inl (ct 2, cap, .inl f)) :: tl) sz) := fun sz =>
  j_metF (Qc := fun A => va_Qi (fun (x : Int32) (_ : Unit) => x = nI (2 * cap + 2)) (fun (u : Unit) => cB D ct A (((a, .inr (7, [.ref b, .int (0 : Int32), .int ml, .int (nI n)])) :: (b, .inl (ct 2, cap, .inl f)) :: tl))) A) (by decide) hG (Nat.le_of_ble_eq_true rfl) (fun p e s m args below meth c A K hr hnm _ => by
    have hmx : cap + max 1 (cap + 2) = 2 * cap + 2 := by omega
    refine j_aload_n K 0 dJ6_newCapacity_0 rfl rfl ?_
    refine j_get K in_J7 0 rfl rfl 0 (by decide) q248 rfl rfl dJ6_newCapacity_1 ?_
    refine j_alen K 1 2 rfl rfl (v := nI cap) rfl dJ6_newCapacity_4 ?_
    refine j_istore_n K [(2, .int (nI cap)), (0, .ref a), (1, .int (nI (cap + 1)))] dJ6_newCapacity_5 rfl (by decide) rfl ?_
    refine j_iload_n K 2 dJ6_newCapacity_6 rfl rfl ?_
    refine j_aload_n K 1 dJ6_newCapacity_7 rfl rfl ?_
    refine j_get K in_J7 0 rfl rfl 1 (by decide) q249 rfl rfl dJ6_newCapacity_8 ?_
    refine j_ishl K dJ6_newCapacity_11 ?_
    rw [show ((nI (cap + 1)) <<< ((0 : Int32) &&& 31)) = (nI (cap + 1)) from (shl0_n (by omega))]
    refine j_istore_n K [(3, .int (nI (cap + 1))), (2, .int (nI cap)), (0, .ref a), (1, .int (nI (cap + 1)))] dJ6_newCapacity_12 rfl (by decide) rfl ?_
    refine j_iload_n K 0 dJ6_newCapacity_13 rfl rfl ?_
    refine j_iload_n K 1 dJ6_newCapacity_14 rfl rfl ?_
    refine j_isub K dJ6_newCapacity_15 ?_
    rw [show ((nI (cap + 1)) - (nI cap)) = (nI 1) from (by rw [sub_n (by omega)]; congr 1; omega)]
    refine j_istore K [(4, .int (nI 1)), (3, .int (nI (cap + 1))), (2, .int (nI cap)), (0, .ref a), (1, .int (nI (cap + 1)))] dJ6_newCapacity_16 (by decide) rfl ?_
    refine j_iload_n K 2 dJ6_newCapacity_18 rfl rfl ?_
    refine j_iload K 0 dJ6_newCapacity_19 rfl ?_
    refine j_iload_n K 2 dJ6_newCapacity_21 rfl rfl ?_
    refine j_iconst K (2 : Int32) dJ6_newCapacity_22 (by decide) ?_
    refine j_aload_n K 3 dJ6_newCapacity_23 rfl rfl ?_
    refine j_get K in_J7 0 rfl rfl 1 (by decide) q249 rfl rfl dJ6_newCapacity_24 ?_
    refine j_ishl K dJ6_newCapacity_27 ?_
    refine j_iadd K dJ6_newCapacity_28 ?_
    rw [show ((nI cap) + ((2 : Int32) <<< ((0 : Int32) &&& 31))) = (nI (cap + 2)) from (by show nI cap + nI 2 = _; exact nI_add _ _)]
    refine j_callSi K (As := [.int (nI cap), .int (nI 1), .int (nI (cap + 2))]) (rest := []) (ctJ3_newLength (l := l) (D := D) (ct := ct) (G := G) (tl := ((a, .inr (7, [.ref b, .int (0 : Int32), .int ml, .int (nI n)])) :: (b, .inl (ct 2, cap, .inl f)) :: tl)) hG (o := cap) (u := 1) (v := cap + 2) (by omega) (by omega)) (lw_S q723 q158 q75 q159) (n := 3) (by decide +kernel) ⟨Nat.le_of_ble_eq_true rfl, Nat.le_of_ble_eq_true rfl⟩ rfl rfl (Nat.le_of_ble_eq_true rfl) dJ6_newCapacity_29 ⟨by dsimp only; omega, by dsimp only; omega⟩ (fun r29 u29 hq29 => ?_)
    rw [hq29, hmx]
    refine j_wsEq (ws' := ((a, .inr (7, [.ref b, .int (0 : Int32), .int ml, .int (nI n)])) :: (b, .inl (ct 2, cap, .inl f)) :: tl)) rfl ?_
    refine j_istore K [(5, .int (nI (2 * cap + 2))), (4, .int (nI 1)), (3, .int (nI (cap + 1))), (2, .int (nI cap)), (0, .ref a), (1, .int (nI (cap + 1)))] dJ6_newCapacity_32 (by decide) rfl ?_
    refine j_iload K 0 dJ6_newCapacity_34 rfl ?_
    refine j_ldc K q724 dJ6_newCapacity_36 ?_
    refine j_icmp_ne K 51 dJ6_newCapacity_38 (by decide) (fun hc38 => ?_) (fun hc38 => absurd hc38 (fun z => absurd (nI_inj (show nI (2 * cap + 2) = nI 2147483647 from z) (by omega) (by omega)) (by omega)))
    refine j_iload K 0 dJ6_newCapacity_51 rfl ?_
    refine j_aload_n K 4 dJ6_newCapacity_53 rfl rfl ?_
    refine j_get K in_J7 0 rfl rfl 1 (by decide) q249 rfl rfl dJ6_newCapacity_54 ?_
    refine j_ishr K dJ6_newCapacity_57 ?_
    rw [show ((nI (2 * cap + 2)) >>> ((0 : Int32) &&& 31)) = (nI (2 * cap + 2)) from (sh0_n (by omega))]
    exact j_iret (wf := fun _ => ((a, .inr (7, [.ref b, .int (0 : Int32), .int ml, .int (nI n)])) :: (b, .inl (ct 2, cap, .inl f)) :: tl)) () K hr rfl rfl (by omega) (by omega) dJ6_newCapacity_58)
theorem ctJ6_ensureCapacityInternal_g {l : Launch} {D : va_G} {ct : Nat → ClassId} {G : gE} {tl : va_W} (hG : gOK G) {a b : Nat} {ml : Int32} {n cap : Nat} {f : Nat → Int32} {g : GP} (hgc : gHasC G g) (hc9 : cap < 100000) (hfB : fBy f cap) : ∀ sz, Met l yJ6_ensureCapacityInternal (ws_ yJ6_ensureCapacityInternal cJ6_ensureCapacityInternal 3 none) { frames := 3, cells := 1, slots := (2 * cap + 2), locals := 69 } (va_Pc [.ref a, .int (nI (cap + 1))] (cPre G D ct ((a, .inr (7, [.ref b, .int (0 : Int32), .int ml, .int (nI n)])) :: (b, .inl (ct 2, cap, .inl f)) :: tl) sz)) (va_Qv (fun _ : Nat => True) (fun (u : Nat) => cB D ct (va_A ((a, .inr (7, [.ref b, .int (0 : Int32), .int ml, .int (nI n)])) :: (b, .inl (ct 2, cap, .inl f)) :: tl) sz) (((a, .inr (7, [.ref u, .int (0 : Int32), .int ml, .int (nI n)])) :: (u, .inl (ct 2, (2 * cap + 2), .inl (grF f cap))) :: tl))) (va_A ((a, .inr (7, [.ref b, .int (0 : Int32), .int ml, .int (nI n)])) :: (b, .inl (ct 2, cap, .inl f)) :: tl) sz)) 1 (2 * cap + 2) (va_A ((a, .inr (7, [.ref b, .int (0 : Int32), .int ml, .int (nI n)])) :: (b, .inl (ct 2, cap, .inl f)) :: tl) sz) := fun sz =>
  j_metF (Qc := fun A => va_Qv (fun _ : Nat => True) (fun (u : Nat) => cB D ct A (((a, .inr (7, [.ref u, .int (0 : Int32), .int ml, .int (nI n)])) :: (u, .inl (ct 2, (2 * cap + 2), .inl (grF f cap))) :: tl))) A) (by decide) hG (Nat.le_of_ble_eq_true rfl) (fun p e s m args below meth c A K hr hnm _ => by
    refine j_aload_n K 0 dJ6_ensureCapacityInternal_0 rfl rfl ?_
    refine j_get K in_J7 0 rfl rfl 0 (by decide) q248 rfl rfl dJ6_ensureCapacityInternal_1 ?_
    refine j_alen K 1 2 rfl rfl (v := nI cap) rfl dJ6_ensureCapacityInternal_4 ?_
    refine j_aload_n K 0 dJ6_ensureCapacityInternal_5 rfl rfl ?_
    refine j_get K in_J7 0 rfl rfl 1 (by decide) q249 rfl rfl dJ6_ensureCapacityInternal_6 ?_
    refine j_ishr K dJ6_ensureCapacityInternal_9 ?_
    rw [show ((nI cap) >>> ((0 : Int32) &&& 31)) = (nI cap) from (sh0_n (by omega))]
    refine j_istore_n K [(2, .int (nI cap)), (0, .ref a), (1, .int (nI (cap + 1)))] dJ6_ensureCapacityInternal_10 rfl (by decide) rfl ?_
    refine j_iload_n K 2 dJ6_ensureCapacityInternal_11 rfl rfl ?_
    refine j_iload_n K 0 dJ6_ensureCapacityInternal_12 rfl rfl ?_
    refine j_isub K dJ6_ensureCapacityInternal_13 ?_
    refine j_if_le K 38 dJ6_ensureCapacityInternal_14 (by decide) (fun hc14 => absurd hc14 (subI_gt (by omega))) (fun hc14 => ?_)
    refine j_aload_n K 1 dJ6_ensureCapacityInternal_17 rfl rfl ?_
    refine j_aload_n K 1 dJ6_ensureCapacityInternal_18 rfl rfl ?_
    refine j_get K in_J7 0 rfl rfl 0 (by decide) q248 rfl rfl dJ6_ensureCapacityInternal_19 ?_
    refine j_aload_n K 1 dJ6_ensureCapacityInternal_22 rfl rfl ?_
    refine j_iload_n K 2 dJ6_ensureCapacityInternal_23 rfl rfl ?_
    refine j_callPi K (As := [.int (nI (cap + 1))]) (rest := [.ref b, .ref a]) (ctJ6_newCapacity (l := l) (D := D) (ct := ct) (G := G) (tl := tl) hG hc9) q722 q719 q1277 q721 q80 (K.pv hgc 1 rfl) (n := 1) (by decide +kernel) ⟨Nat.le_of_ble_eq_true rfl, Nat.le_of_ble_eq_true rfl⟩ 0 rfl rfl rfl rfl rfl (Nat.le_of_ble_eq_true rfl) dJ6_ensureCapacityInternal_24 ⟨by dsimp only; omega, by dsimp only; omega⟩ (fun r24 u24 hq24 => ?_)
    rw [hq24]
    refine j_wsEq (ws' := ((a, .inr (7, [.ref b, .int (0 : Int32), .int ml, .int (nI n)])) :: (b, .inl (ct 2, cap, .inl f)) :: tl)) rfl ?_
    refine j_aload_n K 1 dJ6_ensureCapacityInternal_27 rfl rfl ?_
    refine j_get K in_J7 0 rfl rfl 1 (by decide) q249 rfl rfl dJ6_ensureCapacityInternal_28 ?_
    refine j_ishl K dJ6_ensureCapacityInternal_31 ?_
    rw [show ((nI (2 * cap + 2)) <<< ((0 : Int32) &&& 31)) = (nI (2 * cap + 2)) from (shl0_n (by omega))]
    refine j_wsT [1, 0] (wx := [(a, .inr (7, [.ref b, .int (0 : Int32), .int ml, .int (nI n)])), (b, .inl (ct 2, cap, .inl f))]) (ws' := [(b, .inl (ct 2, cap, .inl f)), (a, .inr (7, [.ref b, .int (0 : Int32), .int ml, .int (nI n)]))]) (tl := tl) rfl rfl ?_
    refine j_wsEq (ws' := ((b, .inl (ct 2, cap, .inl f)) :: (a, .inr (7, [.ref b, .int (0 : Int32), .int ml, .int (nI n)])) :: tl)) rfl ?_
    refine j_callSq K (As := [.ref b, .int (nI (2 * cap + 2))]) (rest := [.ref a]) (ctJ5_copyOf_3 (l := l) (D := D) (ct := ct) (G := G) (tl := ((a, .inr (7, [.ref b, .int (0 : Int32), .int ml, .int (nI n)])) :: tl)) hG (N := (2 * cap + 2)) (by omega) (by omega) hfB) (lw_S q725 q726 q77 q727) (n := 2) (by decide +kernel) ⟨Nat.le_of_ble_eq_true rfl, Nat.le_of_ble_eq_true rfl⟩ rfl rfl (Nat.le_of_ble_eq_true rfl) dJ6_ensureCapacityInternal_32 ⟨by dsimp only; omega, by dsimp only; omega⟩ (fun r32 u32 hq32 => ?_)
    rw [hq32]
    show jJ p l e _ s m args below meth c _ A D _ _ _ _ _ _ (.ref u32 :: _)
    refine j_wsEq (ws' := ((u32, .inl (ct 2, (2 * cap + 2), .inl (grF f cap))) :: (b, .inl (ct 2, cap, .inl f)) :: (a, .inr (7, [.ref b, .int (0 : Int32), .int ml, .int (nI n)])) :: tl)) rfl ?_
    refine j_put K in_J7 tyJ7 tyJ7_ok nmJ7 2 rfl rfl 0 (by decide) q248 rfl rfl (ty := .array .byte) (by decide +kernel) rfl rfl (Nat.le_of_ble_eq_true rfl) dJ6_ensureCapacityInternal_35 ?_
    refine j_wsEq (ws' := ((u32, .inl (ct 2, (2 * cap + 2), .inl (grF f cap))) :: (b, .inl (ct 2, cap, .inl f)) :: (a, .inr (7, [.ref u32, .int (0 : Int32), .int ml, .int (nI n)])) :: tl)) rfl ?_
    refine j_wsT [2, 0] (wx := [(u32, .inl (ct 2, (2 * cap + 2), .inl (grF f cap))), (b, .inl (ct 2, cap, .inl f)), (a, .inr (7, [.ref u32, .int (0 : Int32), .int ml, .int (nI n)]))]) (ws' := [(a, .inr (7, [.ref u32, .int (0 : Int32), .int ml, .int (nI n)])), (u32, .inl (ct 2, (2 * cap + 2), .inl (grF f cap)))]) (tl := tl) rfl rfl ?_
    exact j_vret (wf := fun u => ((a, .inr (7, [.ref u, .int (0 : Int32), .int ml, .int (nI n)])) :: (u, .inl (ct 2, (2 * cap + 2), .inl (grF f cap))) :: tl)) u32 K hr rfl trivial (by omega) (by omega) dJ6_ensureCapacityInternal_38)
theorem ctJ6_append_r {l : Launch} {D : va_G} {ct : Nat → ClassId} {G : gE} {tl : va_W} (hG : gOK G) {a b : Nat} {ml : Int32} {n cap : Nat} {f : Nat → Int32} {z : Nat} {g : GP} (hgc : gHasC G g) (hlt : n < cap) (hc9 : cap < 1000000) (hz : z < 128) : ∀ sz, Met l yJ6_append (ws_ yJ6_append cJ6_append 2 (some (.object "java/lang/AbstractStringBuilder"))) { frames := 1, cells := 0, slots := 0, locals := 22 } (va_Pc [.ref a, .int (nI z)] (cPre G D ct ((a, .inr (7, [.ref b, .int (0 : Int32), .int ml, .int (nI n)])) :: (b, .inl (ct 2, cap, .inl f)) :: tl) sz)) (va_Qq (fun (x : Option Nat) (_ : Unit) => x = some a) (fun (u : Unit) => cB D ct (va_A ((a, .inr (7, [.ref b, .int (0 : Int32), .int ml, .int (nI n)])) :: (b, .inl (ct 2, cap, .inl f)) :: tl) sz) ((sbW ct a b ml cap (upd f n (nI z)) (n + 1) ++ tl))) (va_A ((a, .inr (7, [.ref b, .int (0 : Int32), .int ml, .int (nI n)])) :: (b, .inl (ct 2, cap, .inl f)) :: tl) sz)) 0 0 (va_A ((a, .inr (7, [.ref b, .int (0 : Int32), .int ml, .int (nI n)])) :: (b, .inl (ct 2, cap, .inl f)) :: tl) sz) := fun sz =>
  j_metF (Qc := fun A => va_Qq (fun (x : Option Nat) (_ : Unit) => x = some a) (fun (u : Unit) => cB D ct A ((sbW ct a b ml cap (upd f n (nI z)) (n + 1) ++ tl))) A) (by decide) hG (Nat.le_of_ble_eq_true rfl) (fun p e s m args below meth c A K hr hnm _ => by
    refine j_aload_n K 0 dJ6_append_0 rfl rfl ?_
    refine j_aload_n K 0 dJ6_append_1 rfl rfl ?_
    refine j_get K in_J7 0 rfl rfl 3 (by decide) q251 rfl rfl dJ6_append_2 ?_
    refine j_iconst K (1 : Int32) dJ6_append_5 (by decide) ?_
    refine j_iadd K dJ6_append_6 ?_
    rw [show ((nI n) + (1 : Int32)) = (nI (n + 1)) from (nI_up _)]
    refine j_callPv K (As := [.int (nI (n + 1))]) (rest := []) (ctJ6_ensureCapacityInternal_r (l := l) (D := D) (ct := ct) (G := G) (tl := tl) hG (m_ := n + 1) (by omega) hc9) q718 q715 q1276 q717 q80 (K.pv hgc 0 rfl) (n := 1) (by decide +kernel) ⟨Nat.le_of_ble_eq_true rfl, Nat.le_of_ble_eq_true rfl⟩ 0 rfl rfl rfl rfl rfl (Nat.le_of_ble_eq_true rfl) dJ6_append_7 ⟨by dsimp only; omega, by dsimp only; omega⟩ (fun u7 hq7 => ?_)
    refine j_wsEq (ws' := ((a, .inr (7, [.ref b, .int (0 : Int32), .int ml, .int (nI n)])) :: (b, .inl (ct 2, cap, .inl f)) :: tl)) rfl ?_
    refine j_aload_n K 0 dJ6_append_10 rfl rfl ?_
    refine j_callUi K (As := []) (rest := []) (ctJ6_isLatin1 (l := l) (D := D) (ct := ct) (G := G) (tl := tl) hG hgc) (x := ⟨"java/lang/AbstractStringBuilder", "isLatin1", "()Z"⟩) (lw_U q733 q735 q736 q734 q80 q737) rfl (n := 0) (by decide +kernel) ⟨Nat.le_of_ble_eq_true rfl, Nat.le_of_ble_eq_true rfl⟩ 0 rfl rfl rfl rfl rfl (Nat.le_of_ble_eq_true rfl) dJ6_append_11 ⟨by dsimp only; omega, by dsimp only; omega⟩ (fun r11 u11 hq11 => ?_)
    rw [hq11]
    refine j_wsEq (ws' := ((a, .inr (7, [.ref b, .int (0 : Int32), .int ml, .int (nI n)])) :: (b, .inl (ct 2, cap, .inl f)) :: tl)) rfl ?_
    refine j_if_eq K 45 dJ6_append_14 (by decide) (fun hc14 => absurd hc14 (by decide)) (fun hc14 => ?_)
    refine j_iload_n K 1 dJ6_append_17 rfl rfl ?_
    refine j_callSi K (As := [.int (nI z)]) (rest := []) (ctJ14_canEncode (l := l) (D := D) (ct := ct) (G := G) (tl := ((a, .inr (7, [.ref b, .int (0 : Int32), .int ml, .int (nI n)])) :: (b, .inl (ct 2, cap, .inl f)) :: tl)) hG hz) (lw_S q738 q739 q92 q740) (n := 1) (by decide +kernel) ⟨Nat.le_of_ble_eq_true rfl, Nat.le_of_ble_eq_true rfl⟩ rfl rfl (Nat.le_of_ble_eq_true rfl) dJ6_append_18 ⟨by dsimp only; omega, by dsimp only; omega⟩ (fun r18 u18 hq18 => ?_)
    rw [hq18]
    refine j_wsEq (ws' := ((a, .inr (7, [.ref b, .int (0 : Int32), .int ml, .int (nI n)])) :: (b, .inl (ct 2, cap, .inl f)) :: tl)) rfl ?_
    refine j_if_eq K 45 dJ6_append_21 (by decide) (fun hc21 => absurd hc21 (by decide)) (fun hc21 => ?_)
    refine j_aload_n K 0 dJ6_append_24 rfl rfl ?_
    refine j_get K in_J7 0 rfl rfl 0 (by decide) q248 rfl rfl dJ6_append_25 ?_
    refine j_aload_n K 0 dJ6_append_28 rfl rfl ?_
    refine j_dup K dJ6_append_29 rfl ?_
    refine j_get K in_J7 0 rfl rfl 3 (by decide) q251 rfl rfl dJ6_append_30 ?_
    refine j_dup_x1 K dJ6_append_33 rfl rfl ?_
    refine j_iconst K (1 : Int32) dJ6_append_34 (by decide) ?_
    refine j_iadd K dJ6_append_35 ?_
    refine j_put K in_J7 tyJ7 tyJ7_ok nmJ7 0 rfl rfl 3 (by decide) q251 rfl rfl (ty := .int) (by decide +kernel) rfl rfl (Nat.le_of_ble_eq_true rfl) dJ6_append_36 ?_
    refine j_wsEq (ws' := ((a, .inr (7, [.ref b, .int (0 : Int32), .int ml, .int ((nI n) + (1 : Int32))])) :: (b, .inl (ct 2, cap, .inl f)) :: tl)) rfl ?_
    refine j_iload_n K 1 dJ6_append_39 rfl rfl ?_
    refine j_i2b K dJ6_append_40 ?_
    rw [show ((nI z).toInt8.toInt32) = (nI z) from (i2b_n hz)]
    refine j_bast K 1 rfl (vin (show n < cap by omega) (by omega)) dJ6_append_41 ?_
    refine j_wsEq (ws' := ((a, .inr (7, [.ref b, .int (0 : Int32), .int ml, .int ((nI n) + (1 : Int32))])) :: (b, .inl (ct 2, cap, .inl (upd f (nI n).toNatClampNeg (vp_nar .byte (nI z))))) :: tl)) rfl ?_
    refine j_goto K 75 dJ6_append_42 (by decide) ?_
    refine j_aload_n K 0 dJ6_append_75 rfl rfl ?_
    refine j_same (ws' := (sbW ct a b ml cap (upd f n (nI z)) (n + 1) ++ tl)) ⟨sameE.obj (by rw [nI_up]), sameE.ints (fun i _ => by rw [nI_clamp (by omega), nar_n hz]), sameW.refl _⟩ ?_
    exact j_aretq (wf := fun _ => (sbW ct a b ml cap (upd f n (nI z)) (n + 1) ++ tl)) (r := (some a)) () K hr (Or.inl ⟨_, rfl⟩) rfl rfl (by omega) (by omega) dJ6_append_76)
theorem ctJ7_append_r {l : Launch} {D : va_G} {ct : Nat → ClassId} {G : gE} {tl : va_W} (hG : gOK G) {a b : Nat} {ml : Int32} {n cap : Nat} {f : Nat → Int32} {z : Nat} {g : GP} (hgc : gHasC G g) (hlt : n < cap) (hc9 : cap < 1000000) (hz : z < 128) : ∀ sz, Met l yJ7_append (ws_ yJ7_append cJ7_append 2 (some (.object "java/lang/StringBuilder"))) { frames := 5, cells := 0, slots := 0, locals := 112 } (va_Pc [.ref a, .int (nI z)] (cPre G D ct ((a, .inr (7, [.ref b, .int (0 : Int32), .int ml, .int (nI n)])) :: (b, .inl (ct 2, cap, .inl f)) :: tl) sz)) (va_Qq (fun (x : Option Nat) (_ : Unit) => x = some a) (fun (u : Unit) => cB D ct (va_A ((a, .inr (7, [.ref b, .int (0 : Int32), .int ml, .int (nI n)])) :: (b, .inl (ct 2, cap, .inl f)) :: tl) sz) ((sbW ct a b ml cap (upd f n (nI z)) (n + 1) ++ tl))) (va_A ((a, .inr (7, [.ref b, .int (0 : Int32), .int ml, .int (nI n)])) :: (b, .inl (ct 2, cap, .inl f)) :: tl) sz)) 0 0 (va_A ((a, .inr (7, [.ref b, .int (0 : Int32), .int ml, .int (nI n)])) :: (b, .inl (ct 2, cap, .inl f)) :: tl) sz) := fun sz =>
  j_metF (Qc := fun A => va_Qq (fun (x : Option Nat) (_ : Unit) => x = some a) (fun (u : Unit) => cB D ct A ((sbW ct a b ml cap (upd f n (nI z)) (n + 1) ++ tl))) A) (by decide) hG (Nat.le_of_ble_eq_true rfl) (fun p e s m args below meth c A K hr hnm _ => by
    refine j_aload_n K 0 dJ7_append_0 rfl rfl ?_
    refine j_iload_n K 1 dJ7_append_1 rfl rfl ?_
    refine j_callSUq_ K (As := [.int (nI z)]) (rest := []) (ctJ6_append_r (l := l) (D := D) (ct := ct) (G := G) (tl := tl) hG hgc hlt hc9 hz) (lw_SU q712 q1275 q260 q713 q80 q714) (n := 1) (by decide +kernel) ⟨Nat.le_of_ble_eq_true rfl, Nat.le_of_ble_eq_true rfl⟩ 0 rfl rfl rfl rfl rfl (Nat.le_of_ble_eq_true rfl) dJ7_append_2 ⟨by dsimp only; omega, by dsimp only; omega⟩ (fun r2 u2 hq2 => ?_)
    rw [hq2]
    show jJ p l e _ s m args below meth c _ A D _ _ _ _ _ _ (.ref a :: _)
    refine j_pop K dJ7_append_5 rfl ?_
    refine j_aload_n K 0 dJ7_append_6 rfl rfl ?_
    exact j_aretq (wf := fun _ => (sbW ct a b ml cap (upd f n (nI z)) (n + 1) ++ tl)) (r := (some a)) u2 K hr (Or.inl ⟨_, rfl⟩) rfl rfl (by omega) (by omega) dJ7_append_7)
theorem ctJ6_append_g {l : Launch} {D : va_G} {ct : Nat → ClassId} {G : gE} {tl : va_W} (hG : gOK G) {a b : Nat} {ml : Int32} {n cap : Nat} {f : Nat → Int32} {z : Nat} {g : GP} (hgc : gHasC G g) (hfull : n = cap) (hc9 : cap < 100000) (hfB : fBy f cap) (hz : z < 128) : ∀ sz, Met l yJ6_append (ws_ yJ6_append cJ6_append 2 (some (.object "java/lang/AbstractStringBuilder"))) { frames := 4, cells := 1, slots := (2 * cap + 2), locals := 91 } (va_Pc [.ref a, .int (nI z)] (cPre G D ct ((a, .inr (7, [.ref b, .int (0 : Int32), .int ml, .int (nI n)])) :: (b, .inl (ct 2, cap, .inl f)) :: tl) sz)) (va_Qq (fun (x : Option Nat) (_ : Nat) => x = some a) (fun (u : Nat) => cB D ct (va_A ((a, .inr (7, [.ref b, .int (0 : Int32), .int ml, .int (nI n)])) :: (b, .inl (ct 2, cap, .inl f)) :: tl) sz) ((sbW ct a u ml (2 * cap + 2) (upd (grF f cap) n (nI z)) (n + 1) ++ tl))) (va_A ((a, .inr (7, [.ref b, .int (0 : Int32), .int ml, .int (nI n)])) :: (b, .inl (ct 2, cap, .inl f)) :: tl) sz)) 1 (2 * cap + 2) (va_A ((a, .inr (7, [.ref b, .int (0 : Int32), .int ml, .int (nI n)])) :: (b, .inl (ct 2, cap, .inl f)) :: tl) sz) := fun sz =>
  j_metF (Qc := fun A => va_Qq (fun (x : Option Nat) (_ : Nat) => x = some a) (fun (u : Nat) => cB D ct A ((sbW ct a u ml (2 * cap + 2) (upd (grF f cap) n (nI z)) (n + 1) ++ tl))) A) (by decide) hG (Nat.le_of_ble_eq_true rfl) (fun p e s m args below meth c A K hr hnm _ => by
    refine j_aload_n K 0 dJ6_append_0 rfl rfl ?_
    refine j_aload_n K 0 dJ6_append_1 rfl rfl ?_
    refine j_get K in_J7 0 rfl rfl 3 (by decide) q251 rfl rfl dJ6_append_2 ?_
    refine j_iconst K (1 : Int32) dJ6_append_5 (by decide) ?_
    refine j_iadd K dJ6_append_6 ?_
    rw [show ((nI n) + (1 : Int32)) = (nI (cap + 1)) from (by rw [hfull]; exact nI_up _)]
    refine j_callPv K (As := [.int (nI (cap + 1))]) (rest := []) (ctJ6_ensureCapacityInternal_g (l := l) (D := D) (ct := ct) (G := G) (tl := tl) hG hgc hc9 hfB) q718 q715 q1276 q717 q80 (K.pv hgc 0 rfl) (n := 1) (by decide +kernel) ⟨Nat.le_of_ble_eq_true rfl, Nat.le_of_ble_eq_true rfl⟩ 0 rfl rfl rfl rfl rfl (Nat.le_of_ble_eq_true rfl) dJ6_append_7 ⟨by dsimp only; omega, by dsimp only; omega⟩ (fun u7 hq7 => ?_)
    refine j_wsEq (ws' := ((a, .inr (7, [.ref u7, .int (0 : Int32), .int ml, .int (nI n)])) :: (u7, .inl (ct 2, (2 * cap + 2), .inl (grF f cap))) :: tl)) rfl ?_
    refine j_aload_n K 0 dJ6_append_10 rfl rfl ?_
    refine j_callUi K (As := []) (rest := []) (ctJ6_isLatin1 (l := l) (D := D) (ct := ct) (G := G) (tl := tl) hG hgc) (x := ⟨"java/lang/AbstractStringBuilder", "isLatin1", "()Z"⟩) (lw_U q733 q735 q736 q734 q80 q737) rfl (n := 0) (by decide +kernel) ⟨Nat.le_of_ble_eq_true rfl, Nat.le_of_ble_eq_true rfl⟩ 0 rfl rfl rfl rfl rfl (Nat.le_of_ble_eq_true rfl) dJ6_append_11 ⟨by dsimp only; omega, by dsimp only; omega⟩ (fun r11 u11 hq11 => ?_)
    rw [hq11]
    refine j_wsEq (ws' := ((a, .inr (7, [.ref u7, .int (0 : Int32), .int ml, .int (nI n)])) :: (u7, .inl (ct 2, (2 * cap + 2), .inl (grF f cap))) :: tl)) rfl ?_
    refine j_if_eq K 45 dJ6_append_14 (by decide) (fun hc14 => absurd hc14 (by decide)) (fun hc14 => ?_)
    refine j_iload_n K 1 dJ6_append_17 rfl rfl ?_
    refine j_callSi K (As := [.int (nI z)]) (rest := []) (ctJ14_canEncode (l := l) (D := D) (ct := ct) (G := G) (tl := ((a, .inr (7, [.ref u7, .int (0 : Int32), .int ml, .int (nI n)])) :: (u7, .inl (ct 2, (2 * cap + 2), .inl (grF f cap))) :: tl)) hG hz) (lw_S q738 q739 q92 q740) (n := 1) (by decide +kernel) ⟨Nat.le_of_ble_eq_true rfl, Nat.le_of_ble_eq_true rfl⟩ rfl rfl (Nat.le_of_ble_eq_true rfl) dJ6_append_18 ⟨by dsimp only; omega, by dsimp only; omega⟩ (fun r18 u18 hq18 => ?_)
    rw [hq18]
    refine j_wsEq (ws' := ((a, .inr (7, [.ref u7, .int (0 : Int32), .int ml, .int (nI n)])) :: (u7, .inl (ct 2, (2 * cap + 2), .inl (grF f cap))) :: tl)) rfl ?_
    refine j_if_eq K 45 dJ6_append_21 (by decide) (fun hc21 => absurd hc21 (by decide)) (fun hc21 => ?_)
    refine j_aload_n K 0 dJ6_append_24 rfl rfl ?_
    refine j_get K in_J7 0 rfl rfl 0 (by decide) q248 rfl rfl dJ6_append_25 ?_
    refine j_aload_n K 0 dJ6_append_28 rfl rfl ?_
    refine j_dup K dJ6_append_29 rfl ?_
    refine j_get K in_J7 0 rfl rfl 3 (by decide) q251 rfl rfl dJ6_append_30 ?_
    refine j_dup_x1 K dJ6_append_33 rfl rfl ?_
    refine j_iconst K (1 : Int32) dJ6_append_34 (by decide) ?_
    refine j_iadd K dJ6_append_35 ?_
    refine j_put K in_J7 tyJ7 tyJ7_ok nmJ7 0 rfl rfl 3 (by decide) q251 rfl rfl (ty := .int) (by decide +kernel) rfl rfl (Nat.le_of_ble_eq_true rfl) dJ6_append_36 ?_
    refine j_wsEq (ws' := ((a, .inr (7, [.ref u7, .int (0 : Int32), .int ml, .int ((nI n) + (1 : Int32))])) :: (u7, .inl (ct 2, (2 * cap + 2), .inl (grF f cap))) :: tl)) rfl ?_
    refine j_iload_n K 1 dJ6_append_39 rfl rfl ?_
    refine j_i2b K dJ6_append_40 ?_
    rw [show ((nI z).toInt8.toInt32) = (nI z) from (i2b_n hz)]
    refine j_bast K 1 rfl (vin (show n < (2 * cap + 2) by omega) (by omega)) dJ6_append_41 ?_
    refine j_wsEq (ws' := ((a, .inr (7, [.ref u7, .int (0 : Int32), .int ml, .int ((nI n) + (1 : Int32))])) :: (u7, .inl (ct 2, (2 * cap + 2), .inl (upd (grF f cap) (nI n).toNatClampNeg (vp_nar .byte (nI z))))) :: tl)) rfl ?_
    refine j_goto K 75 dJ6_append_42 (by decide) ?_
    refine j_aload_n K 0 dJ6_append_75 rfl rfl ?_
    refine j_same (ws' := (sbW ct a u7 ml (2 * cap + 2) (upd (grF f cap) n (nI z)) (n + 1) ++ tl)) ⟨sameE.obj (by rw [nI_up]), sameE.ints (fun i _ => by rw [nI_clamp (by omega), nar_n hz]), sameW.refl _⟩ ?_
    exact j_aretq (wf := fun u => (sbW ct a u ml (2 * cap + 2) (upd (grF f cap) n (nI z)) (n + 1) ++ tl)) (r := (some a)) u7 K hr (Or.inl ⟨_, rfl⟩) rfl rfl (by omega) (by omega) dJ6_append_76)
theorem ctJ7_append_g {l : Launch} {D : va_G} {ct : Nat → ClassId} {G : gE} {tl : va_W} (hG : gOK G) {a b : Nat} {ml : Int32} {n cap : Nat} {f : Nat → Int32} {z : Nat} {g : GP} (hgc : gHasC G g) (hfull : n = cap) (hc9 : cap < 100000) (hfB : fBy f cap) (hz : z < 128) : ∀ sz, Met l yJ7_append (ws_ yJ7_append cJ7_append 2 (some (.object "java/lang/StringBuilder"))) { frames := 5, cells := 1, slots := (2 * cap + 2), locals := 112 } (va_Pc [.ref a, .int (nI z)] (cPre G D ct ((a, .inr (7, [.ref b, .int (0 : Int32), .int ml, .int (nI n)])) :: (b, .inl (ct 2, cap, .inl f)) :: tl) sz)) (va_Qq (fun (x : Option Nat) (_ : Nat) => x = some a) (fun (u : Nat) => cB D ct (va_A ((a, .inr (7, [.ref b, .int (0 : Int32), .int ml, .int (nI n)])) :: (b, .inl (ct 2, cap, .inl f)) :: tl) sz) ((sbW ct a u ml (2 * cap + 2) (upd (grF f cap) n (nI z)) (n + 1) ++ tl))) (va_A ((a, .inr (7, [.ref b, .int (0 : Int32), .int ml, .int (nI n)])) :: (b, .inl (ct 2, cap, .inl f)) :: tl) sz)) 1 (2 * cap + 2) (va_A ((a, .inr (7, [.ref b, .int (0 : Int32), .int ml, .int (nI n)])) :: (b, .inl (ct 2, cap, .inl f)) :: tl) sz) := fun sz =>
  j_metF (Qc := fun A => va_Qq (fun (x : Option Nat) (_ : Nat) => x = some a) (fun (u : Nat) => cB D ct A ((sbW ct a u ml (2 * cap + 2) (upd (grF f cap) n (nI z)) (n + 1) ++ tl))) A) (by decide) hG (Nat.le_of_ble_eq_true rfl) (fun p e s m args below meth c A K hr hnm _ => by
    refine j_aload_n K 0 dJ7_append_0 rfl rfl ?_
    refine j_iload_n K 1 dJ7_append_1 rfl rfl ?_
    refine j_callSUq_ K (As := [.int (nI z)]) (rest := []) (ctJ6_append_g (l := l) (D := D) (ct := ct) (G := G) (tl := tl) hG hgc hfull hc9 hfB hz) (lw_SU q712 q1275 q260 q713 q80 q714) (n := 1) (by decide +kernel) ⟨Nat.le_of_ble_eq_true rfl, Nat.le_of_ble_eq_true rfl⟩ 0 rfl rfl rfl rfl rfl (Nat.le_of_ble_eq_true rfl) dJ7_append_2 ⟨by dsimp only; omega, by dsimp only; omega⟩ (fun r2 u2 hq2 => ?_)
    rw [hq2]
    show jJ p l e _ s m args below meth c _ A D _ _ _ _ _ _ (.ref a :: _)
    refine j_pop K dJ7_append_5 rfl ?_
    refine j_aload_n K 0 dJ7_append_6 rfl rfl ?_
    exact j_aretq (wf := fun u => (sbW ct a u ml (2 * cap + 2) (upd (grF f cap) n (nI z)) (n + 1) ++ tl)) (r := (some a)) u2 K hr (Or.inl ⟨_, rfl⟩) rfl rfl (by omega) (by omega) dJ7_append_7)
theorem ctJ6_setLength {l : Launch} {D : va_G} {ct : Nat → ClassId} {G : gE} {tl : va_W} (hG : gOK G) {a b : Nat} {ml : Int32} {n cap : Nat} {f : Nat → Int32} {g : GP} (hgc : gHasC G g) (hn : n ≤ cap) (hc9 : cap < 1000000) : ∀ sz, Met l yJ6_setLength (ws_ yJ6_setLength cJ6_setLength 2 none) { frames := 1, cells := 0, slots := 0, locals := 22 } (va_Pc [.ref a, .int (0 : Int32)] (cPre G D ct ((a, .inr (7, [.ref b, .int (0 : Int32), .int ml, .int (nI n)])) :: (b, .inl (ct 2, cap, .inl f)) :: tl) sz)) (va_Qv (fun _ : Int32 => True) (fun (u : Int32) => cB D ct (va_A ((a, .inr (7, [.ref b, .int (0 : Int32), .int ml, .int (nI n)])) :: (b, .inl (ct 2, cap, .inl f)) :: tl) sz) ((sbW ct a b u cap f 0 ++ tl))) (va_A ((a, .inr (7, [.ref b, .int (0 : Int32), .int ml, .int (nI n)])) :: (b, .inl (ct 2, cap, .inl f)) :: tl) sz)) 0 0 (va_A ((a, .inr (7, [.ref b, .int (0 : Int32), .int ml, .int (nI n)])) :: (b, .inl (ct 2, cap, .inl f)) :: tl) sz) := fun sz =>
  j_metF (Qc := fun A => va_Qv (fun _ : Int32 => True) (fun (u : Int32) => cB D ct A ((sbW ct a b u cap f 0 ++ tl))) A) (by decide) hG (Nat.le_of_ble_eq_true rfl) (fun p e s m args below meth c A K hr hnm _ => by
    refine j_iload_n K 1 dJ6_setLength_0 rfl rfl ?_
    refine j_if_ge K 13 dJ6_setLength_1 (by decide) (fun hc1 => ?_) (fun hc1 => absurd hc1 (by decide))
    refine j_aload_n K 0 dJ6_setLength_13 rfl rfl ?_
    refine j_iload_n K 1 dJ6_setLength_14 rfl rfl ?_
    refine j_callPv K (As := [.int (0 : Int32)]) (rest := []) (ctJ6_ensureCapacityInternal_r (l := l) (D := D) (ct := ct) (G := G) (tl := tl) hG (m_ := 0) (Nat.zero_le _) hc9) q718 q715 q1276 q717 q80 (K.pv hgc 0 rfl) (n := 1) (by decide +kernel) ⟨Nat.le_of_ble_eq_true rfl, Nat.le_of_ble_eq_true rfl⟩ 0 rfl rfl rfl rfl rfl (Nat.le_of_ble_eq_true rfl) dJ6_setLength_15 ⟨by dsimp only; omega, by dsimp only; omega⟩ (fun u7 hq7 => ?_)
    refine j_wsEq (ws' := ((a, .inr (7, [.ref b, .int (0 : Int32), .int ml, .int (nI n)])) :: (b, .inl (ct 2, cap, .inl f)) :: tl)) rfl ?_
    refine j_aload_n K 0 dJ6_setLength_18 rfl rfl ?_
    refine j_get K in_J7 0 rfl rfl 3 (by decide) q251 rfl rfl dJ6_setLength_19 ?_
    refine j_iload_n K 1 dJ6_setLength_22 rfl rfl ?_
    refine j_icmp_ge K 63 dJ6_setLength_23 (by decide) (fun hc23 => ?_) (fun hc23 => absurd hc23 (fun z => z ((nI_leI (show 0 < 2147483648 by decide) (by omega)).mpr (Nat.zero_le _))))
    refine j_aload_n K 0 dJ6_setLength_63 rfl rfl ?_
    refine j_get K in_J7 0 rfl rfl 3 (by decide) q251 rfl rfl dJ6_setLength_64 ?_
    refine j_iload_n K 1 dJ6_setLength_67 rfl rfl ?_
    refine j_icmp_le K 76 dJ6_setLength_68 (by decide) (fun hc68 => ?_) (fun hc68 => ?_)
    · refine j_aload_n K 0 dJ6_setLength_76 rfl rfl ?_
      refine j_iload_n K 1 dJ6_setLength_77 rfl rfl ?_
      refine j_put K in_J7 tyJ7 tyJ7_ok nmJ7 0 rfl rfl 3 (by decide) q251 rfl rfl (ty := .int) (by decide +kernel) rfl rfl (Nat.le_of_ble_eq_true rfl) dJ6_setLength_78 ?_
      refine j_wsEq (ws' := ((a, .inr (7, [.ref b, .int (0 : Int32), .int ml, .int (0 : Int32)])) :: (b, .inl (ct 2, cap, .inl f)) :: tl)) rfl ?_
      exact j_vret (wf := fun (u : Int32) => (sbW ct a b u cap f 0 ++ tl)) ml K hr rfl trivial (by omega) (by omega) dJ6_setLength_81
    · refine j_aload_n K 0 dJ6_setLength_71 rfl rfl ?_
      refine j_iconst K (1 : Int32) dJ6_setLength_72 (by decide) ?_
      refine j_put K in_J7 tyJ7 tyJ7_ok nmJ7 0 rfl rfl 2 (by decide) q250 rfl rfl (ty := .boolean) (by decide +kernel) rfl rfl (Nat.le_of_ble_eq_true rfl) dJ6_setLength_73 ?_
      refine j_wsEq (ws' := ((a, .inr (7, [.ref b, .int (0 : Int32), .int (1 : Int32), .int (nI n)])) :: (b, .inl (ct 2, cap, .inl f)) :: tl)) rfl ?_
      refine j_aload_n K 0 dJ6_setLength_76 rfl rfl ?_
      refine j_iload_n K 1 dJ6_setLength_77 rfl rfl ?_
      refine j_put K in_J7 tyJ7 tyJ7_ok nmJ7 0 rfl rfl 3 (by decide) q251 rfl rfl (ty := .int) (by decide +kernel) rfl rfl (Nat.le_of_ble_eq_true rfl) dJ6_setLength_78 ?_
      refine j_wsEq (ws' := ((a, .inr (7, [.ref b, .int (0 : Int32), .int (1 : Int32), .int (0 : Int32)])) :: (b, .inl (ct 2, cap, .inl f)) :: tl)) rfl ?_
      exact j_vret (wf := fun (u : Int32) => (sbW ct a b u cap f 0 ++ tl)) (1 : Int32) K hr rfl trivial (by omega) (by omega) dJ6_setLength_81)
theorem ctJ7_setLength {l : Launch} {D : va_G} {ct : Nat → ClassId} {G : gE} {tl : va_W} (hG : gOK G) {a b : Nat} {ml : Int32} {n cap : Nat} {f : Nat → Int32} {g : GP} (hgc : gHasC G g) (hn : n ≤ cap) (hc9 : cap < 1000000) : ∀ sz, Met l yJ7_setLength (ws_ yJ7_setLength cJ7_setLength 2 none) { frames := 2, cells := 0, slots := 0, locals := 43 } (va_Pc [.ref a, .int (0 : Int32)] (cPre G D ct ((a, .inr (7, [.ref b, .int (0 : Int32), .int ml, .int (nI n)])) :: (b, .inl (ct 2, cap, .inl f)) :: tl) sz)) (va_Qv (fun _ : Int32 => True) (fun (u : Int32) => cB D ct (va_A ((a, .inr (7, [.ref b, .int (0 : Int32), .int ml, .int (nI n)])) :: (b, .inl (ct 2, cap, .inl f)) :: tl) sz) ((sbW ct a b u cap f 0 ++ tl))) (va_A ((a, .inr (7, [.ref b, .int (0 : Int32), .int ml, .int (nI n)])) :: (b, .inl (ct 2, cap, .inl f)) :: tl) sz)) 0 0 (va_A ((a, .inr (7, [.ref b, .int (0 : Int32), .int ml, .int (nI n)])) :: (b, .inl (ct 2, cap, .inl f)) :: tl) sz) := fun sz =>
  j_metF (Qc := fun A => va_Qv (fun _ : Int32 => True) (fun (u : Int32) => cB D ct A ((sbW ct a b u cap f 0 ++ tl))) A) (by decide) hG (Nat.le_of_ble_eq_true rfl) (fun p e s m args below meth c A K hr hnm _ => by
    refine j_aload_n K 0 dJ7_setLength_0 rfl rfl ?_
    refine j_iload_n K 1 dJ7_setLength_1 rfl rfl ?_
    refine j_callSUv_ K (As := [.int (0 : Int32)]) (rest := []) (ctJ6_setLength (l := l) (D := D) (ct := ct) (G := G) (tl := tl) hG hgc hn hc9) (lw_SU q792 q1279 q260 q793 q80 q794) (n := 1) (by decide +kernel) ⟨Nat.le_of_ble_eq_true rfl, Nat.le_of_ble_eq_true rfl⟩ 0 rfl rfl rfl rfl rfl (Nat.le_of_ble_eq_true rfl) dJ7_setLength_2 ⟨by dsimp only; omega, by dsimp only; omega⟩ (fun u2 hq2 => ?_)
    exact j_vret (wf := fun (u : Int32) => (sbW ct a b u cap f 0 ++ tl)) u2 K hr rfl trivial (by omega) (by omega) dJ7_setLength_5)
theorem ctJ6_init {l : Launch} {D : va_G} {ct : Nat → ClassId} {G : gE} {tl : va_W} (hG : gOK G) {a : Nat} {g : GP} (hgc : gHasC G g)  : ∀ sz, Met l yJ6_init (ws_ yJ6_init cJ6_init 2 none) { frames := 1, cells := 1, slots := 16, locals := 12 } (va_Pc [.ref a, .int (16 : Int32)] (cPre G D ct ((a, .inr (7, [.null, .int 0, .int 0, .int 0])) :: tl) sz)) (va_Qv (fun _ : Nat => True) (fun (u : Nat) => cB D ct (va_A ((a, .inr (7, [.null, .int 0, .int 0, .int 0])) :: tl) sz) ((sbW ct a u 0 16 (fun _ => 0) 0 ++ tl))) (va_A ((a, .inr (7, [.null, .int 0, .int 0, .int 0])) :: tl) sz)) 1 16 (va_A ((a, .inr (7, [.null, .int 0, .int 0, .int 0])) :: tl) sz) := fun sz =>
  j_metF (Qc := fun A => va_Qv (fun _ : Nat => True) (fun (u : Nat) => cB D ct A ((sbW ct a u 0 16 (fun _ => 0) 0 ++ tl))) A) (by decide) hG (Nat.le_of_ble_eq_true rfl) (fun p e s m args below meth c A K hr hnm _ => by
    refine j_aload_n K 0 dJ6_init_0 rfl rfl ?_
    refine j_objInit K q238 q101 q102 (Nat.le_of_ble_eq_true rfl) (Nat.le_of_ble_eq_true rfl) dJ6_init_1 ?_
    refine j_gets K (K.gc hgc).2.2.2.1 q239 rfl dJ6_init_4 ?_
    refine j_if_eq K 25 dJ6_init_7 (by decide) (fun hc7 => absurd hc7 (by decide)) (fun hc7 => ?_)
    refine j_aload_n K 0 dJ6_init_10 rfl rfl ?_
    refine j_iload_n K 1 dJ6_init_11 rfl rfl ?_
    refine j_newbF K 16 (by decide) (by decide) (Nat.le_of_ble_eq_true rfl) (by dsimp only; omega) (by dsimp only; omega) dJ6_init_12 (fun a1_ => ?_)
    refine j_wsEq (ws' := ((a1_, .inl (ct 2, 16, .inl (fun _ => 0))) :: (a, .inr (7, [.null, .int 0, .int 0, .int 0])) :: tl)) rfl ?_
    refine j_put K in_J7 tyJ7 tyJ7_ok nmJ7 1 rfl rfl 0 (by decide) q248 rfl rfl (ty := .array .byte) (by decide +kernel) rfl rfl (Nat.le_of_ble_eq_true rfl) dJ6_init_14 ?_
    refine j_wsEq (ws' := ((a1_, .inl (ct 2, 16, .inl (fun _ => 0))) :: (a, .inr (7, [.ref a1_, .int 0, .int 0, .int 0])) :: tl)) rfl ?_
    refine j_aload_n K 0 dJ6_init_17 rfl rfl ?_
    refine j_iconst K (0 : Int32) dJ6_init_18 (by decide) ?_
    refine j_put K in_J7 tyJ7 tyJ7_ok nmJ7 1 rfl rfl 1 (by decide) q249 rfl rfl (ty := .byte) (by decide +kernel) rfl rfl (Nat.le_of_ble_eq_true rfl) dJ6_init_19 ?_
    refine j_wsEq (ws' := ((a1_, .inl (ct 2, 16, .inl (fun _ => 0))) :: (a, .inr (7, [.ref a1_, .int (0 : Int32), .int 0, .int 0])) :: tl)) rfl ?_
    refine j_goto K 38 dJ6_init_22 (by decide) ?_
    refine j_wsT [1, 0] (wx := [(a1_, .inl (ct 2, 16, .inl (fun _ => 0))), (a, .inr (7, [.ref a1_, .int (0 : Int32), .int 0, .int 0]))]) (ws' := [(a, .inr (7, [.ref a1_, .int (0 : Int32), .int 0, .int 0])), (a1_, .inl (ct 2, 16, .inl (fun _ => 0)))]) (tl := tl) rfl rfl ?_
    exact j_vret (wf := fun u => (sbW ct a u 0 16 (fun _ => 0) 0 ++ tl)) a1_ K hr rfl trivial (by omega) (by omega) dJ6_init_38)
theorem ctJ7_init {l : Launch} {D : va_G} {ct : Nat → ClassId} {G : gE} {tl : va_W} (hG : gOK G) {a : Nat} {g : GP} (hgc : gHasC G g)  : ∀ sz, Met l yJ7_init (ws_ yJ7_init cJ7_init 1 none) { frames := 2, cells := 1, slots := 16, locals := 33 } (va_Pc [.ref a] (cPre G D ct ((a, .inr (7, [.null, .int 0, .int 0, .int 0])) :: tl) sz)) (va_Qv (fun _ : Nat => True) (fun (u : Nat) => cB D ct (va_A ((a, .inr (7, [.null, .int 0, .int 0, .int 0])) :: tl) sz) ((sbW ct a u 0 16 (fun _ => 0) 0 ++ tl))) (va_A ((a, .inr (7, [.null, .int 0, .int 0, .int 0])) :: tl) sz)) 1 16 (va_A ((a, .inr (7, [.null, .int 0, .int 0, .int 0])) :: tl) sz) := fun sz =>
  j_metF (Qc := fun A => va_Qv (fun _ : Nat => True) (fun (u : Nat) => cB D ct A ((sbW ct a u 0 16 (fun _ => 0) 0 ++ tl))) A) (by decide) hG (Nat.le_of_ble_eq_true rfl) (fun p e s m args below meth c A K hr hnm _ => by
    refine j_aload_n K 0 dJ7_init_0 rfl rfl ?_
    refine j_bipush K (16 : Int32) dJ7_init_1 (by decide) ?_
    refine j_callIv K (As := [.int (16 : Int32)]) (rest := []) (ctJ6_init (l := l) (D := D) (ct := ct) (G := G) (tl := tl) hG hgc) q237 q80 q235 q236 rfl (n := 1) (by decide +kernel) ⟨Nat.le_of_ble_eq_true rfl, Nat.le_of_ble_eq_true rfl⟩ rfl rfl (Nat.le_of_ble_eq_true rfl) dJ7_init_3 ⟨by dsimp only; omega, by dsimp only; omega⟩ (fun u3 hq3 => ?_)
    exact j_vret (wf := fun u => (sbW ct a u 0 16 (fun _ => 0) 0 ++ tl)) u3 K hr rfl trivial (by omega) (by omega) dJ7_init_6)
