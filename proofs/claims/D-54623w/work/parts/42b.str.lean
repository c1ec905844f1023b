/-! String.indexOf: contracts, printed by gen_str.py -/
theorem ctJ8_isLatin1 {l : Launch} {D : va_G} {ct : Nat → ClassId} {G : gE} {tl : va_W} (hG : gOK G) {g : GP} (hgc : gHasC G g)  : ∀ sz, Met l yJ8_isLatin1 (ws_ yJ8_isLatin1 cJ8_isLatin1 1 (some .boolean)) { frames := 0, cells := 0, slots := 0, locals := 0 } (va_Pc [.ref (g.2.2.2.1 0)] (cPre G D ct tl sz)) (va_Qi (fun (x : Int32) (_ : Unit) => x = 1) (fun (u : Unit) => cB D ct (va_A tl sz) (tl)) (va_A tl sz)) 0 0 (va_A tl sz) := fun sz =>
  j_metF (Qc := fun A => va_Qi (fun (x : Int32) (_ : Unit) => x = 1) (fun (u : Unit) => cB D ct A (tl)) A) (by decide) hG (Nat.le_of_ble_eq_true rfl) (fun p e s m args below meth c A K hr hnm _ => by
    refine j_gets K (K.gc hgc).2.2.2.1 q854 rfl dJ8_isLatin1_0 ?_
    refine j_if_eq K 17 dJ8_isLatin1_3 (by decide) (fun hc3 => absurd hc3 (by decide)) (fun hc3 => ?_)
    refine j_aload_n K 0 dJ8_isLatin1_6 rfl rfl ?_
    refine j_kcod K hgc dJ8_isLatin1_7 ?_
    refine j_if_ne K 17 dJ8_isLatin1_10 (by decide) (fun hc10 => absurd hc10 (fun z => z rfl)) (fun hc10 => ?_)
    refine j_iconst K (1 : Int32) dJ8_isLatin1_13 (by decide) ?_
    refine j_goto K 18 dJ8_isLatin1_14 (by decide) ?_
    exact j_zret (wf := fun _ => tl) () K hr rfl rfl (Or.inr rfl) (by omega) (by omega) dJ8_isLatin1_18)
theorem ctJ8_coder {l : Launch} {D : va_G} {ct : Nat → ClassId} {G : gE} {tl : va_W} (hG : gOK G) {g : GP} (hgc : gHasC G g)  : ∀ sz, Met l yJ8_coder (ws_ yJ8_coder cJ8_coder 1 (some .byte)) { frames := 0, cells := 0, slots := 0, locals := 0 } (va_Pc [.ref (g.2.2.2.1 0)] (cPre G D ct tl sz)) (va_Qi (fun (x : Int32) (_ : Unit) => x = 0) (fun (u : Unit) => cB D ct (va_A tl sz) (tl)) (va_A tl sz)) 0 0 (va_A tl sz) := fun sz =>
  j_metF (Qc := fun A => va_Qi (fun (x : Int32) (_ : Unit) => x = 0) (fun (u : Unit) => cB D ct A (tl)) A) (by decide) hG (Nat.le_of_ble_eq_true rfl) (fun p e s m args below meth c A K hr hnm _ => by
    refine j_gets K (K.gc hgc).2.2.2.1 q854 rfl dJ8_coder_0 ?_
    refine j_if_eq K 13 dJ8_coder_3 (by decide) (fun hc3 => absurd hc3 (by decide)) (fun hc3 => ?_)
    refine j_aload_n K 0 dJ8_coder_6 rfl rfl ?_
    refine j_kcod K hgc dJ8_coder_7 ?_
    refine j_goto K 14 dJ8_coder_10 (by decide) ?_
    exact j_bret (wf := fun _ => tl) () K hr rfl rfl rfl (by omega) (by omega) dJ8_coder_14)
theorem ctJ8_length {l : Launch} {D : va_G} {ct : Nat → ClassId} {G : gE} {tl : va_W} (hG : gOK G) {g : GP} (hgc : gHasC G g)  : ∀ sz, Met l yJ8_length (ws_ yJ8_length cJ8_length 1 (some .int)) { frames := 1, cells := 0, slots := 0, locals := 20 } (va_Pc [.ref (g.2.2.2.1 0)] (cPre G D ct tl sz)) (va_Qi (fun (x : Int32) (_ : Unit) => x = nI 4) (fun (u : Unit) => cB D ct (va_A tl sz) (tl)) (va_A tl sz)) 0 0 (va_A tl sz) := fun sz =>
  j_metF (Qc := fun A => va_Qi (fun (x : Int32) (_ : Unit) => x = nI 4) (fun (u : Unit) => cB D ct A (tl)) A) (by decide) hG (Nat.le_of_ble_eq_true rfl) (fun p e s m args below meth c A K hr hnm _ => by
    refine j_aload_n K 0 dJ8_length_0 rfl rfl ?_
    refine j_kval K hgc dJ8_length_1 ?_
    refine j_klen K hgc dJ8_length_4 ?_
    refine j_aload_n K 0 dJ8_length_5 rfl rfl ?_
    refine j_callKi K hgc (As := []) (rest := [.int (nI 4)]) (ctJ8_coder (l := l) (D := D) (ct := ct) (G := G) (tl := tl) hG hgc) (lw_V q859 q860 q861 q82 q862) (n := 0) (by decide +kernel) ⟨Nat.le_of_ble_eq_true rfl, Nat.le_of_ble_eq_true rfl⟩ rfl rfl (Nat.le_of_ble_eq_true rfl) dJ8_length_6 ⟨by dsimp only; omega, by dsimp only; omega⟩ (fun r6 u6 hq6 => ?_)
    rw [hq6]
    refine j_ishr K dJ8_length_9 ?_
    rw [show ((nI 4) >>> ((0 : Int32) &&& 31)) = (nI 4) from (sh0_n (by decide))]
    exact j_iret (wf := fun _ => tl) () K hr rfl rfl (by omega) (by omega) dJ8_length_10)
theorem ctJ14_canEncode_2 {l : Launch} {D : va_G} {ct : Nat → ClassId} {G : gE} {tl : va_W} (hG : gOK G) {z : Nat} (hz : z < 128) : ∀ sz, Met l yJ14_canEncode_2 (ws_ yJ14_canEncode_2 cJ14_canEncode_2 1 (some .boolean)) { frames := 0, cells := 0, slots := 0, locals := 0 } (va_Pc [.int (nI z)] (cPre G D ct tl sz)) (va_Qi (fun (r : Int32) (_ : Unit) => r = 1) (fun (u : Unit) => cB D ct (va_A tl sz) (tl)) (va_A tl sz)) 0 0 (va_A tl sz) := fun sz =>
  j_metF (Qc := fun A => va_Qi (fun (r : Int32) (_ : Unit) => r = 1) (fun (u : Unit) => cB D ct A (tl)) A) (by decide) hG (Nat.le_of_ble_eq_true rfl) (fun p e s m args below meth c A K hr hnm _ => by
    refine j_iload_n K 0 dJ14_canEncode_2_0 rfl rfl ?_
    refine j_if_lt K 15 dJ14_canEncode_2_1 (by decide) (fun hc1 => absurd hc1 (nI_nn9 (by omega))) (fun hc1 => ?_)
    refine j_iload_n K 0 dJ14_canEncode_2_4 rfl rfl ?_
    refine j_sipush K (255 : Int32) dJ14_canEncode_2_5 (by decide) ?_
    refine j_icmp_gt K 15 dJ14_canEncode_2_8 (by decide) (fun hc8 => absurd hc8 (fun y => absurd (nl_of (show nI 255 < nI z from y) (by omega) (by omega)) (by omega))) (fun hc8 => ?_)
    refine j_iconst K (1 : Int32) dJ14_canEncode_2_11 (by decide) ?_
    refine j_goto K 16 dJ14_canEncode_2_12 (by decide) ?_
    exact j_zret (wf := fun _ => tl) () K hr rfl rfl (Or.inr rfl) (by omega) (by omega) dJ14_canEncode_2_16)
theorem ctJ14_indexOfChar {l : Launch} {D : va_G} {ct : Nat → ClassId} {G : gE} {tl : va_W} (hG : gOK G) {z : Nat} {g : GP} (hgc : gHasC G g) (hz : z < 128) : ∀ sz, Met l yJ14_indexOfChar (ws_ yJ14_indexOfChar cJ14_indexOfChar 6 (some .int)) { frames := 0, cells := 0, slots := 0, locals := 0 } (va_Pc [.ref (g.2.2.2.2 0), .int (nI z), .int (0 : Int32), .int (nI 4)] (cPre G D ct tl sz)) (va_Qi (fun (r : Int32) (_ : Unit) => (r < 0 ↔ isOrd z = false)) (fun (u : Unit) => cB D ct (va_A tl sz) (tl)) (va_A tl sz)) 0 0 (va_A tl sz) := fun sz =>
  j_metF (Qc := fun A => va_Qi (fun (r : Int32) (_ : Unit) => (r < 0 ↔ isOrd z = false)) (fun (u : Unit) => cB D ct A (tl)) A) (by decide) hG (Nat.le_of_ble_eq_true rfl) (fun p e s m args below meth c A K hr hnm _ => by
    refine j_iload_n K 1 dJ14_indexOfChar_0 rfl rfl ?_
    refine j_i2b K dJ14_indexOfChar_1 ?_
    rw [show ((nI z).toInt8.toInt32) = (nI z) from (i2b_n hz)]
    refine j_istore K [(4, .int (nI z)), (0, .ref (g.2.2.2.2 0)), (1, .int (nI z)), (2, .int (0 : Int32)), (3, .int (nI 4))] dJ14_indexOfChar_2 (by decide) rfl ?_
    refine j_iload_n K 3 dJ14_indexOfChar_4 rfl rfl ?_
    refine j_istore K [(5, .int (0 : Int32)), (4, .int (nI z)), (0, .ref (g.2.2.2.2 0)), (1, .int (nI z)), (2, .int (0 : Int32)), (3, .int (nI 4))] dJ14_indexOfChar_5 (by decide) rfl ?_
    refine j_iload K 0 dJ14_indexOfChar_7 rfl ?_
    refine j_iload_n K 5 dJ14_indexOfChar_9 rfl rfl ?_
    refine j_icmp_ge K 31 dJ14_indexOfChar_10 (by decide) (fun hc10 => absurd hc10 (by decide)) (fun hc10 => ?_)
    refine j_aload_n K 2 dJ14_indexOfChar_13 rfl rfl ?_
    refine j_iload K 0 dJ14_indexOfChar_14 rfl ?_
    refine j_kbyte K hgc (v := (112 : Int32)) (vin (n := 0) (by decide)) (by decide) dJ14_indexOfChar_16 ?_
    refine j_iload K 1 dJ14_indexOfChar_17 rfl ?_
    refine j_icmp_ne K 25 dJ14_indexOfChar_19 (by decide) (fun hq_0 => ?_) (fun hq_0 => ?_)
    · refine j_iinc K 0 (1 : Int32) [(5, .int (1 : Int32)), (4, .int (nI z)), (0, .ref (g.2.2.2.2 0)), (1, .int (nI z)), (2, .int (0 : Int32)), (3, .int (nI 4))] dJ14_indexOfChar_25 rfl (by decide) (by decide) rfl ?_
      refine j_goto K 7 dJ14_indexOfChar_28 (by decide) ?_
      refine j_iload K 0 dJ14_indexOfChar_7 rfl ?_
      refine j_iload_n K 5 dJ14_indexOfChar_9 rfl rfl ?_
      refine j_icmp_ge K 31 dJ14_indexOfChar_10 (by decide) (fun hc10 => absurd hc10 (by decide)) (fun hc10 => ?_)
      refine j_aload_n K 2 dJ14_indexOfChar_13 rfl rfl ?_
      refine j_iload K 0 dJ14_indexOfChar_14 rfl ?_
      refine j_kbyte K hgc (v := (115 : Int32)) (vin (n := 1) (by decide)) (by decide) dJ14_indexOfChar_16 ?_
      refine j_iload K 1 dJ14_indexOfChar_17 rfl ?_
      refine j_icmp_ne K 25 dJ14_indexOfChar_19 (by decide) (fun hq_1 => ?_) (fun hq_1 => ?_)
      · refine j_iinc K 0 (2 : Int32) [(5, .int (2 : Int32)), (4, .int (nI z)), (0, .ref (g.2.2.2.2 0)), (1, .int (nI z)), (2, .int (0 : Int32)), (3, .int (nI 4))] dJ14_indexOfChar_25 rfl (by decide) (by decide) rfl ?_
        refine j_goto K 7 dJ14_indexOfChar_28 (by decide) ?_
        refine j_iload K 0 dJ14_indexOfChar_7 rfl ?_
        refine j_iload_n K 5 dJ14_indexOfChar_9 rfl rfl ?_
        refine j_icmp_ge K 31 dJ14_indexOfChar_10 (by decide) (fun hc10 => absurd hc10 (by decide)) (fun hc10 => ?_)
        refine j_aload_n K 2 dJ14_indexOfChar_13 rfl rfl ?_
        refine j_iload K 0 dJ14_indexOfChar_14 rfl ?_
        refine j_kbyte K hgc (v := (45 : Int32)) (vin (n := 2) (by decide)) (by decide) dJ14_indexOfChar_16 ?_
        refine j_iload K 1 dJ14_indexOfChar_17 rfl ?_
        refine j_icmp_ne K 25 dJ14_indexOfChar_19 (by decide) (fun hq_2 => ?_) (fun hq_2 => ?_)
        · refine j_iinc K 0 (3 : Int32) [(5, .int (3 : Int32)), (4, .int (nI z)), (0, .ref (g.2.2.2.2 0)), (1, .int (nI z)), (2, .int (0 : Int32)), (3, .int (nI 4))] dJ14_indexOfChar_25 rfl (by decide) (by decide) rfl ?_
          refine j_goto K 7 dJ14_indexOfChar_28 (by decide) ?_
          refine j_iload K 0 dJ14_indexOfChar_7 rfl ?_
          refine j_iload_n K 5 dJ14_indexOfChar_9 rfl rfl ?_
          refine j_icmp_ge K 31 dJ14_indexOfChar_10 (by decide) (fun hc10 => absurd hc10 (by decide)) (fun hc10 => ?_)
          refine j_aload_n K 2 dJ14_indexOfChar_13 rfl rfl ?_
          refine j_iload K 0 dJ14_indexOfChar_14 rfl ?_
          refine j_kbyte K hgc (v := (109 : Int32)) (vin (n := 3) (by decide)) (by decide) dJ14_indexOfChar_16 ?_
          refine j_iload K 1 dJ14_indexOfChar_17 rfl ?_
          refine j_icmp_ne K 25 dJ14_indexOfChar_19 (by decide) (fun hq_3 => ?_) (fun hq_3 => ?_)
          · refine j_iinc K 0 (4 : Int32) [(5, .int (4 : Int32)), (4, .int (nI z)), (0, .ref (g.2.2.2.2 0)), (1, .int (nI z)), (2, .int (0 : Int32)), (3, .int (nI 4))] dJ14_indexOfChar_25 rfl (by decide) (by decide) rfl ?_
            refine j_goto K 7 dJ14_indexOfChar_28 (by decide) ?_
            refine j_iload K 0 dJ14_indexOfChar_7 rfl ?_
            refine j_iload_n K 5 dJ14_indexOfChar_9 rfl rfl ?_
            refine j_icmp_ge K 31 dJ14_indexOfChar_10 (by decide) (fun hc10 => ?_) (fun hc10 => absurd hc10 (fun z => z (by decide)))
            refine j_iconst K (-1 : Int32) dJ14_indexOfChar_31 (by decide) ?_
            exact j_iret (wf := fun _ => tl) () K hr rfl (ord_none hz hq_0 hq_1 hq_2 hq_3) (by omega) (by omega) dJ14_indexOfChar_32
          · refine j_iload K 0 dJ14_indexOfChar_22 rfl ?_
            exact j_iret (wf := fun _ => tl) () K hr rfl (ord_some (k := 109) hz (by decide) (by decide) hq_3) (by omega) (by omega) dJ14_indexOfChar_24
        · refine j_iload K 0 dJ14_indexOfChar_22 rfl ?_
          exact j_iret (wf := fun _ => tl) () K hr rfl (ord_some (k := 45) hz (by decide) (by decide) hq_2) (by omega) (by omega) dJ14_indexOfChar_24
      · refine j_iload K 0 dJ14_indexOfChar_22 rfl ?_
        exact j_iret (wf := fun _ => tl) () K hr rfl (ord_some (k := 115) hz (by decide) (by decide) hq_1) (by omega) (by omega) dJ14_indexOfChar_24
    · refine j_iload K 0 dJ14_indexOfChar_22 rfl ?_
      exact j_iret (wf := fun _ => tl) () K hr rfl (ord_some (k := 112) hz (by decide) (by decide) hq_0) (by omega) (by omega) dJ14_indexOfChar_24)
theorem ctJ14_indexOf {l : Launch} {D : va_G} {ct : Nat → ClassId} {G : gE} {tl : va_W} (hG : gOK G) {z : Nat} {g : GP} (hgc : gHasC G g) (hz : z < 128) : ∀ sz, Met l yJ14_indexOf (ws_ yJ14_indexOf cJ14_indexOf 4 (some .int)) { frames := 1, cells := 0, slots := 0, locals := 25 } (va_Pc [.ref (g.2.2.2.2 0), .int (nI z), .int (0 : Int32), .int (nI 4)] (cPre G D ct tl sz)) (va_Qi (fun (r : Int32) (_ : Unit) => (r < 0 ↔ isOrd z = false)) (fun (u : Unit) => cB D ct (va_A tl sz) (tl)) (va_A tl sz)) 0 0 (va_A tl sz) := fun sz =>
  j_metF (Qc := fun A => va_Qi (fun (r : Int32) (_ : Unit) => (r < 0 ↔ isOrd z = false)) (fun (u : Unit) => cB D ct A (tl)) A) (by decide) hG (Nat.le_of_ble_eq_true rfl) (fun p e s m args below meth c A K hr hnm _ => by
    refine j_iload_n K 1 dJ14_indexOf_0 rfl rfl ?_
    refine j_callSi K (As := [.int (nI z)]) (rest := []) (ctJ14_canEncode_2 (l := l) (D := D) (ct := ct) (G := G) (tl := tl) hG hz) (lw_S q866 q867 q92 q868) (n := 1) (by decide +kernel) ⟨Nat.le_of_ble_eq_true rfl, Nat.le_of_ble_eq_true rfl⟩ rfl rfl (Nat.le_of_ble_eq_true rfl) dJ14_indexOf_1 ⟨by dsimp only; omega, by dsimp only; omega⟩ (fun r1 u1 hq1 => ?_)
    rw [hq1]
    refine j_wsEq (ws' := tl) rfl ?_
    refine j_if_ne K 9 dJ14_indexOf_4 (by decide) (fun hc4 => ?_) (fun hc4 => absurd hc4 (fun y => absurd y (by decide)))
    refine j_iload_n K 2 dJ14_indexOf_9 rfl rfl ?_
    refine j_iconst K (0 : Int32) dJ14_indexOf_10 (by decide) ?_
    refine j_callSi K (As := [.int (0 : Int32), .int (0 : Int32)]) (rest := []) (ctJ4_max (l := l) (D := D) (ct := ct) (G := G) (ws := tl) hG (0 : Int32) (0 : Int32)) (lw_S q869 q161 q76 q162) (n := 2) (by decide +kernel) ⟨Nat.le_of_ble_eq_true rfl, Nat.le_of_ble_eq_true rfl⟩ rfl rfl (Nat.le_of_ble_eq_true rfl) dJ14_indexOf_11 ⟨by dsimp only; omega, by dsimp only; omega⟩ (fun r11 u11 hq11 => ?_)
    rw [show r11 = (0 : Int32) from hq11]
    refine j_wsEq (ws' := tl) rfl ?_
    refine j_istore_n K [(2, .int (0 : Int32)), (0, .ref (g.2.2.2.2 0)), (1, .int (nI z)), (3, .int (nI 4))] dJ14_indexOf_14 rfl (by decide) rfl ?_
    refine j_iload_n K 3 dJ14_indexOf_15 rfl rfl ?_
    refine j_aload_n K 1 dJ14_indexOf_16 rfl rfl ?_
    refine j_klen K hgc dJ14_indexOf_17 ?_
    refine j_callSi K (As := [.int (nI 4), .int (nI 4)]) (rest := []) (ctJ4_min (l := l) (D := D) (ct := ct) (G := G) (tl := tl) hG (x := nI 4) (y := nI 4)) (lw_S q870 q189 q76 q190) (n := 2) (by decide +kernel) ⟨Nat.le_of_ble_eq_true rfl, Nat.le_of_ble_eq_true rfl⟩ rfl rfl (Nat.le_of_ble_eq_true rfl) dJ14_indexOf_18 ⟨by dsimp only; omega, by dsimp only; omega⟩ (fun r18 u18 hq18 => ?_)
    rw [show r18 = nI 4 from hq18]
    refine j_wsEq (ws' := tl) rfl ?_
    refine j_istore_n K [(3, .int (nI 4)), (2, .int (0 : Int32)), (0, .ref (g.2.2.2.2 0)), (1, .int (nI z))] dJ14_indexOf_21 rfl (by decide) rfl ?_
    refine j_iload_n K 1 dJ14_indexOf_22 rfl rfl ?_
    refine j_iload_n K 0 dJ14_indexOf_23 rfl rfl ?_
    refine j_icmp_lt K 29 dJ14_indexOf_24 (by decide) (fun hc24 => ?_) (fun hc24 => absurd hc24 (fun y => y (by decide)))
    refine j_aload_n K 2 dJ14_indexOf_29 rfl rfl ?_
    refine j_iload_n K 3 dJ14_indexOf_30 rfl rfl ?_
    refine j_iload_n K 1 dJ14_indexOf_31 rfl rfl ?_
    refine j_iload_n K 0 dJ14_indexOf_32 rfl rfl ?_
    refine j_callSi K (As := [.ref (g.2.2.2.2 0), .int (nI z), .int (0 : Int32), .int (nI 4)]) (rest := []) (ctJ14_indexOfChar (l := l) (D := D) (ct := ct) (G := G) (tl := tl) hG hgc hz) (lw_S q871 q872 q92 q873) (n := 4) (by decide +kernel) ⟨Nat.le_of_ble_eq_true rfl, Nat.le_of_ble_eq_true rfl⟩ rfl rfl (Nat.le_of_ble_eq_true rfl) dJ14_indexOf_33 ⟨by dsimp only; omega, by dsimp only; omega⟩ (fun r33 u33 hq33 => ?_)
    refine j_wsEq (ws' := tl) rfl ?_
    exact j_iret (wf := fun _ => tl) () K hr rfl hq33 (by omega) (by omega) dJ14_indexOf_36)
theorem ctJ8_indexOf_2 {l : Launch} {D : va_G} {ct : Nat → ClassId} {G : gE} {tl : va_W} (hG : gOK G) {z : Nat} {g : GP} (hgc : gHasC G g) (hz : z < 128) : ∀ sz, Met l yJ8_indexOf_2 (ws_ yJ8_indexOf_2 cJ8_indexOf_2 3 (some .int)) { frames := 2, cells := 0, slots := 0, locals := 48 } (va_Pc [.ref (g.2.2.2.1 0), .int (nI z), .int (0 : Int32)] (cPre G D ct tl sz)) (va_Qi (fun (r : Int32) (_ : Unit) => (r < 0 ↔ isOrd z = false)) (fun (u : Unit) => cB D ct (va_A tl sz) (tl)) (va_A tl sz)) 0 0 (va_A tl sz) := fun sz =>
  j_metF (Qc := fun A => va_Qi (fun (r : Int32) (_ : Unit) => (r < 0 ↔ isOrd z = false)) (fun (u : Unit) => cB D ct A (tl)) A) (by decide) hG (Nat.le_of_ble_eq_true rfl) (fun p e s m args below meth c A K hr hnm _ => by
    refine j_aload_n K 0 dJ8_indexOf_2_0 rfl rfl ?_
    refine j_callKi K hgc (As := []) (rest := []) (ctJ8_isLatin1 (l := l) (D := D) (ct := ct) (G := G) (tl := tl) hG hgc) (lw_V q850 q851 q852 q82 q853) (n := 0) (by decide +kernel) ⟨Nat.le_of_ble_eq_true rfl, Nat.le_of_ble_eq_true rfl⟩ rfl rfl (Nat.le_of_ble_eq_true rfl) dJ8_indexOf_2_1 ⟨by dsimp only; omega, by dsimp only; omega⟩ (fun r1 u1 hq1 => ?_)
    rw [hq1]
    refine j_if_eq K 23 dJ8_indexOf_2_4 (by decide) (fun hc4 => absurd hc4 (by decide)) (fun hc4 => ?_)
    refine j_aload_n K 0 dJ8_indexOf_2_7 rfl rfl ?_
    refine j_kval K hgc dJ8_indexOf_2_8 ?_
    refine j_iload_n K 1 dJ8_indexOf_2_11 rfl rfl ?_
    refine j_iload_n K 2 dJ8_indexOf_2_12 rfl rfl ?_
    refine j_aload_n K 0 dJ8_indexOf_2_13 rfl rfl ?_
    refine j_callKi K hgc (As := []) (rest := [.int (0 : Int32), .int (nI z), .ref (g.2.2.2.2 0)]) (ctJ8_length (l := l) (D := D) (ct := ct) (G := G) (tl := tl) hG hgc) (lw_V q855 q856 q857 q82 q858) (n := 0) (by decide +kernel) ⟨Nat.le_of_ble_eq_true rfl, Nat.le_of_ble_eq_true rfl⟩ rfl rfl (Nat.le_of_ble_eq_true rfl) dJ8_indexOf_2_14 ⟨by dsimp only; omega, by dsimp only; omega⟩ (fun r14 u14 hq14 => ?_)
    rw [hq14]
    refine j_callSi K (As := [.ref (g.2.2.2.2 0), .int (nI z), .int (0 : Int32), .int (nI 4)]) (rest := []) (ctJ14_indexOf (l := l) (D := D) (ct := ct) (G := G) (tl := tl) hG hgc hz) (lw_S q863 q864 q92 q865) (n := 4) (by decide +kernel) ⟨Nat.le_of_ble_eq_true rfl, Nat.le_of_ble_eq_true rfl⟩ rfl rfl (Nat.le_of_ble_eq_true rfl) dJ8_indexOf_2_17 ⟨by dsimp only; omega, by dsimp only; omega⟩ (fun r17 u17 hq17 => ?_)
    refine j_wsEq (ws' := tl) rfl ?_
    refine j_goto K 36 dJ8_indexOf_2_20 (by decide) ?_
    exact j_iret (wf := fun _ => tl) () K hr rfl hq17 (by omega) (by omega) dJ8_indexOf_2_36)
theorem ctJ8_indexOf {l : Launch} {D : va_G} {ct : Nat → ClassId} {G : gE} {tl : va_W} (hG : gOK G) {z : Nat} {g : GP} (hgc : gHasC G g) (hz : z < 128) : ∀ sz, Met l yJ8_indexOf (ws_ yJ8_indexOf cJ8_indexOf 2 (some .int)) { frames := 3, cells := 0, slots := 0, locals := 70 } (va_Pc [.ref (g.2.2.2.1 0), .int (nI z)] (cPre G D ct tl sz)) (va_Qi (fun (r : Int32) (_ : Unit) => (r < 0 ↔ isOrd z = false)) (fun (u : Unit) => cB D ct (va_A tl sz) (tl)) (va_A tl sz)) 0 0 (va_A tl sz) := fun sz =>
  j_metF (Qc := fun A => va_Qi (fun (r : Int32) (_ : Unit) => (r < 0 ↔ isOrd z = false)) (fun (u : Unit) => cB D ct A (tl)) A) (by decide) hG (Nat.le_of_ble_eq_true rfl) (fun p e s m args below meth c A K hr hnm _ => by
    refine j_aload_n K 0 dJ8_indexOf_0 rfl rfl ?_
    refine j_iload_n K 1 dJ8_indexOf_1 rfl rfl ?_
    refine j_iconst K (0 : Int32) dJ8_indexOf_2 (by decide) ?_
    refine j_callKi K hgc (As := [.int (nI z), .int (0 : Int32)]) (rest := []) (ctJ8_indexOf_2 (l := l) (D := D) (ct := ct) (G := G) (tl := tl) hG hgc hz) (lw_V q846 q847 q848 q82 q849) (n := 2) (by decide +kernel) ⟨Nat.le_of_ble_eq_true rfl, Nat.le_of_ble_eq_true rfl⟩ rfl rfl (Nat.le_of_ble_eq_true rfl) dJ8_indexOf_3 ⟨by dsimp only; omega, by dsimp only; omega⟩ (fun r3 u3 hq3 => ?_)
    exact j_iret (wf := fun _ => tl) () K hr rfl hq3 (by omega) (by omega) dJ8_indexOf_6)
