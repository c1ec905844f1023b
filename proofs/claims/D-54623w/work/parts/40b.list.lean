/-! LISTS: contracts, printed by gen_list.py -/
theorem ctJ0_init {l : Launch} {D : va_G} {ct : Nat → ClassId} {G : gE} {tl : va_W} (hG : gOK G) {a : Nat}  : ∀ sz, Met l yJ0_init (ws_ yJ0_init cJ0_init 1 none) { frames := 1, cells := 0, slots := 0, locals := 12 } (va_Pc [.ref a] (cPre G D ct tl sz)) (va_Qv (fun _ : Unit => True) (fun (u : Unit) => cB D ct (va_A tl sz) (tl)) (va_A tl sz)) 0 0 (va_A tl sz) := fun sz =>
  j_metF (Qc := fun A => va_Qv (fun _ : Unit => True) (fun (u : Unit) => cB D ct A (tl)) A) (by decide) hG (Nat.le_of_ble_eq_true rfl) (fun p e s m args below meth c A K hr hnm _ => by
    refine j_aload_n K 0 dJ0_init_0 rfl rfl ?_
    refine j_objInit K q120 q101 q102 (Nat.le_of_ble_eq_true rfl) (Nat.le_of_ble_eq_true rfl) dJ0_init_1 ?_
    exact j_vret (wf := fun _ => tl) () K hr rfl trivial (by omega) (by omega) dJ0_init_4)
theorem ctJ1_init {l : Launch} {D : va_G} {ct : Nat → ClassId} {G : gE} {tl : va_W} (hG : gOK G) {a : Nat}  : ∀ sz, Met l yJ1_init (ws_ yJ1_init cJ1_init 1 none) { frames := 2, cells := 0, slots := 0, locals := 32 } (va_Pc [.ref a] (cPre G D ct ((a, .inr (6, [.int 0, .null, .int 0])) :: tl) sz)) (va_Qv (fun _ : Unit => True) (fun (u : Unit) => cB D ct (va_A ((a, .inr (6, [.int 0, .null, .int 0])) :: tl) sz) (((a, .inr (6, [.int (0 : Int32), .null, .int 0])) :: tl))) (va_A ((a, .inr (6, [.int 0, .null, .int 0])) :: tl) sz)) 0 0 (va_A ((a, .inr (6, [.int 0, .null, .int 0])) :: tl) sz) := fun sz =>
  j_metF (Qc := fun A => va_Qv (fun _ : Unit => True) (fun (u : Unit) => cB D ct A (((a, .inr (6, [.int (0 : Int32), .null, .int 0])) :: tl))) A) (by decide) hG (Nat.le_of_ble_eq_true rfl) (fun p e s m args below meth c A K hr hnm _ => by
    refine j_aload_n K 0 dJ1_init_0 rfl rfl ?_
    refine j_callIv K (As := []) (rest := []) (ctJ0_init (l := l) (D := D) (ct := ct) (G := G) (tl := ((a, .inr (6, [.int 0, .null, .int 0])) :: tl)) hG (a := a)) q119 q72 q117 q118 rfl (n := 0) (by decide +kernel) ⟨Nat.le_of_ble_eq_true rfl, Nat.le_of_ble_eq_true rfl⟩ rfl rfl (Nat.le_of_ble_eq_true rfl) dJ1_init_1 ⟨by dsimp only; omega, by dsimp only; omega⟩ (fun u1 hq1 => ?_)
    refine j_wsEq (ws' := ((a, .inr (6, [.int 0, .null, .int 0])) :: tl)) rfl ?_
    refine j_aload_n K 0 dJ1_init_4 rfl rfl ?_
    refine j_iconst K (0 : Int32) dJ1_init_5 (by decide) ?_
    refine j_put K in_J2 tyJ2 tyJ2_ok nmJ2 0 rfl rfl 0 (by decide) q125 rfl rfl (ty := .int) (by decide +kernel) rfl rfl (Nat.le_of_ble_eq_true rfl) dJ1_init_6 ?_
    refine j_wsEq (ws' := ((a, .inr (6, [.int (0 : Int32), .null, .int 0])) :: tl)) rfl ?_
    exact j_vret (wf := fun _ => ((a, .inr (6, [.int (0 : Int32), .null, .int 0])) :: tl)) () K hr rfl trivial (by omega) (by omega) dJ1_init_9)
theorem ctJ2_init {l : Launch} {D : va_G} {ct : Nat → ClassId} {G : gE} {tl : va_W} (hG : gOK G) {a : Nat} {g : GP} (hgc : gHasC G g)  : ∀ sz, Met l yJ2_init (ws_ yJ2_init cJ2_init 1 none) { frames := 3, cells := 0, slots := 0, locals := 52 } (va_Pc [.ref a] (cPre G D ct ((a, .inr (6, [.int 0, .null, .int 0])) :: tl) sz)) (va_Qv (fun _ : Unit => True) (fun (u : Unit) => cB D ct (va_A ((a, .inr (6, [.int 0, .null, .int 0])) :: tl) sz) (((a, .inr (6, [.int (0 : Int32), .ref g.2.1, .int 0])) :: tl))) (va_A ((a, .inr (6, [.int 0, .null, .int 0])) :: tl) sz)) 0 0 (va_A ((a, .inr (6, [.int 0, .null, .int 0])) :: tl) sz) := fun sz =>
  j_metF (Qc := fun A => va_Qv (fun _ : Unit => True) (fun (u : Unit) => cB D ct A (((a, .inr (6, [.int (0 : Int32), .ref g.2.1, .int 0])) :: tl))) A) (by decide) hG (Nat.le_of_ble_eq_true rfl) (fun p e s m args below meth c A K hr hnm _ => by
    refine j_aload_n K 0 dJ2_init_0 rfl rfl ?_
    refine j_callIv K (As := []) (rest := []) (ctJ1_init (l := l) (D := D) (ct := ct) (G := G) (tl := tl) hG (a := a)) q116 q73 q114 q115 rfl (n := 0) (by decide +kernel) ⟨Nat.le_of_ble_eq_true rfl, Nat.le_of_ble_eq_true rfl⟩ rfl rfl (Nat.le_of_ble_eq_true rfl) dJ2_init_1 ⟨by dsimp only; omega, by dsimp only; omega⟩ (fun u1 hq1 => ?_)
    refine j_wsEq (ws' := ((a, .inr (6, [.int (0 : Int32), .null, .int 0])) :: tl)) rfl ?_
    refine j_aload_n K 0 dJ2_init_4 rfl rfl ?_
    refine j_gets K (K.gc hgc).2.1 q121 rfl dJ2_init_5 ?_
    refine j_put K in_J2 tyJ2 tyJ2_ok nmJ2 0 rfl rfl 1 (by decide) q123 rfl rfl (ty := (.array (.object "java/lang/Object"))) (by decide +kernel) rfl rfl (Nat.le_of_ble_eq_true rfl) dJ2_init_8 ?_
    refine j_wsEq (ws' := ((a, .inr (6, [.int (0 : Int32), .ref g.2.1, .int 0])) :: tl)) rfl ?_
    exact j_vret (wf := fun _ => ((a, .inr (6, [.int (0 : Int32), .ref g.2.1, .int 0])) :: tl)) () K hr rfl trivial (by omega) (by omega) dJ2_init_11)
theorem ctJ2_size {l : Launch} {D : va_G} {ct : Nat → ClassId} {G : gE} {tl : va_W} (hG : gOK G) {a : Nat} {v0 v1 : Value} {n : Int32}  : ∀ sz, Met l yJ2_size (ws_ yJ2_size cJ2_size 1 (some .int)) { frames := 0, cells := 0, slots := 0, locals := 0 } (va_Pc [.ref a] (cPre G D ct ((a, .inr (6, [v0, v1, .int n])) :: tl) sz)) (va_Qi (fun (x : Int32) (_ : Unit) => x = n) (fun (u : Unit) => cB D ct (va_A ((a, .inr (6, [v0, v1, .int n])) :: tl) sz) (((a, .inr (6, [v0, v1, .int n])) :: tl))) (va_A ((a, .inr (6, [v0, v1, .int n])) :: tl) sz)) 0 0 (va_A ((a, .inr (6, [v0, v1, .int n])) :: tl) sz) := fun sz =>
  j_metF (Qc := fun A => va_Qi (fun (x : Int32) (_ : Unit) => x = n) (fun (u : Unit) => cB D ct A (((a, .inr (6, [v0, v1, .int n])) :: tl))) A) (by decide) hG (Nat.le_of_ble_eq_true rfl) (fun p e s m args below meth c A K hr hnm _ => by
    refine j_aload_n K 0 dJ2_size_0 rfl rfl ?_
    refine j_get K in_J2 0 rfl rfl 2 (by decide) q124 rfl rfl dJ2_size_1 ?_
    exact j_iret (wf := fun _ => ((a, .inr (6, [v0, v1, .int n])) :: tl)) () K hr rfl rfl (by omega) (by omega) dJ2_size_4)
theorem ctJ2_isEmpty {l : Launch} {D : va_G} {ct : Nat → ClassId} {G : gE} {tl : va_W} (hG : gOK G) {a : Nat} {v0 v1 : Value} {n : Int32}  : ∀ sz, Met l yJ2_isEmpty (ws_ yJ2_isEmpty cJ2_isEmpty 1 (some .boolean)) { frames := 0, cells := 0, slots := 0, locals := 0 } (va_Pc [.ref a] (cPre G D ct ((a, .inr (6, [v0, v1, .int n])) :: tl) sz)) (va_Qi (fun (x : Int32) (_ : Unit) => x = b2 (decide (n = 0))) (fun (u : Unit) => cB D ct (va_A ((a, .inr (6, [v0, v1, .int n])) :: tl) sz) (((a, .inr (6, [v0, v1, .int n])) :: tl))) (va_A ((a, .inr (6, [v0, v1, .int n])) :: tl) sz)) 0 0 (va_A ((a, .inr (6, [v0, v1, .int n])) :: tl) sz) := fun sz =>
  j_metF (Qc := fun A => va_Qi (fun (x : Int32) (_ : Unit) => x = b2 (decide (n = 0))) (fun (u : Unit) => cB D ct A (((a, .inr (6, [v0, v1, .int n])) :: tl))) A) (by decide) hG (Nat.le_of_ble_eq_true rfl) (fun p e s m args below meth c A K hr hnm _ => by
    refine j_aload_n K 0 dJ2_isEmpty_0 rfl rfl ?_
    refine j_get K in_J2 0 rfl rfl 2 (by decide) q124 rfl rfl dJ2_isEmpty_1 ?_
    refine j_if_ne K 11 dJ2_isEmpty_4 (by decide) (fun hc4 => ?_) (fun hc4 => ?_)
    · refine j_iconst K (0 : Int32) dJ2_isEmpty_11 (by decide) ?_
      exact j_zret (wf := fun _ => ((a, .inr (6, [v0, v1, .int n])) :: tl)) () K hr rfl (by rw [decide_eq_false hc4]; rfl) (by first | exact Or.inl rfl | exact Or.inr rfl) (by omega) (by omega) dJ2_isEmpty_12
    · refine j_iconst K (1 : Int32) dJ2_isEmpty_7 (by decide) ?_
      refine j_goto K 12 dJ2_isEmpty_8 (by decide) ?_
      exact j_zret (wf := fun _ => ((a, .inr (6, [v0, v1, .int n])) :: tl)) () K hr rfl (by rw [decide_eq_true hc4]; rfl) (by first | exact Or.inl rfl | exact Or.inr rfl) (by omega) (by omega) dJ2_isEmpty_12)
theorem ctJ11_checkIndex {l : Launch} {D : va_G} {ct : Nat → ClassId} {G : gE} {tl : va_W} (hG : gOK G) {x n : Nat}  (hx : x < n) (hn : n < 1000000000) : ∀ sz, Met l yJ11_checkIndex (ws_ yJ11_checkIndex cJ11_checkIndex 3 (some .int)) { frames := 0, cells := 0, slots := 0, locals := 0 } (va_Pc [.int (nI x), .int (nI n), .null] (cPre G D ct tl sz)) (va_Qi (fun (r : Int32) (_ : Unit) => r = nI x) (fun (u : Unit) => cB D ct (va_A tl sz) (tl)) (va_A tl sz)) 0 0 (va_A tl sz) := fun sz =>
  j_metF (Qc := fun A => va_Qi (fun (r : Int32) (_ : Unit) => r = nI x) (fun (u : Unit) => cB D ct A (tl)) A) (by decide) hG (Nat.le_of_ble_eq_true rfl) (fun p e s m args below meth c A K hr hnm _ => by
    refine j_iload_n K 0 dJ11_checkIndex_0 rfl rfl ?_
    refine j_if_lt K 9 dJ11_checkIndex_1 (by decide) (fun hc1 => absurd hc1 (nI_nn9 (by omega))) (fun hc1 => ?_)
    refine j_iload_n K 0 dJ11_checkIndex_4 rfl rfl ?_
    refine j_iload_n K 1 dJ11_checkIndex_5 rfl rfl ?_
    refine j_icmp_lt K 16 dJ11_checkIndex_6 (by decide) (fun hc6 => ?_) (fun hc6 => absurd ((nI_ltI (by omega) (by omega)).mpr hx) hc6)
    refine j_iload_n K 0 dJ11_checkIndex_16 rfl rfl ?_
    exact j_iret (wf := fun _ => tl) () K hr rfl rfl (by omega) (by omega) dJ11_checkIndex_17)
theorem ctJ11_checkIndex_r {l : Launch} {D : va_G} {ct : Nat → ClassId} {G : gE} {tl : va_W} (hG : gOK G) {x n : Nat} {z : Nat} (hx : x < n) (hn : n < 1000000000) : ∀ sz, Met l yJ11_checkIndex (ws_ yJ11_checkIndex cJ11_checkIndex 3 (some .int)) { frames := 0, cells := 0, slots := 0, locals := 0 } (va_Pc [.int (nI x), .int (nI n), .ref z] (cPre G D ct tl sz)) (va_Qi (fun (r : Int32) (_ : Unit) => r = nI x) (fun (u : Unit) => cB D ct (va_A tl sz) (tl)) (va_A tl sz)) 0 0 (va_A tl sz) := fun sz =>
  j_metF (Qc := fun A => va_Qi (fun (r : Int32) (_ : Unit) => r = nI x) (fun (u : Unit) => cB D ct A (tl)) A) (by decide) hG (Nat.le_of_ble_eq_true rfl) (fun p e s m args below meth c A K hr hnm _ => by
    refine j_iload_n K 0 dJ11_checkIndex_0 rfl rfl ?_
    refine j_if_lt K 9 dJ11_checkIndex_1 (by decide) (fun hc1 => absurd hc1 (nI_nn9 (by omega))) (fun hc1 => ?_)
    refine j_iload_n K 0 dJ11_checkIndex_4 rfl rfl ?_
    refine j_iload_n K 1 dJ11_checkIndex_5 rfl rfl ?_
    refine j_icmp_lt K 16 dJ11_checkIndex_6 (by decide) (fun hc6 => ?_) (fun hc6 => absurd ((nI_ltI (by omega) (by omega)).mpr hx) hc6)
    refine j_iload_n K 0 dJ11_checkIndex_16 rfl rfl ?_
    exact j_iret (wf := fun _ => tl) () K hr rfl rfl (by omega) (by omega) dJ11_checkIndex_17)
theorem ctJ10_checkIndex {l : Launch} {D : va_G} {ct : Nat → ClassId} {G : gE} {tl : va_W} (hG : gOK G) {x n : Nat} (hx : x < n) (hn : n < 1000000000) : ∀ sz, Met l yJ10_checkIndex (ws_ yJ10_checkIndex cJ10_checkIndex 2 (some .int)) { frames := 1, cells := 0, slots := 0, locals := 22 } (va_Pc [.int (nI x), .int (nI n)] (cPre G D ct tl sz)) (va_Qi (fun (r : Int32) (_ : Unit) => r = nI x) (fun (u : Unit) => cB D ct (va_A tl sz) (tl)) (va_A tl sz)) 0 0 (va_A tl sz) := fun sz =>
  j_metF (Qc := fun A => va_Qi (fun (r : Int32) (_ : Unit) => r = nI x) (fun (u : Unit) => cB D ct A (tl)) A) (by decide) hG (Nat.le_of_ble_eq_true rfl) (fun p e s m args below meth c A K hr hnm _ => by
    refine j_iload_n K 0 dJ10_checkIndex_0 rfl rfl ?_
    refine j_iload_n K 1 dJ10_checkIndex_1 rfl rfl ?_
    refine j_null K dJ10_checkIndex_2 ?_
    refine j_callSi K (As := [.int (nI x), .int (nI n), .null]) (rest := []) (ctJ11_checkIndex (l := l) (D := D) (ct := ct) (G := G) (tl := tl) hG hx hn) (lw_S q315 q316 q86 q317) (n := 3) (by decide +kernel) ⟨Nat.le_of_ble_eq_true rfl, Nat.le_of_ble_eq_true rfl⟩ rfl rfl (Nat.le_of_ble_eq_true rfl) dJ10_checkIndex_3 ⟨by dsimp only; omega, by dsimp only; omega⟩ (fun r3 u3 hq3 => ?_)
    refine j_wsEq (ws' := tl) rfl ?_
    exact j_iret (wf := fun _ => tl) () K hr rfl hq3 (by omega) (by omega) dJ10_checkIndex_6)
theorem ctJ2_elementData {l : Launch} {D : va_G} {ct : Nat → ClassId} {G : gE} {tl : va_W} (hG : gOK G) {a b : Nat} {mo : Int32} {cap : Nat} {es : List (Option Nat)} {x : Nat} (hx : x < es.length) (hcap : es.length ≤ cap) (hc9 : cap < 1000000) : ∀ sz, Met l yJ2_elementData (ws_ yJ2_elementData cJ2_elementData 2 (some (.object "java/lang/Object"))) { frames := 0, cells := 0, slots := 0, locals := 0 } (va_Pc [.ref a, .int (nI x)] (cPre G D ct ((a, .inr (6, [.int mo, .ref b, .int (nI es.length)])) :: (b, .inl (ct 3, cap, .inr (.inr (.inr (.inr (lsF es)))))) :: tl) sz)) (va_Qq (fun (y : Option Nat) (_ : Unit) => y = lsF es x) (fun (u : Unit) => cB D ct (va_A ((a, .inr (6, [.int mo, .ref b, .int (nI es.length)])) :: (b, .inl (ct 3, cap, .inr (.inr (.inr (.inr (lsF es)))))) :: tl) sz) (((a, .inr (6, [.int mo, .ref b, .int (nI es.length)])) :: (b, .inl (ct 3, cap, .inr (.inr (.inr (.inr (lsF es)))))) :: tl))) (va_A ((a, .inr (6, [.int mo, .ref b, .int (nI es.length)])) :: (b, .inl (ct 3, cap, .inr (.inr (.inr (.inr (lsF es)))))) :: tl) sz)) 0 0 (va_A ((a, .inr (6, [.int mo, .ref b, .int (nI es.length)])) :: (b, .inl (ct 3, cap, .inr (.inr (.inr (.inr (lsF es)))))) :: tl) sz) := fun sz =>
  j_metF (Qc := fun A => va_Qq (fun (y : Option Nat) (_ : Unit) => y = lsF es x) (fun (u : Unit) => cB D ct A (((a, .inr (6, [.int mo, .ref b, .int (nI es.length)])) :: (b, .inl (ct 3, cap, .inr (.inr (.inr (.inr (lsF es)))))) :: tl))) A) (by decide) hG (Nat.le_of_ble_eq_true rfl) (fun p e s m args below meth c A K hr hnm _ => by
    refine j_aload_n K 0 dJ2_elementData_0 rfl rfl ?_
    refine j_get K in_J2 0 rfl rfl 1 (by decide) q123 rfl rfl dJ2_elementData_1 ?_
    refine j_iload_n K 1 dJ2_elementData_4 rfl rfl ?_
    refine j_aldq K 1 3 rfl rfl (vin (show x < cap by omega) (by omega)) dJ2_elementData_5 ?_
    exact j_aretq (wf := fun _ => ((a, .inr (6, [.int mo, .ref b, .int (nI es.length)])) :: (b, .inl (ct 3, cap, .inr (.inr (.inr (.inr (lsF es)))))) :: tl)) (r := ((lsF es) (nI x).toNatClampNeg)) () K hr (Or.inl ⟨_, rfl⟩) rfl (by rw [nI_clamp (by omega)]) (by omega) (by omega) dJ2_elementData_6)
theorem ctJ2_get {l : Launch} {D : va_G} {ct : Nat → ClassId} {G : gE} {tl : va_W} (hG : gOK G) {a b : Nat} {mo : Int32} {cap : Nat} {es : List (Option Nat)} {x : Nat} (hx : x < es.length) (hcap : es.length ≤ cap) (hc9 : cap < 1000000) : ∀ sz, Met l yJ2_get (ws_ yJ2_get cJ2_get 2 (some (.object "java/lang/Object"))) { frames := 2, cells := 0, slots := 0, locals := 43 } (va_Pc [.ref a, .int (nI x)] (cPre G D ct ((a, .inr (6, [.int mo, .ref b, .int (nI es.length)])) :: (b, .inl (ct 3, cap, .inr (.inr (.inr (.inr (lsF es)))))) :: tl) sz)) (va_Qq (fun (y : Option Nat) (_ : Unit) => y = lsF es x) (fun (u : Unit) => cB D ct (va_A ((a, .inr (6, [.int mo, .ref b, .int (nI es.length)])) :: (b, .inl (ct 3, cap, .inr (.inr (.inr (.inr (lsF es)))))) :: tl) sz) (((a, .inr (6, [.int mo, .ref b, .int (nI es.length)])) :: (b, .inl (ct 3, cap, .inr (.inr (.inr (.inr (lsF es)))))) :: tl))) (va_A ((a, .inr (6, [.int mo, .ref b, .int (nI es.length)])) :: (b, .inl (ct 3, cap, .inr (.inr (.inr (.inr (lsF es)))))) :: tl) sz)) 0 0 (va_A ((a, .inr (6, [.int mo, .ref b, .int (nI es.length)])) :: (b, .inl (ct 3, cap, .inr (.inr (.inr (.inr (lsF es)))))) :: tl) sz) := fun sz =>
  j_metF (Qc := fun A => va_Qq (fun (y : Option Nat) (_ : Unit) => y = lsF es x) (fun (u : Unit) => cB D ct A (((a, .inr (6, [.int mo, .ref b, .int (nI es.length)])) :: (b, .inl (ct 3, cap, .inr (.inr (.inr (.inr (lsF es)))))) :: tl))) A) (by decide) hG (Nat.le_of_ble_eq_true rfl) (fun p e s m args below meth c A K hr hnm _ => by
    refine j_iload_n K 1 dJ2_get_0 rfl rfl ?_
    refine j_aload_n K 0 dJ2_get_1 rfl rfl ?_
    refine j_get K in_J2 0 rfl rfl 2 (by decide) q124 rfl rfl dJ2_get_2 ?_
    refine j_callSi K (As := [.int (nI x), .int (nI es.length)]) (rest := []) (ctJ10_checkIndex (l := l) (D := D) (ct := ct) (G := G) (tl := ((a, .inr (6, [.int mo, .ref b, .int (nI es.length)])) :: (b, .inl (ct 3, cap, .inr (.inr (.inr (.inr (lsF es)))))) :: tl)) hG hx (show es.length < 1000000000 by omega)) (lw_S q312 q313 q85 q314) (n := 2) (by decide +kernel) ⟨Nat.le_of_ble_eq_true rfl, Nat.le_of_ble_eq_true rfl⟩ rfl rfl (Nat.le_of_ble_eq_true rfl) dJ2_get_5 ⟨by dsimp only; omega, by dsimp only; omega⟩ (fun r5 u5 hq5 => ?_)
    refine j_wsEq (ws' := ((a, .inr (6, [.int mo, .ref b, .int (nI es.length)])) :: (b, .inl (ct 3, cap, .inr (.inr (.inr (.inr (lsF es)))))) :: tl)) rfl ?_
    refine j_pop K dJ2_get_8 rfl ?_
    refine j_aload_n K 0 dJ2_get_9 rfl rfl ?_
    refine j_iload_n K 1 dJ2_get_10 rfl rfl ?_
    refine j_callVq K (As := [.int (nI x)]) (rest := []) (ctJ2_elementData (l := l) (D := D) (ct := ct) (G := G) (tl := tl) hG hx hcap hc9) (lw_V q386 q387 q388 q74 q389) (n := 1) (by decide +kernel) ⟨Nat.le_of_ble_eq_true rfl, Nat.le_of_ble_eq_true rfl⟩ 0 rfl rfl rfl rfl rfl (Nat.le_of_ble_eq_true rfl) dJ2_get_11 ⟨by dsimp only; omega, by dsimp only; omega⟩ (fun r11 u11 hq11 => ?_)
    refine j_wsEq (ws' := ((a, .inr (6, [.int mo, .ref b, .int (nI es.length)])) :: (b, .inl (ct 3, cap, .inr (.inr (.inr (.inr (lsF es)))))) :: tl)) rfl ?_
    exact j_aretq (wf := fun _ => ((a, .inr (6, [.int mo, .ref b, .int (nI es.length)])) :: (b, .inl (ct 3, cap, .inr (.inr (.inr (.inr (lsF es)))))) :: tl)) (r := r11) () K hr (Or.inl ⟨_, rfl⟩) rfl hq11 (by omega) (by omega) dJ2_get_14)
theorem ctJ2_set {l : Launch} {D : va_G} {ct : Nat → ClassId} {G : gE} {tl : va_W} (hG : gOK G) {a b : Nat} {mo : Int32} {cap : Nat} {es : List (Option Nat)} {x y : Nat} {el : va_E} {g : GP} (hgc : gHasC G g) (hx : x < es.length) (hcap : es.length ≤ cap) (hc9 : cap < 1000000) (hnil : lsF es x = none) (hy : (y, el) ∈ tl) (hoe : okE ct el) : ∀ sz, Met l yJ2_set (ws_ yJ2_set cJ2_set 4 (some (.object "java/lang/Object"))) { frames := 2, cells := 0, slots := 0, locals := 43 } (va_Pc [.ref a, .int (nI x), .ref y] (cPre G D ct ((a, .inr (6, [.int mo, .ref b, .int (nI es.length)])) :: (b, .inl (ct 3, cap, .inr (.inr (.inr (.inr (lsF es)))))) :: tl) sz)) (va_Qq (fun (z : Option Nat) (_ : Unit) => z = none) (fun (u : Unit) => cB D ct (va_A ((a, .inr (6, [.int mo, .ref b, .int (nI es.length)])) :: (b, .inl (ct 3, cap, .inr (.inr (.inr (.inr (lsF es)))))) :: tl) sz) (lW ct a b mo cap (es.set x (some y)) ++ tl)) (va_A ((a, .inr (6, [.int mo, .ref b, .int (nI es.length)])) :: (b, .inl (ct 3, cap, .inr (.inr (.inr (.inr (lsF es)))))) :: tl) sz)) 0 0 (va_A ((a, .inr (6, [.int mo, .ref b, .int (nI es.length)])) :: (b, .inl (ct 3, cap, .inr (.inr (.inr (.inr (lsF es)))))) :: tl) sz) := fun sz =>
  j_metF (Qc := fun A => va_Qq (fun (z : Option Nat) (_ : Unit) => z = none) (fun (u : Unit) => cB D ct A (lW ct a b mo cap (es.set x (some y)) ++ tl)) A) (by decide) hG (Nat.le_of_ble_eq_true rfl) (fun p e s m args below meth c A K hr hnm _ => by
    refine j_iload_n K 1 dJ2_set_0 rfl rfl ?_
    refine j_aload_n K 0 dJ2_set_1 rfl rfl ?_
    refine j_get K in_J2 0 rfl rfl 2 (by decide) q124 rfl rfl dJ2_set_2 ?_
    refine j_callSi K (As := [.int (nI x), .int (nI es.length)]) (rest := []) (ctJ10_checkIndex (l := l) (D := D) (ct := ct) (G := G) (tl := ((a, .inr (6, [.int mo, .ref b, .int (nI es.length)])) :: (b, .inl (ct 3, cap, .inr (.inr (.inr (.inr (lsF es)))))) :: tl)) hG hx (show es.length < 1000000000 by omega)) (lw_S q312 q313 q85 q314) (n := 2) (by decide +kernel) ⟨Nat.le_of_ble_eq_true rfl, Nat.le_of_ble_eq_true rfl⟩ rfl rfl (Nat.le_of_ble_eq_true rfl) dJ2_set_5 ⟨by dsimp only; omega, by dsimp only; omega⟩ (fun r5 u5 hq5 => ?_)
    refine j_wsEq (ws' := ((a, .inr (6, [.int mo, .ref b, .int (nI es.length)])) :: (b, .inl (ct 3, cap, .inr (.inr (.inr (.inr (lsF es)))))) :: tl)) rfl ?_
    refine j_pop K dJ2_set_8 rfl ?_
    refine j_aload_n K 0 dJ2_set_9 rfl rfl ?_
    refine j_iload_n K 1 dJ2_set_10 rfl rfl ?_
    refine j_callVq K (As := [.int (nI x)]) (rest := []) (ctJ2_elementData (l := l) (D := D) (ct := ct) (G := G) (tl := tl) hG hx hcap hc9) (lw_V q386 q387 q388 q74 q389) (n := 1) (by decide +kernel) ⟨Nat.le_of_ble_eq_true rfl, Nat.le_of_ble_eq_true rfl⟩ 0 rfl rfl rfl rfl rfl (Nat.le_of_ble_eq_true rfl) dJ2_set_11 ⟨by dsimp only; omega, by dsimp only; omega⟩ (fun r11 u11 hq11 => ?_)
    rw [hq11, hnil]
    show jJ p l e _ s m args below meth c _ A D _ _ _ _ _ _ (.null :: _)
    refine j_wsEq (ws' := ((a, .inr (6, [.int mo, .ref b, .int (nI es.length)])) :: (b, .inl (ct 3, cap, .inr (.inr (.inr (.inr (lsF es)))))) :: tl)) rfl ?_
    refine j_astore_nN K [(3, .null), (0, .ref a), (1, .int (nI x)), (2, .ref y)] dJ2_set_14 rfl (by decide) rfl ?_
    refine j_aload_n K 1 dJ2_set_15 rfl rfl ?_
    refine j_get K in_J2 0 rfl rfl 1 (by decide) q123 rfl rfl dJ2_set_16 ?_
    refine j_iload_n K 2 dJ2_set_19 rfl rfl ?_
    refine j_aload_n K 3 dJ2_set_20 rfl rfl ?_
    refine j_astqM K 1 3 rfl rfl (j_any K hgc (List.mem_cons_of_mem _ (List.mem_cons_of_mem _ hy)) hoe) (vin (show x < cap by omega) (by omega)) dJ2_set_21 ?_
    refine j_wsEq (ws' := ((a, .inr (6, [.int mo, .ref b, .int (nI es.length)])) :: (b, .inl (ct 3, cap, .inr (.inr (.inr (.inr (va_up (lsF es) (nI x).toNatClampNeg (some y))))))) :: tl)) rfl ?_
    refine j_aload_nN K 0 dJ2_set_22 rfl rfl ?_
    refine j_same (ws' := lW ct a b mo cap (es.set x (some y)) ++ tl) ⟨sameE.obj (by rw [List.length_set]), sameE.refs (fun i _ => by rw [nI_clamp (by omega)]; exact ls_set _ hx i), sameW.refl _⟩ ?_
    exact j_aretq (wf := fun _ => lW ct a b mo cap (es.set x (some y)) ++ tl) (r := none) () K hr (Or.inl ⟨_, rfl⟩) rfl rfl (by omega) (by omega) dJ2_set_23)
theorem ctJ2_fastRemove_0 {l : Launch} {D : va_G} {ct : Nat → ClassId} {G : gE} {tl : va_W} (hG : gOK G) {a b : Nat} {mo : Int32} {cap : Nat} {es : List (Option Nat)} {g : GP} (hgc : gHasC G g) (hlen : es.length < 100000) (hcap : es.length ≤ cap) (hc9 : cap < 1000000) (h2 : 2 ≤ es.length) (hel : elW ct es tl) : ∀ sz, Met l yJ2_fastRemove (ws_ yJ2_fastRemove cJ2_fastRemove 4 none) { frames := 1, cells := 0, slots := 0, locals := 32 } (va_Pc [.ref a, .ref b, .int (0 : Int32)] (cPre G D ct ((a, .inr (6, [.int mo, .ref b, .int (nI es.length)])) :: (b, .inl (ct 3, cap, .inr (.inr (.inr (.inr (lsF es)))))) :: tl) sz)) (va_Qv (fun _ : Unit => True) (fun (u : Unit) => cB D ct (va_A ((a, .inr (6, [.int mo, .ref b, .int (nI es.length)])) :: (b, .inl (ct 3, cap, .inr (.inr (.inr (.inr (lsF es)))))) :: tl) sz) (lW ct a b (mo + (1 : Int32)) cap es.tail ++ tl)) (va_A ((a, .inr (6, [.int mo, .ref b, .int (nI es.length)])) :: (b, .inl (ct 3, cap, .inr (.inr (.inr (.inr (lsF es)))))) :: tl) sz)) 0 0 (va_A ((a, .inr (6, [.int mo, .ref b, .int (nI es.length)])) :: (b, .inl (ct 3, cap, .inr (.inr (.inr (.inr (lsF es)))))) :: tl) sz) := fun sz =>
  j_metF (Qc := fun A => va_Qv (fun _ : Unit => True) (fun (u : Unit) => cB D ct A (lW ct a b (mo + (1 : Int32)) cap es.tail ++ tl)) A) (by decide) hG (Nat.le_of_ble_eq_true rfl) (fun p e s m args below meth c A K hr hnm _ => by
    have e4 : nI es.length - (1 : Int32) = nI (es.length - 1) := sub_n (b := 1) (show 1 ≤ es.length by omega)
    have e5 : (nI es.length - (1 : Int32)) - (0 : Int32) = nI (es.length - 1) := by rw [Int32.sub_zero]; exact e4
    refine j_aload_n K 0 dJ2_fastRemove_0 rfl rfl ?_
    refine j_dup K dJ2_fastRemove_1 rfl ?_
    refine j_getMC K 0 rfl rfl dJ2_fastRemove_2 ?_
    refine j_iconst K (1 : Int32) dJ2_fastRemove_5 (by decide) ?_
    refine j_iadd K dJ2_fastRemove_6 ?_
    refine j_putMC K 0 rfl (Nat.le_of_ble_eq_true rfl) dJ2_fastRemove_7 ?_
    refine j_wsEq (ws' := ((a, .inr (6, [.int (mo + (1 : Int32)), .ref b, .int (nI es.length)])) :: (b, .inl (ct 3, cap, .inr (.inr (.inr (.inr (lsF es)))))) :: tl)) rfl ?_
    refine j_aload_n K 0 dJ2_fastRemove_10 rfl rfl ?_
    refine j_get K in_J2 0 rfl rfl 2 (by decide) q124 rfl rfl dJ2_fastRemove_11 ?_
    refine j_iconst K (1 : Int32) dJ2_fastRemove_14 (by decide) ?_
    refine j_isub K dJ2_fastRemove_15 ?_
    refine j_dup K dJ2_fastRemove_16 rfl ?_
    refine j_istore_n K [(3, .int ((nI es.length) - (1 : Int32))), (0, .ref a), (1, .ref b), (2, .int (0 : Int32))] dJ2_fastRemove_17 rfl (by decide) rfl ?_
    refine j_iload_n K 3 dJ2_fastRemove_18 rfl rfl ?_
    refine j_icmp_le K 34 dJ2_fastRemove_19 (by decide) (fun hc19 => absurd hc19 (by rw [e4]; exact fun z => absurd (nle_of (show nI (es.length - 1) ≤ nI 0 from z) (by omega) (by omega)) (by omega))) (fun hc19 => ?_)
    refine j_aload_n K 2 dJ2_fastRemove_22 rfl rfl ?_
    refine j_iload_n K 3 dJ2_fastRemove_23 rfl rfl ?_
    refine j_iconst K (1 : Int32) dJ2_fastRemove_24 (by decide) ?_
    refine j_iadd K dJ2_fastRemove_25 ?_
    refine j_aload_n K 2 dJ2_fastRemove_26 rfl rfl ?_
    refine j_iload_n K 3 dJ2_fastRemove_27 rfl rfl ?_
    refine j_iload_n K 0 dJ2_fastRemove_28 rfl rfl ?_
    refine j_iload_n K 3 dJ2_fastRemove_29 rfl rfl ?_
    refine j_isub K dJ2_fastRemove_30 ?_
    refine j_copyM K q322 1 1 rfl rfl (by decide) (by decide) (by rw [e5]; exact nI_nn (by omega)) (by rw [e5, nI_clamp (by omega)]; show 1 + _ ≤ _; omega) (by rw [e5, nI_clamp (by omega)]; show 0 + _ ≤ _; omega) (fun H hP i _ y hy => by obtain ⟨el, h8, h9⟩ := hel y (lsF_lt hy); exact j_any K hgc (List.mem_cons_of_mem _ (List.mem_cons_of_mem _ h8)) h9 H hP) (Nat.le_of_ble_eq_true rfl) (Nat.le_of_ble_eq_true rfl) dJ2_fastRemove_31 ?_
    refine j_wsEq (ws' := ((a, .inr (6, [.int (mo + (1 : Int32)), .ref b, .int (nI es.length)])) :: (b, .inl (ct 3, cap, .inr (.inr (.inr (.inr (va_cpy (lsF es) (lsF es) ((0 : Int32) + (1 : Int32)).toNatClampNeg (0 : Int32).toNatClampNeg ((nI es.length - (1 : Int32)) - (0 : Int32)).toNatClampNeg)))))) :: tl)) rfl ?_
    refine j_aload_n K 2 dJ2_fastRemove_34 rfl rfl ?_
    refine j_aload_n K 1 dJ2_fastRemove_35 rfl rfl ?_
    refine j_iload_n K 0 dJ2_fastRemove_36 rfl rfl ?_
    refine j_dup_x1 K dJ2_fastRemove_37 rfl rfl ?_
    refine j_put K in_J2 tyJ2 tyJ2_ok nmJ2 0 rfl rfl 2 (by decide) q124 rfl rfl (ty := .int) (by decide +kernel) rfl rfl (Nat.le_of_ble_eq_true rfl) dJ2_fastRemove_38 ?_
    refine j_wsEq (ws' := ((a, .inr (6, [.int (mo + (1 : Int32)), .ref b, .int ((nI es.length) - (1 : Int32))])) :: (b, .inl (ct 3, cap, .inr (.inr (.inr (.inr (va_cpy (lsF es) (lsF es) ((0 : Int32) + (1 : Int32)).toNatClampNeg (0 : Int32).toNatClampNeg ((nI es.length - (1 : Int32)) - (0 : Int32)).toNatClampNeg)))))) :: tl)) rfl ?_
    refine j_null K dJ2_fastRemove_41 ?_
    refine j_astqN K 1 3 rfl rfl (by rw [e4]; exact vin (show es.length - 1 < cap by omega) (by omega)) dJ2_fastRemove_42 ?_
    refine j_wsEq (ws' := ((a, .inr (6, [.int (mo + (1 : Int32)), .ref b, .int ((nI es.length) - (1 : Int32))])) :: (b, .inl (ct 3, cap, .inr (.inr (.inr (.inr (va_up (va_cpy (lsF es) (lsF es) ((0 : Int32) + (1 : Int32)).toNatClampNeg (0 : Int32).toNatClampNeg ((nI es.length - (1 : Int32)) - (0 : Int32)).toNatClampNeg) ((nI es.length) - (1 : Int32)).toNatClampNeg none)))))) :: tl)) rfl ?_
    refine j_same (ws' := lW ct a b (mo + (1 : Int32)) cap es.tail ++ tl) ⟨sameE.obj (by rw [e4, List.length_tail]), sameE.refs (fun i _ => by rw [e5, e4, nI_clamp (by omega)]; exact ls_tail i), sameW.refl _⟩ ?_
    exact j_vret (wf := fun _ => lW ct a b (mo + (1 : Int32)) cap es.tail ++ tl) () K hr rfl trivial (by omega) (by omega) dJ2_fastRemove_43)
theorem ctJ2_fastRemove_l {l : Launch} {D : va_G} {ct : Nat → ClassId} {G : gE} {tl : va_W} (hG : gOK G) {a b : Nat} {mo : Int32} {cap : Nat} {es : List (Option Nat)} (hlen : es.length < 100000) (hcap : es.length ≤ cap) (hc9 : cap < 1000000) (h1 : 1 ≤ es.length) : ∀ sz, Met l yJ2_fastRemove (ws_ yJ2_fastRemove cJ2_fastRemove 4 none) { frames := 1, cells := 0, slots := 0, locals := 32 } (va_Pc [.ref a, .ref b, .int (nI (es.length - 1))] (cPre G D ct ((a, .inr (6, [.int mo, .ref b, .int (nI es.length)])) :: (b, .inl (ct 3, cap, .inr (.inr (.inr (.inr (lsF es)))))) :: tl) sz)) (va_Qv (fun _ : Unit => True) (fun (u : Unit) => cB D ct (va_A ((a, .inr (6, [.int mo, .ref b, .int (nI es.length)])) :: (b, .inl (ct 3, cap, .inr (.inr (.inr (.inr (lsF es)))))) :: tl) sz) (lW ct a b (mo + (1 : Int32)) cap es.dropLast ++ tl)) (va_A ((a, .inr (6, [.int mo, .ref b, .int (nI es.length)])) :: (b, .inl (ct 3, cap, .inr (.inr (.inr (.inr (lsF es)))))) :: tl) sz)) 0 0 (va_A ((a, .inr (6, [.int mo, .ref b, .int (nI es.length)])) :: (b, .inl (ct 3, cap, .inr (.inr (.inr (.inr (lsF es)))))) :: tl) sz) := fun sz =>
  j_metF (Qc := fun A => va_Qv (fun _ : Unit => True) (fun (u : Unit) => cB D ct A (lW ct a b (mo + (1 : Int32)) cap es.dropLast ++ tl)) A) (by decide) hG (Nat.le_of_ble_eq_true rfl) (fun p e s m args below meth c A K hr hnm _ => by
    have e4 : nI es.length - (1 : Int32) = nI (es.length - 1) := sub_n (b := 1) (show 1 ≤ es.length by omega)
    refine j_aload_n K 0 dJ2_fastRemove_0 rfl rfl ?_
    refine j_dup K dJ2_fastRemove_1 rfl ?_
    refine j_getMC K 0 rfl rfl dJ2_fastRemove_2 ?_
    refine j_iconst K (1 : Int32) dJ2_fastRemove_5 (by decide) ?_
    refine j_iadd K dJ2_fastRemove_6 ?_
    refine j_putMC K 0 rfl (Nat.le_of_ble_eq_true rfl) dJ2_fastRemove_7 ?_
    refine j_wsEq (ws' := ((a, .inr (6, [.int (mo + (1 : Int32)), .ref b, .int (nI es.length)])) :: (b, .inl (ct 3, cap, .inr (.inr (.inr (.inr (lsF es)))))) :: tl)) rfl ?_
    refine j_aload_n K 0 dJ2_fastRemove_10 rfl rfl ?_
    refine j_get K in_J2 0 rfl rfl 2 (by decide) q124 rfl rfl dJ2_fastRemove_11 ?_
    refine j_iconst K (1 : Int32) dJ2_fastRemove_14 (by decide) ?_
    refine j_isub K dJ2_fastRemove_15 ?_
    refine j_dup K dJ2_fastRemove_16 rfl ?_
    refine j_istore_n K [(3, .int ((nI es.length) - (1 : Int32))), (0, .ref a), (1, .ref b), (2, .int (nI (es.length - 1)))] dJ2_fastRemove_17 rfl (by decide) rfl ?_
    refine j_iload_n K 3 dJ2_fastRemove_18 rfl rfl ?_
    refine j_icmp_le K 34 dJ2_fastRemove_19 (by decide) (fun hc19 => ?_) (fun hc19 => absurd hc19 (by rw [e4]; exact fun z => z (Int32.le_refl _)))
    refine j_aload_n K 2 dJ2_fastRemove_34 rfl rfl ?_
    refine j_aload_n K 1 dJ2_fastRemove_35 rfl rfl ?_
    refine j_iload_n K 0 dJ2_fastRemove_36 rfl rfl ?_
    refine j_dup_x1 K dJ2_fastRemove_37 rfl rfl ?_
    refine j_put K in_J2 tyJ2 tyJ2_ok nmJ2 0 rfl rfl 2 (by decide) q124 rfl rfl (ty := .int) (by decide +kernel) rfl rfl (Nat.le_of_ble_eq_true rfl) dJ2_fastRemove_38 ?_
    refine j_wsEq (ws' := ((a, .inr (6, [.int (mo + (1 : Int32)), .ref b, .int ((nI es.length) - (1 : Int32))])) :: (b, .inl (ct 3, cap, .inr (.inr (.inr (.inr (lsF es)))))) :: tl)) rfl ?_
    refine j_null K dJ2_fastRemove_41 ?_
    refine j_astqN K 1 3 rfl rfl (by rw [e4]; exact vin (show es.length - 1 < cap by omega) (by omega)) dJ2_fastRemove_42 ?_
    refine j_wsEq (ws' := ((a, .inr (6, [.int (mo + (1 : Int32)), .ref b, .int ((nI es.length) - (1 : Int32))])) :: (b, .inl (ct 3, cap, .inr (.inr (.inr (.inr (va_up (lsF es) ((nI es.length) - (1 : Int32)).toNatClampNeg none)))))) :: tl)) rfl ?_
    refine j_same (ws' := lW ct a b (mo + (1 : Int32)) cap es.dropLast ++ tl) ⟨sameE.obj (by rw [e4, List.length_dropLast]), sameE.refs (fun i _ => by rw [e4, nI_clamp (by omega)]; exact ls_last i), sameW.refl _⟩ ?_
    exact j_vret (wf := fun _ => lW ct a b (mo + (1 : Int32)) cap es.dropLast ++ tl) () K hr rfl trivial (by omega) (by omega) dJ2_fastRemove_43)
theorem ctJ2_remove_0 {l : Launch} {D : va_G} {ct : Nat → ClassId} {G : gE} {tl : va_W} (hG : gOK G) {a b : Nat} {mo : Int32} {cap : Nat} {es : List (Option Nat)} {y : Nat} {g : GP} (hgc : gHasC G g) (hlen : es.length < 100000) (hcap : es.length ≤ cap) (hc9 : cap < 1000000) (h2 : 2 ≤ es.length) (hel : elW ct es tl) (hy : lsF es 0 = some y) : ∀ sz, Met l yJ2_remove (ws_ yJ2_remove cJ2_remove 4 (some (.object "java/lang/Object"))) { frames := 2, cells := 0, slots := 0, locals := 55 } (va_Pc [.ref a, .int (0 : Int32)] (cPre G D ct ((a, .inr (6, [.int mo, .ref b, .int (nI es.length)])) :: (b, .inl (ct 3, cap, .inr (.inr (.inr (.inr (lsF es)))))) :: tl) sz)) (va_Qq (fun (z : Option Nat) (_ : Unit) => z = some y) (fun (u : Unit) => cB D ct (va_A ((a, .inr (6, [.int mo, .ref b, .int (nI es.length)])) :: (b, .inl (ct 3, cap, .inr (.inr (.inr (.inr (lsF es)))))) :: tl) sz) (lW ct a b (mo + (1 : Int32)) cap es.tail ++ tl)) (va_A ((a, .inr (6, [.int mo, .ref b, .int (nI es.length)])) :: (b, .inl (ct 3, cap, .inr (.inr (.inr (.inr (lsF es)))))) :: tl) sz)) 0 0 (va_A ((a, .inr (6, [.int mo, .ref b, .int (nI es.length)])) :: (b, .inl (ct 3, cap, .inr (.inr (.inr (.inr (lsF es)))))) :: tl) sz) := fun sz =>
  j_metF (Qc := fun A => va_Qq (fun (z : Option Nat) (_ : Unit) => z = some y) (fun (u : Unit) => cB D ct A (lW ct a b (mo + (1 : Int32)) cap es.tail ++ tl)) A) (by decide) hG (Nat.le_of_ble_eq_true rfl) (fun p e s m args below meth c A K hr hnm _ => by
    refine j_iload_n K 1 dJ2_remove_0 rfl rfl ?_
    refine j_aload_n K 0 dJ2_remove_1 rfl rfl ?_
    refine j_get K in_J2 0 rfl rfl 2 (by decide) q124 rfl rfl dJ2_remove_2 ?_
    refine j_callSi K (As := [.int (0 : Int32), .int (nI es.length)]) (rest := []) (ctJ10_checkIndex (l := l) (D := D) (ct := ct) (G := G) (tl := ((a, .inr (6, [.int mo, .ref b, .int (nI es.length)])) :: (b, .inl (ct 3, cap, .inr (.inr (.inr (.inr (lsF es)))))) :: tl)) hG (x := 0) (show 0 < es.length by omega) (show es.length < 1000000000 by omega)) (lw_S q312 q313 q85 q314) (n := 2) (by decide +kernel) ⟨Nat.le_of_ble_eq_true rfl, Nat.le_of_ble_eq_true rfl⟩ rfl rfl (Nat.le_of_ble_eq_true rfl) dJ2_remove_5 ⟨by dsimp only; omega, by dsimp only; omega⟩ (fun r5 u5 hq5 => ?_)
    refine j_wsEq (ws' := ((a, .inr (6, [.int mo, .ref b, .int (nI es.length)])) :: (b, .inl (ct 3, cap, .inr (.inr (.inr (.inr (lsF es)))))) :: tl)) rfl ?_
    refine j_pop K dJ2_remove_8 rfl ?_
    refine j_aload_n K 0 dJ2_remove_9 rfl rfl ?_
    refine j_get K in_J2 0 rfl rfl 1 (by decide) q123 rfl rfl dJ2_remove_10 ?_
    refine j_astore_n K [(2, .ref b), (0, .ref a), (1, .int (0 : Int32))] dJ2_remove_13 rfl (by decide) rfl ?_
    refine j_aload_n K 0 dJ2_remove_14 rfl rfl ?_
    refine j_iload_n K 2 dJ2_remove_15 rfl rfl ?_
    refine j_aldq K 1 3 rfl rfl (vin (n := 0) (show 0 < cap by omega) (by omega)) dJ2_remove_16 ?_
    rw [show lsF es ((0 : Int32)).toNatClampNeg = some y from hy]
    show jJ p l e _ s m args below meth c _ A D _ _ _ _ _ _ (.ref y :: _)
    refine j_astore_n K [(3, .ref y), (2, .ref b), (0, .ref a), (1, .int (0 : Int32))] dJ2_remove_17 rfl (by decide) rfl ?_
    refine j_aload_n K 2 dJ2_remove_18 rfl rfl ?_
    refine j_aload_n K 1 dJ2_remove_19 rfl rfl ?_
    refine j_iload_n K 3 dJ2_remove_20 rfl rfl ?_
    refine j_callVv K (As := [.ref b, .int (0 : Int32)]) (rest := []) (ctJ2_fastRemove_0 (l := l) (D := D) (ct := ct) (G := G) (tl := tl) hG hgc hlen hcap hc9 h2 hel) (lw_V q318 q320 qs5 q74 q321) (n := 2) (by decide +kernel) ⟨Nat.le_of_ble_eq_true rfl, Nat.le_of_ble_eq_true rfl⟩ 0 rfl rfl rfl rfl rfl (Nat.le_of_ble_eq_true rfl) dJ2_remove_21 ⟨by dsimp only; omega, by dsimp only; omega⟩ (fun u21 hq21 => ?_)
    refine j_aload_n K 0 dJ2_remove_24 rfl rfl ?_
    exact j_aretq (wf := fun _ => lW ct a b (mo + (1 : Int32)) cap es.tail ++ tl) (r := (some y)) () K hr (Or.inl ⟨_, rfl⟩) rfl rfl (by omega) (by omega) dJ2_remove_25)
theorem ctJ2_remove_l {l : Launch} {D : va_G} {ct : Nat → ClassId} {G : gE} {tl : va_W} (hG : gOK G) {a b : Nat} {mo : Int32} {cap : Nat} {es : List (Option Nat)} {y : Nat}  (hlen : es.length < 100000) (hcap : es.length ≤ cap) (hc9 : cap < 1000000) (h1 : 1 ≤ es.length) (hy : lsF es (es.length - 1) = some y) : ∀ sz, Met l yJ2_remove (ws_ yJ2_remove cJ2_remove 4 (some (.object "java/lang/Object"))) { frames := 2, cells := 0, slots := 0, locals := 55 } (va_Pc [.ref a, .int (nI (es.length - 1))] (cPre G D ct ((a, .inr (6, [.int mo, .ref b, .int (nI es.length)])) :: (b, .inl (ct 3, cap, .inr (.inr (.inr (.inr (lsF es)))))) :: tl) sz)) (va_Qq (fun (z : Option Nat) (_ : Unit) => z = some y) (fun (u : Unit) => cB D ct (va_A ((a, .inr (6, [.int mo, .ref b, .int (nI es.length)])) :: (b, .inl (ct 3, cap, .inr (.inr (.inr (.inr (lsF es)))))) :: tl) sz) (lW ct a b (mo + (1 : Int32)) cap es.dropLast ++ tl)) (va_A ((a, .inr (6, [.int mo, .ref b, .int (nI es.length)])) :: (b, .inl (ct 3, cap, .inr (.inr (.inr (.inr (lsF es)))))) :: tl) sz)) 0 0 (va_A ((a, .inr (6, [.int mo, .ref b, .int (nI es.length)])) :: (b, .inl (ct 3, cap, .inr (.inr (.inr (.inr (lsF es)))))) :: tl) sz) := fun sz =>
  j_metF (Qc := fun A => va_Qq (fun (z : Option Nat) (_ : Unit) => z = some y) (fun (u : Unit) => cB D ct A (lW ct a b (mo + (1 : Int32)) cap es.dropLast ++ tl)) A) (by decide) hG (Nat.le_of_ble_eq_true rfl) (fun p e s m args below meth c A K hr hnm _ => by
    refine j_iload_n K 1 dJ2_remove_0 rfl rfl ?_
    refine j_aload_n K 0 dJ2_remove_1 rfl rfl ?_
    refine j_get K in_J2 0 rfl rfl 2 (by decide) q124 rfl rfl dJ2_remove_2 ?_
    refine j_callSi K (As := [.int (nI (es.length - 1)), .int (nI es.length)]) (rest := []) (ctJ10_checkIndex (l := l) (D := D) (ct := ct) (G := G) (tl := ((a, .inr (6, [.int mo, .ref b, .int (nI es.length)])) :: (b, .inl (ct 3, cap, .inr (.inr (.inr (.inr (lsF es)))))) :: tl)) hG (x := (es.length - 1)) (show (es.length - 1) < es.length by omega) (show es.length < 1000000000 by omega)) (lw_S q312 q313 q85 q314) (n := 2) (by decide +kernel) ⟨Nat.le_of_ble_eq_true rfl, Nat.le_of_ble_eq_true rfl⟩ rfl rfl (Nat.le_of_ble_eq_true rfl) dJ2_remove_5 ⟨by dsimp only; omega, by dsimp only; omega⟩ (fun r5 u5 hq5 => ?_)
    refine j_wsEq (ws' := ((a, .inr (6, [.int mo, .ref b, .int (nI es.length)])) :: (b, .inl (ct 3, cap, .inr (.inr (.inr (.inr (lsF es)))))) :: tl)) rfl ?_
    refine j_pop K dJ2_remove_8 rfl ?_
    refine j_aload_n K 0 dJ2_remove_9 rfl rfl ?_
    refine j_get K in_J2 0 rfl rfl 1 (by decide) q123 rfl rfl dJ2_remove_10 ?_
    refine j_astore_n K [(2, .ref b), (0, .ref a), (1, .int (nI (es.length - 1)))] dJ2_remove_13 rfl (by decide) rfl ?_
    refine j_aload_n K 0 dJ2_remove_14 rfl rfl ?_
    refine j_iload_n K 2 dJ2_remove_15 rfl rfl ?_
    refine j_aldq K 1 3 rfl rfl (vin (n := (es.length - 1)) (show (es.length - 1) < cap by omega) (by omega)) dJ2_remove_16 ?_
    rw [show lsF es ((nI (es.length - 1))).toNatClampNeg = some y from by rw [nI_clamp (by omega)]; exact hy]
    show jJ p l e _ s m args below meth c _ A D _ _ _ _ _ _ (.ref y :: _)
    refine j_astore_n K [(3, .ref y), (2, .ref b), (0, .ref a), (1, .int (nI (es.length - 1)))] dJ2_remove_17 rfl (by decide) rfl ?_
    refine j_aload_n K 2 dJ2_remove_18 rfl rfl ?_
    refine j_aload_n K 1 dJ2_remove_19 rfl rfl ?_
    refine j_iload_n K 3 dJ2_remove_20 rfl rfl ?_
    refine j_callVv K (As := [.ref b, .int (nI (es.length - 1))]) (rest := []) (ctJ2_fastRemove_l (l := l) (D := D) (ct := ct) (G := G) (tl := tl) hG hlen hcap hc9 h1) (lw_V q318 q320 qs5 q74 q321) (n := 2) (by decide +kernel) ⟨Nat.le_of_ble_eq_true rfl, Nat.le_of_ble_eq_true rfl⟩ 0 rfl rfl rfl rfl rfl (Nat.le_of_ble_eq_true rfl) dJ2_remove_21 ⟨by dsimp only; omega, by dsimp only; omega⟩ (fun u21 hq21 => ?_)
    refine j_aload_n K 0 dJ2_remove_24 rfl rfl ?_
    exact j_aretq (wf := fun _ => lW ct a b (mo + (1 : Int32)) cap es.dropLast ++ tl) (r := (some y)) () K hr (Or.inl ⟨_, rfl⟩) rfl rfl (by omega) (by omega) dJ2_remove_25)
theorem ctJ2_add_2_n {l : Launch} {D : va_G} {ct : Nat → ClassId} {G : gE} {tl : va_W} (hG : gOK G) {a b : Nat} {mo : Int32} {cap : Nat} {es : List (Option Nat)} (hlt : es.length < cap) (hc9 : cap < 1000000) : ∀ sz, Met l yJ2_add_2 (ws_ yJ2_add_2 cJ2_add_2 4 none) { frames := 0, cells := 0, slots := 0, locals := 0 } (va_Pc [.ref a, .null, .ref b, .int (nI es.length)] (cPre G D ct ((a, .inr (6, [.int mo, .ref b, .int (nI es.length)])) :: (b, .inl (ct 3, cap, .inr (.inr (.inr (.inr (lsF es)))))) :: tl) sz)) (va_Qv (fun _ : Unit => True) (fun (u : Unit) => cB D ct (va_A ((a, .inr (6, [.int mo, .ref b, .int (nI es.length)])) :: (b, .inl (ct 3, cap, .inr (.inr (.inr (.inr (lsF es)))))) :: tl) sz) (lW ct a b mo cap (es ++ [none]) ++ tl)) (va_A ((a, .inr (6, [.int mo, .ref b, .int (nI es.length)])) :: (b, .inl (ct 3, cap, .inr (.inr (.inr (.inr (lsF es)))))) :: tl) sz)) 0 0 (va_A ((a, .inr (6, [.int mo, .ref b, .int (nI es.length)])) :: (b, .inl (ct 3, cap, .inr (.inr (.inr (.inr (lsF es)))))) :: tl) sz) := fun sz =>
  j_metF (Qc := fun A => va_Qv (fun _ : Unit => True) (fun (u : Unit) => cB D ct A (lW ct a b mo cap (es ++ [none]) ++ tl)) A) (by decide) hG (Nat.le_of_ble_eq_true rfl) (fun p e s m args below meth c A K hr hnm _ => by
    refine j_iload_n K 3 dJ2_add_2_0 rfl rfl ?_
    refine j_aload_n K 2 dJ2_add_2_1 rfl rfl ?_
    refine j_alen K 1 3 rfl rfl (v := nI cap) rfl dJ2_add_2_2 ?_
    refine j_icmp_ne K 11 dJ2_add_2_3 (by decide) (fun hc3 => ?_) (fun hc3 => absurd hc3 (fun z => absurd (nI_inj z (by omega) (by omega)) (by omega)))
    refine j_aload_n K 2 dJ2_add_2_11 rfl rfl ?_
    refine j_iload_n K 3 dJ2_add_2_12 rfl rfl ?_
    refine j_aload_nN K 1 dJ2_add_2_13 rfl rfl ?_
    refine j_astqN K 1 3 rfl rfl (vin (show es.length < cap by omega) (by omega)) dJ2_add_2_14 ?_
    refine j_wsEq (ws' := ((a, .inr (6, [.int mo, .ref b, .int (nI es.length)])) :: (b, .inl (ct 3, cap, .inr (.inr (.inr (.inr (va_up (lsF es) (nI es.length).toNatClampNeg none)))))) :: tl)) rfl ?_
    refine j_aload_n K 0 dJ2_add_2_15 rfl rfl ?_
    refine j_iload_n K 3 dJ2_add_2_16 rfl rfl ?_
    refine j_iconst K (1 : Int32) dJ2_add_2_17 (by decide) ?_
    refine j_iadd K dJ2_add_2_18 ?_
    refine j_put K in_J2 tyJ2 tyJ2_ok nmJ2 0 rfl rfl 2 (by decide) q124 rfl rfl (ty := .int) (by decide +kernel) rfl rfl (Nat.le_of_ble_eq_true rfl) dJ2_add_2_19 ?_
    refine j_wsEq (ws' := ((a, .inr (6, [.int mo, .ref b, .int ((nI es.length) + (1 : Int32))])) :: (b, .inl (ct 3, cap, .inr (.inr (.inr (.inr (va_up (lsF es) (nI es.length).toNatClampNeg none)))))) :: tl)) rfl ?_
    refine j_same (ws' := lW ct a b mo cap (es ++ [none]) ++ tl) ⟨sameE.obj (by rw [nI_up, List.length_append]; rfl), sameE.refs (fun i _ => by rw [nI_clamp (by omega)]; exact ls_add es _ i), sameW.refl _⟩ ?_
    exact j_vret (wf := fun _ => lW ct a b mo cap (es ++ [none]) ++ tl) () K hr rfl trivial (by omega) (by omega) dJ2_add_2_22)
theorem ctJ2_add_n {l : Launch} {D : va_G} {ct : Nat → ClassId} {G : gE} {tl : va_W} (hG : gOK G) {a b : Nat} {mo : Int32} {cap : Nat} {es : List (Option Nat)} (hlt : es.length < cap) (hc9 : cap < 1000000) : ∀ sz, Met l yJ2_add (ws_ yJ2_add cJ2_add 2 (some .boolean)) { frames := 6, cells := 0, slots := 0, locals := 142 } (va_Pc [.ref a, .null] (cPre G D ct ((a, .inr (6, [.int mo, .ref b, .int (nI es.length)])) :: (b, .inl (ct 3, cap, .inr (.inr (.inr (.inr (lsF es)))))) :: tl) sz)) (va_Qi (fun (x : Int32) (_ : Unit) => x = 1) (fun (u : Unit) => cB D ct (va_A ((a, .inr (6, [.int mo, .ref b, .int (nI es.length)])) :: (b, .inl (ct 3, cap, .inr (.inr (.inr (.inr (lsF es)))))) :: tl) sz) (lW ct a b (mo + (1 : Int32)) cap (es ++ [none]) ++ tl)) (va_A ((a, .inr (6, [.int mo, .ref b, .int (nI es.length)])) :: (b, .inl (ct 3, cap, .inr (.inr (.inr (.inr (lsF es)))))) :: tl) sz)) 0 0 (va_A ((a, .inr (6, [.int mo, .ref b, .int (nI es.length)])) :: (b, .inl (ct 3, cap, .inr (.inr (.inr (.inr (lsF es)))))) :: tl) sz) := fun sz =>
  j_metF (Qc := fun A => va_Qi (fun (x : Int32) (_ : Unit) => x = 1) (fun (u : Unit) => cB D ct A (lW ct a b (mo + (1 : Int32)) cap (es ++ [none]) ++ tl)) A) (by decide) hG (Nat.le_of_ble_eq_true rfl) (fun p e s m args below meth c A K hr hnm _ => by
    refine j_aload_n K 0 dJ2_add_0 rfl rfl ?_
    refine j_dup K dJ2_add_1 rfl ?_
    refine j_getMC K 0 rfl rfl dJ2_add_2 ?_
    refine j_iconst K (1 : Int32) dJ2_add_5 (by decide) ?_
    refine j_iadd K dJ2_add_6 ?_
    refine j_putMC K 0 rfl (Nat.le_of_ble_eq_true rfl) dJ2_add_7 ?_
    refine j_wsEq (ws' := ((a, .inr (6, [.int (mo + (1 : Int32)), .ref b, .int (nI es.length)])) :: (b, .inl (ct 3, cap, .inr (.inr (.inr (.inr (lsF es)))))) :: tl)) rfl ?_
    refine j_aload_n K 0 dJ2_add_10 rfl rfl ?_
    refine j_aload_nN K 1 dJ2_add_11 rfl rfl ?_
    refine j_aload_n K 0 dJ2_add_12 rfl rfl ?_
    refine j_get K in_J2 0 rfl rfl 1 (by decide) q123 rfl rfl dJ2_add_13 ?_
    refine j_aload_n K 0 dJ2_add_16 rfl rfl ?_
    refine j_get K in_J2 0 rfl rfl 2 (by decide) q124 rfl rfl dJ2_add_17 ?_
    refine j_callVv K (As := [.null, .ref b, .int (nI es.length)]) (rest := []) (ctJ2_add_2_n (l := l) (D := D) (ct := ct) (G := G) (tl := tl) hG hlt hc9) (lw_V q145 q147 qs0 q74 q148) (n := 3) (by decide +kernel) ⟨Nat.le_of_ble_eq_true rfl, Nat.le_of_ble_eq_true rfl⟩ 0 rfl rfl rfl rfl rfl (Nat.le_of_ble_eq_true rfl) dJ2_add_20 ⟨by dsimp only; omega, by dsimp only; omega⟩ (fun u20 hq20 => ?_)
    refine j_iconst K (1 : Int32) dJ2_add_23 (by decide) ?_
    exact j_zret (wf := fun _ => lW ct a b (mo + (1 : Int32)) cap (es ++ [none]) ++ tl) () K hr rfl rfl (Or.inr rfl) (by omega) (by omega) dJ2_add_24)
theorem ctJ2_add_2_o {l : Launch} {D : va_G} {ct : Nat → ClassId} {G : gE} {tl : va_W} (hG : gOK G) {a b : Nat} {mo : Int32} {cap : Nat} {es : List (Option Nat)} {y : Nat} {el : va_E} {g : GP} (hgc : gHasC G g) (hlt : es.length < cap) (hc9 : cap < 1000000) (hy : (y, el) ∈ tl) (hoe : okE ct el) : ∀ sz, Met l yJ2_add_2 (ws_ yJ2_add_2 cJ2_add_2 4 none) { frames := 0, cells := 0, slots := 0, locals := 0 } (va_Pc [.ref a, .ref y, .ref b, .int (nI es.length)] (cPre G D ct ((a, .inr (6, [.int mo, .ref b, .int (nI es.length)])) :: (b, .inl (ct 3, cap, .inr (.inr (.inr (.inr (lsF es)))))) :: tl) sz)) (va_Qv (fun _ : Unit => True) (fun (u : Unit) => cB D ct (va_A ((a, .inr (6, [.int mo, .ref b, .int (nI es.length)])) :: (b, .inl (ct 3, cap, .inr (.inr (.inr (.inr (lsF es)))))) :: tl) sz) (lW ct a b mo cap (es ++ [(some y)]) ++ tl)) (va_A ((a, .inr (6, [.int mo, .ref b, .int (nI es.length)])) :: (b, .inl (ct 3, cap, .inr (.inr (.inr (.inr (lsF es)))))) :: tl) sz)) 0 0 (va_A ((a, .inr (6, [.int mo, .ref b, .int (nI es.length)])) :: (b, .inl (ct 3, cap, .inr (.inr (.inr (.inr (lsF es)))))) :: tl) sz) := fun sz =>
  j_metF (Qc := fun A => va_Qv (fun _ : Unit => True) (fun (u : Unit) => cB D ct A (lW ct a b mo cap (es ++ [(some y)]) ++ tl)) A) (by decide) hG (Nat.le_of_ble_eq_true rfl) (fun p e s m args below meth c A K hr hnm _ => by
    refine j_iload_n K 3 dJ2_add_2_0 rfl rfl ?_
    refine j_aload_n K 2 dJ2_add_2_1 rfl rfl ?_
    refine j_alen K 1 3 rfl rfl (v := nI cap) rfl dJ2_add_2_2 ?_
    refine j_icmp_ne K 11 dJ2_add_2_3 (by decide) (fun hc3 => ?_) (fun hc3 => absurd hc3 (fun z => absurd (nI_inj z (by omega) (by omega)) (by omega)))
    refine j_aload_n K 2 dJ2_add_2_11 rfl rfl ?_
    refine j_iload_n K 3 dJ2_add_2_12 rfl rfl ?_
    refine j_aload_n K 1 dJ2_add_2_13 rfl rfl ?_
    refine j_astqM K 1 3 rfl rfl (j_any K hgc (List.mem_cons_of_mem _ (List.mem_cons_of_mem _ hy)) hoe) (vin (show es.length < cap by omega) (by omega)) dJ2_add_2_14 ?_
    refine j_wsEq (ws' := ((a, .inr (6, [.int mo, .ref b, .int (nI es.length)])) :: (b, .inl (ct 3, cap, .inr (.inr (.inr (.inr (va_up (lsF es) (nI es.length).toNatClampNeg (some y))))))) :: tl)) rfl ?_
    refine j_aload_n K 0 dJ2_add_2_15 rfl rfl ?_
    refine j_iload_n K 3 dJ2_add_2_16 rfl rfl ?_
    refine j_iconst K (1 : Int32) dJ2_add_2_17 (by decide) ?_
    refine j_iadd K dJ2_add_2_18 ?_
    refine j_put K in_J2 tyJ2 tyJ2_ok nmJ2 0 rfl rfl 2 (by decide) q124 rfl rfl (ty := .int) (by decide +kernel) rfl rfl (Nat.le_of_ble_eq_true rfl) dJ2_add_2_19 ?_
    refine j_wsEq (ws' := ((a, .inr (6, [.int mo, .ref b, .int ((nI es.length) + (1 : Int32))])) :: (b, .inl (ct 3, cap, .inr (.inr (.inr (.inr (va_up (lsF es) (nI es.length).toNatClampNeg (some y))))))) :: tl)) rfl ?_
    refine j_same (ws' := lW ct a b mo cap (es ++ [(some y)]) ++ tl) ⟨sameE.obj (by rw [nI_up, List.length_append]; rfl), sameE.refs (fun i _ => by rw [nI_clamp (by omega)]; exact ls_add es _ i), sameW.refl _⟩ ?_
    exact j_vret (wf := fun _ => lW ct a b mo cap (es ++ [(some y)]) ++ tl) () K hr rfl trivial (by omega) (by omega) dJ2_add_2_22)
theorem ctJ2_add_o {l : Launch} {D : va_G} {ct : Nat → ClassId} {G : gE} {tl : va_W} (hG : gOK G) {a b : Nat} {mo : Int32} {cap : Nat} {es : List (Option Nat)} {y : Nat} {el : va_E} {g : GP} (hgc : gHasC G g) (hlt : es.length < cap) (hc9 : cap < 1000000) (hy : (y, el) ∈ tl) (hoe : okE ct el) : ∀ sz, Met l yJ2_add (ws_ yJ2_add cJ2_add 2 (some .boolean)) { frames := 6, cells := 0, slots := 0, locals := 142 } (va_Pc [.ref a, .ref y] (cPre G D ct ((a, .inr (6, [.int mo, .ref b, .int (nI es.length)])) :: (b, .inl (ct 3, cap, .inr (.inr (.inr (.inr (lsF es)))))) :: tl) sz)) (va_Qi (fun (x : Int32) (_ : Nat) => x = 1) (fun (u : Nat) => cB D ct (va_A ((a, .inr (6, [.int mo, .ref b, .int (nI es.length)])) :: (b, .inl (ct 3, cap, .inr (.inr (.inr (.inr (lsF es)))))) :: tl) sz) (lW ct a u (mo + (1 : Int32)) cap (es ++ [(some y)]) ++ tl)) (va_A ((a, .inr (6, [.int mo, .ref b, .int (nI es.length)])) :: (b, .inl (ct 3, cap, .inr (.inr (.inr (.inr (lsF es)))))) :: tl) sz)) 0 0 (va_A ((a, .inr (6, [.int mo, .ref b, .int (nI es.length)])) :: (b, .inl (ct 3, cap, .inr (.inr (.inr (.inr (lsF es)))))) :: tl) sz) := fun sz =>
  j_metF (Qc := fun A => va_Qi (fun (x : Int32) (_ : Nat) => x = 1) (fun (u : Nat) => cB D ct A (lW ct a u (mo + (1 : Int32)) cap (es ++ [(some y)]) ++ tl)) A) (by decide) hG (Nat.le_of_ble_eq_true rfl) (fun p e s m args below meth c A K hr hnm _ => by
    refine j_aload_n K 0 dJ2_add_0 rfl rfl ?_
    refine j_dup K dJ2_add_1 rfl ?_
    refine j_getMC K 0 rfl rfl dJ2_add_2 ?_
    refine j_iconst K (1 : Int32) dJ2_add_5 (by decide) ?_
    refine j_iadd K dJ2_add_6 ?_
    refine j_putMC K 0 rfl (Nat.le_of_ble_eq_true rfl) dJ2_add_7 ?_
    refine j_wsEq (ws' := ((a, .inr (6, [.int (mo + (1 : Int32)), .ref b, .int (nI es.length)])) :: (b, .inl (ct 3, cap, .inr (.inr (.inr (.inr (lsF es)))))) :: tl)) rfl ?_
    refine j_aload_n K 0 dJ2_add_10 rfl rfl ?_
    refine j_aload_n K 1 dJ2_add_11 rfl rfl ?_
    refine j_aload_n K 0 dJ2_add_12 rfl rfl ?_
    refine j_get K in_J2 0 rfl rfl 1 (by decide) q123 rfl rfl dJ2_add_13 ?_
    refine j_aload_n K 0 dJ2_add_16 rfl rfl ?_
    refine j_get K in_J2 0 rfl rfl 2 (by decide) q124 rfl rfl dJ2_add_17 ?_
    refine j_callVv K (As := [.ref y, .ref b, .int (nI es.length)]) (rest := []) (ctJ2_add_2_o (l := l) (D := D) (ct := ct) (G := G) (tl := tl) hG hgc hlt hc9 hy hoe) (lw_V q145 q147 qs0 q74 q148) (n := 3) (by decide +kernel) ⟨Nat.le_of_ble_eq_true rfl, Nat.le_of_ble_eq_true rfl⟩ 0 rfl rfl rfl rfl rfl (Nat.le_of_ble_eq_true rfl) dJ2_add_20 ⟨by dsimp only; omega, by dsimp only; omega⟩ (fun u20 hq20 => ?_)
    refine j_iconst K (1 : Int32) dJ2_add_23 (by decide) ?_
    exact j_zret (wf := fun (u : Nat) => lW ct a u (mo + (1 : Int32)) cap (es ++ [(some y)]) ++ tl) b K hr rfl rfl (Or.inr rfl) (by omega) (by omega) dJ2_add_24)
