/-! STORE: contracts, printed by gen_store.py -/
set_option maxRecDepth 100000 in
theorem ctX1_init {l : Launch} {D : va_G} {ct : Nat → ClassId} {G : gE} {tl : va_W} (hG : gOK G) {a : Nat} {g : GP} (hgc : gHasC G g)  : ∀ sz, Met l yX1_init (ws_ yX1_init cX1_init 3 none) { frames := 7, cells := 2, slots := 13, locals := 163 } (va_Pc [.ref a, .int (4 : Int32)] (cPre G D ct ((a, .inr (1, [.null])) :: tl) sz)) (va_Qv (fun _ : Nat × Nat => True) (fun (u : Nat × Nat) => cB D ct (va_A ((a, .inr (1, [.null])) :: tl) sz) (((a, .inr (1, [.ref u.1])) :: (lW ct u.1 u.2 4 10 [none, none, none, none] ++ tl)))) (va_A ((a, .inr (1, [.null])) :: tl) sz)) 2 13 (va_A ((a, .inr (1, [.null])) :: tl) sz) := fun sz =>
  j_met (Qc := fun A => va_Qv (fun _ : Nat × Nat => True) (fun (u : Nat × Nat) => cB D ct A (((a, .inr (1, [.ref u.1])) :: (lW ct u.1 u.2 4 10 [none, none, none, none] ++ tl)))) A) (by decide) hG (Nat.le_of_ble_eq_true rfl) (fun p e s m args below meth c A K hr hnm _ => by
    refine j_aload_n K 0 dX1_init_0 rfl rfl ?_
    refine j_objInit K q108 q101 q102 (Nat.le_of_ble_eq_true rfl) (Nat.le_of_ble_eq_true rfl) dX1_init_1 ?_
    refine j_aload_n K 0 dX1_init_4 rfl rfl ?_
    refine j_newF K in_J2 tyJ2 tyJ2_ok q109 q110 q74 (ci := 6) rfl [.int 0, .null, .int 0] (by decide) (by dsimp only; omega) (by dsimp only; omega) dX1_init_5 (fun a1_ => ?_)
    refine j_wsEq (ws' := ((a1_, .inr (6, [.int 0, .null, .int 0])) :: (a, .inr (1, [.null])) :: tl)) rfl ?_
    refine j_dup K dX1_init_8 rfl ?_
    refine j_callIv K (As := []) (rest := [.ref a1_, .ref a]) (ctJ2_init (l := l) (D := D) (ct := ct) (G := G) (tl := (a, .inr (1, [.null])) :: tl) hG hgc (a := a1_)) q113 q74 q111 q112 rfl (n := 0) (by decide +kernel) ⟨Nat.le_of_ble_eq_true rfl, Nat.le_of_ble_eq_true rfl⟩ rfl rfl (Nat.le_of_ble_eq_true rfl) dX1_init_9 ⟨by dsimp only; omega, by dsimp only; omega⟩ (fun u9 hq9 => ?_)
    refine j_wsEq (ws' := ((a1_, .inr (6, [.int (0 : Int32), .ref g.2.1, .int 0])) :: (a, .inr (1, [.null])) :: tl)) rfl ?_
    refine j_putF K in_X1 tyX1 tyX1_ok nmX1 1 rfl rfl 0 (by decide) q196 rfl rfl hnm rfl (ty := .object "java/util/List") (by decide +kernel) rfl rfl (Nat.le_of_ble_eq_true rfl) dX1_init_12 ?_
    refine j_wsEq (ws' := ((a1_, .inr (6, [.int (0 : Int32), .ref g.2.1, .int 0])) :: (a, .inr (1, [.ref a1_])) :: tl)) rfl ?_
    refine j_iconst K (0 : Int32) dX1_init_15 (by decide) ?_
    refine j_istore_n K [(2, .int (0 : Int32)), (0, .ref a), (1, .int (4 : Int32))] dX1_init_16 rfl (by decide) rfl ?_
    refine j_iload_n K 0 dX1_init_17 rfl rfl ?_
    refine j_iload_n K 2 dX1_init_18 rfl rfl ?_
    refine j_icmp_ge K 39 dX1_init_19 (by decide) (fun hc19 => absurd hc19 (by decide)) (fun hc19 => ?_)
    refine j_aload_n K 1 dX1_init_22 rfl rfl ?_
    refine j_get K in_X1 1 rfl rfl 0 (by decide) q196 rfl rfl dX1_init_23 ?_
    refine j_null K dX1_init_26 ?_
    refine j_callFi K (As := [.null]) (rest := []) (ctJ2_add_fn (l := l) (D := D) (ct := ct) (G := G) (tl := ((a, .inr (1, [.ref a1_])) :: tl)) hG hgc) (lw_F q136 q140 q142 q74 q144) (K.fw hgc 0 rfl) (n := 1) (by decide +kernel) ⟨Nat.le_of_ble_eq_true rfl, Nat.le_of_ble_eq_true rfl⟩ 0 rfl rfl rfl rfl rfl (Nat.le_of_ble_eq_true rfl) dX1_init_27 ⟨by dsimp only; omega, by dsimp only; omega⟩ (fun r27 u27 hq27 => ?_)
    refine j_wsEq (ws' := ((a1_, .inr (6, [.int ((0 : Int32) + (1 : Int32)), .ref u27, .int (nI [(none : Option Nat)].length)])) :: (u27, .inl (ct 3, 10, .inr (.inr (.inr (.inr (lsF [none])))))) :: (a, .inr (1, [.ref a1_])) :: tl)) rfl ?_
    refine j_pop K dX1_init_32 rfl ?_
    refine j_iinc K 0 (1 : Int32) [(2, .int (1 : Int32)), (0, .ref a), (1, .int (4 : Int32))] dX1_init_33 rfl (by decide) (by decide) rfl ?_
    refine j_goto K 17 dX1_init_36 (by decide) ?_
    refine j_iload_n K 0 dX1_init_17 rfl rfl ?_
    refine j_iload_n K 2 dX1_init_18 rfl rfl ?_
    refine j_icmp_ge K 39 dX1_init_19 (by decide) (fun hc19 => absurd hc19 (by decide)) (fun hc19 => ?_)
    refine j_aload_n K 1 dX1_init_22 rfl rfl ?_
    refine j_get K in_X1 2 rfl rfl 0 (by decide) q196 rfl rfl dX1_init_23 ?_
    refine j_null K dX1_init_26 ?_
    refine j_callFi K (As := [.null]) (rest := []) (ctJ2_add_n (l := l) (D := D) (ct := ct) (G := G) (tl := ((a, .inr (1, [.ref a1_])) :: tl)) hG (es := [none]) (by decide) (by decide)) (lw_F q136 q140 q142 q74 q144) (K.fw hgc 0 rfl) (n := 1) (by decide +kernel) ⟨Nat.le_of_ble_eq_true rfl, Nat.le_of_ble_eq_true rfl⟩ 0 rfl rfl rfl rfl rfl (Nat.le_of_ble_eq_true rfl) dX1_init_27 ⟨by dsimp only; omega, by dsimp only; omega⟩ (fun r27 v27 hq27 => ?_)
    refine j_wsEq (ws' := ((a1_, .inr (6, [.int (((0 : Int32) + (1 : Int32)) + (1 : Int32)), .ref u27, .int (nI ([none, none] : List (Option Nat)).length)])) :: (u27, .inl (ct 3, 10, .inr (.inr (.inr (.inr (lsF [none, none])))))) :: (a, .inr (1, [.ref a1_])) :: tl)) rfl ?_
    refine j_pop K dX1_init_32 rfl ?_
    refine j_iinc K 0 (2 : Int32) [(2, .int (2 : Int32)), (0, .ref a), (1, .int (4 : Int32))] dX1_init_33 rfl (by decide) (by decide) rfl ?_
    refine j_goto K 17 dX1_init_36 (by decide) ?_
    refine j_iload_n K 0 dX1_init_17 rfl rfl ?_
    refine j_iload_n K 2 dX1_init_18 rfl rfl ?_
    refine j_icmp_ge K 39 dX1_init_19 (by decide) (fun hc19 => absurd hc19 (by decide)) (fun hc19 => ?_)
    refine j_aload_n K 1 dX1_init_22 rfl rfl ?_
    refine j_get K in_X1 2 rfl rfl 0 (by decide) q196 rfl rfl dX1_init_23 ?_
    refine j_null K dX1_init_26 ?_
    refine j_callFi K (As := [.null]) (rest := []) (ctJ2_add_n (l := l) (D := D) (ct := ct) (G := G) (tl := ((a, .inr (1, [.ref a1_])) :: tl)) hG (es := [none, none]) (by decide) (by decide)) (lw_F q136 q140 q142 q74 q144) (K.fw hgc 0 rfl) (n := 1) (by decide +kernel) ⟨Nat.le_of_ble_eq_true rfl, Nat.le_of_ble_eq_true rfl⟩ 0 rfl rfl rfl rfl rfl (Nat.le_of_ble_eq_true rfl) dX1_init_27 ⟨by dsimp only; omega, by dsimp only; omega⟩ (fun r27 v27 hq27 => ?_)
    refine j_wsEq (ws' := ((a1_, .inr (6, [.int ((((0 : Int32) + (1 : Int32)) + (1 : Int32)) + (1 : Int32)), .ref u27, .int (nI ([none, none, none] : List (Option Nat)).length)])) :: (u27, .inl (ct 3, 10, .inr (.inr (.inr (.inr (lsF [none, none, none])))))) :: (a, .inr (1, [.ref a1_])) :: tl)) rfl ?_
    refine j_pop K dX1_init_32 rfl ?_
    refine j_iinc K 0 (3 : Int32) [(2, .int (3 : Int32)), (0, .ref a), (1, .int (4 : Int32))] dX1_init_33 rfl (by decide) (by decide) rfl ?_
    refine j_goto K 17 dX1_init_36 (by decide) ?_
    refine j_iload_n K 0 dX1_init_17 rfl rfl ?_
    refine j_iload_n K 2 dX1_init_18 rfl rfl ?_
    refine j_icmp_ge K 39 dX1_init_19 (by decide) (fun hc19 => absurd hc19 (by decide)) (fun hc19 => ?_)
    refine j_aload_n K 1 dX1_init_22 rfl rfl ?_
    refine j_get K in_X1 2 rfl rfl 0 (by decide) q196 rfl rfl dX1_init_23 ?_
    refine j_null K dX1_init_26 ?_
    refine j_callFi K (As := [.null]) (rest := []) (ctJ2_add_n (l := l) (D := D) (ct := ct) (G := G) (tl := ((a, .inr (1, [.ref a1_])) :: tl)) hG (es := [none, none, none]) (by decide) (by decide)) (lw_F q136 q140 q142 q74 q144) (K.fw hgc 0 rfl) (n := 1) (by decide +kernel) ⟨Nat.le_of_ble_eq_true rfl, Nat.le_of_ble_eq_true rfl⟩ 0 rfl rfl rfl rfl rfl (Nat.le_of_ble_eq_true rfl) dX1_init_27 ⟨by dsimp only; omega, by dsimp only; omega⟩ (fun r27 v27 hq27 => ?_)
    refine j_wsEq (ws' := ((a1_, .inr (6, [.int (((((0 : Int32) + (1 : Int32)) + (1 : Int32)) + (1 : Int32)) + (1 : Int32)), .ref u27, .int (nI ([none, none, none, none] : List (Option Nat)).length)])) :: (u27, .inl (ct 3, 10, .inr (.inr (.inr (.inr (lsF [none, none, none, none])))))) :: (a, .inr (1, [.ref a1_])) :: tl)) rfl ?_
    refine j_pop K dX1_init_32 rfl ?_
    refine j_iinc K 0 (4 : Int32) [(2, .int (4 : Int32)), (0, .ref a), (1, .int (4 : Int32))] dX1_init_33 rfl (by decide) (by decide) rfl ?_
    refine j_goto K 17 dX1_init_36 (by decide) ?_
    refine j_iload_n K 0 dX1_init_17 rfl rfl ?_
    refine j_iload_n K 2 dX1_init_18 rfl rfl ?_
    refine j_icmp_ge K 39 dX1_init_19 (by decide) (fun hc19 => ?_) (fun hc19 => absurd hc19 (fun z => z (by decide)))
    refine j_wsT [2, 0, 1] (wx := [(a1_, .inr (6, [.int (((((0 : Int32) + (1 : Int32)) + (1 : Int32)) + (1 : Int32)) + (1 : Int32)), .ref u27, .int (nI ([none, none, none, none] : List (Option Nat)).length)])), (u27, .inl (ct 3, 10, .inr (.inr (.inr (.inr (lsF [none, none, none, none])))))), (a, .inr (1, [.ref a1_]))]) (ws' := [(a, .inr (1, [.ref a1_])), (a1_, .inr (6, [.int (((((0 : Int32) + (1 : Int32)) + (1 : Int32)) + (1 : Int32)) + (1 : Int32)), .ref u27, .int (nI ([none, none, none, none] : List (Option Nat)).length)])), (u27, .inl (ct 3, 10, .inr (.inr (.inr (.inr (lsF [none, none, none, none]))))))]) (tl := tl) rfl rfl ?_
    refine j_wsEq (ws' := ((a, .inr (1, [.ref a1_])) :: (lW ct a1_ u27 4 10 [none, none, none, none] ++ tl))) rfl ?_
    exact j_vret (wf := fun (u : Nat × Nat) => ((a, .inr (1, [.ref u.1])) :: (lW ct u.1 u.2 4 10 [none, none, none, none] ++ tl))) (a1_, u27) K hr rfl trivial (by omega) (by omega) dX1_init_39)
theorem ctX1_has_y {l : Launch} {D : va_G} {ct : Nat → ClassId} {G : gE} {tl : va_W} (hG : gOK G) {a b k3 : Nat} {mo : Int32} {cap : Nat} {es : List (Option Nat)} {x : Nat} {g : GP} (hgc : gHasC G g) {y : Nat} (hx : x < es.length) (hcap : es.length ≤ cap) (hc9 : cap < 1000000) (hy : lsF es x = some y) : ∀ sz, Met l yX1_has (ws_ yX1_has cX1_has 2 (some .boolean)) { frames := 3, cells := 0, slots := 0, locals := 64 } (va_Pc [.ref a, .int (nI x)] (cPre G D ct ((a, .inr (1, [.ref b])) :: (b, .inr (6, [.int mo, .ref k3, .int (nI es.length)])) :: (k3, .inl (ct 3, cap, .inr (.inr (.inr (.inr (lsF es)))))) :: tl) sz)) (va_Qi (fun (z : Int32) (_ : Unit) => z = 1) (fun (u : Unit) => cB D ct (va_A ((a, .inr (1, [.ref b])) :: (b, .inr (6, [.int mo, .ref k3, .int (nI es.length)])) :: (k3, .inl (ct 3, cap, .inr (.inr (.inr (.inr (lsF es)))))) :: tl) sz) (((a, .inr (1, [.ref b])) :: (b, .inr (6, [.int mo, .ref k3, .int (nI es.length)])) :: (k3, .inl (ct 3, cap, .inr (.inr (.inr (.inr (lsF es)))))) :: tl))) (va_A ((a, .inr (1, [.ref b])) :: (b, .inr (6, [.int mo, .ref k3, .int (nI es.length)])) :: (k3, .inl (ct 3, cap, .inr (.inr (.inr (.inr (lsF es)))))) :: tl) sz)) 0 0 (va_A ((a, .inr (1, [.ref b])) :: (b, .inr (6, [.int mo, .ref k3, .int (nI es.length)])) :: (k3, .inl (ct 3, cap, .inr (.inr (.inr (.inr (lsF es)))))) :: tl) sz) := fun sz =>
  j_met (Qc := fun A => va_Qi (fun (z : Int32) (_ : Unit) => z = 1) (fun (u : Unit) => cB D ct A (((a, .inr (1, [.ref b])) :: (b, .inr (6, [.int mo, .ref k3, .int (nI es.length)])) :: (k3, .inl (ct 3, cap, .inr (.inr (.inr (.inr (lsF es)))))) :: tl))) A) (by decide) hG (Nat.le_of_ble_eq_true rfl) (fun p e s m args below meth c A K hr hnm _ => by
    refine j_aload_n K 0 dX1_has_0 rfl rfl ?_
    refine j_get K in_X1 0 rfl rfl 0 (by decide) q196 rfl rfl dX1_has_1 ?_
    refine j_iload_n K 1 dX1_has_4 rfl rfl ?_
    refine j_wsT [1, 2, 0] (wx := [(a, .inr (1, [.ref b])), (b, .inr (6, [.int mo, .ref k3, .int (nI es.length)])), (k3, .inl (ct 3, cap, .inr (.inr (.inr (.inr (lsF es))))))]) (ws' := [(b, .inr (6, [.int mo, .ref k3, .int (nI es.length)])), (k3, .inl (ct 3, cap, .inr (.inr (.inr (.inr (lsF es)))))), (a, .inr (1, [.ref b]))]) (tl := tl) rfl rfl ?_
    refine j_wsEq (ws' := ((b, .inr (6, [.int mo, .ref k3, .int (nI es.length)])) :: (k3, .inl (ct 3, cap, .inr (.inr (.inr (.inr (lsF es)))))) :: (a, .inr (1, [.ref b])) :: tl)) rfl ?_
    refine j_callFq K (As := [.int (nI x)]) (rest := []) (ctJ2_get (l := l) (D := D) (ct := ct) (G := G) (tl := ((a, .inr (1, [.ref b])) :: tl)) hG hx hcap hc9) (lw_F q378 q381 q383 q74 q385) (K.fw hgc 3 rfl) (n := 1) (by decide +kernel) ⟨Nat.le_of_ble_eq_true rfl, Nat.le_of_ble_eq_true rfl⟩ 0 rfl rfl rfl rfl rfl (Nat.le_of_ble_eq_true rfl) dX1_has_5 ⟨by dsimp only; omega, by dsimp only; omega⟩ (fun r5 u5 hq5 => ?_)
    rw [hq5, hy]
    show jJ p l e _ s m args below meth c _ A D _ _ _ _ _ _ (.ref y :: _)
    refine j_wsEq (ws' := ((b, .inr (6, [.int mo, .ref k3, .int (nI es.length)])) :: (k3, .inl (ct 3, cap, .inr (.inr (.inr (.inr (lsF es)))))) :: (a, .inr (1, [.ref b])) :: tl)) rfl ?_
    refine j_ifnull K dX1_has_10 ?_
    refine j_iconst K (1 : Int32) dX1_has_13 (by decide) ?_
    refine j_goto K 18 dX1_has_14 (by decide) ?_
    refine j_wsT [2, 0, 1] (wx := [(b, .inr (6, [.int mo, .ref k3, .int (nI es.length)])), (k3, .inl (ct 3, cap, .inr (.inr (.inr (.inr (lsF es)))))), (a, .inr (1, [.ref b]))]) (ws' := [(a, .inr (1, [.ref b])), (b, .inr (6, [.int mo, .ref k3, .int (nI es.length)])), (k3, .inl (ct 3, cap, .inr (.inr (.inr (.inr (lsF es))))))]) (tl := tl) rfl rfl ?_
    exact j_zret (wf := fun _ => ((a, .inr (1, [.ref b])) :: (b, .inr (6, [.int mo, .ref k3, .int (nI es.length)])) :: (k3, .inl (ct 3, cap, .inr (.inr (.inr (.inr (lsF es)))))) :: tl)) () K hr rfl rfl (by first | exact Or.inl rfl | exact Or.inr rfl) (by omega) (by omega) dX1_has_18)
theorem ctX1_has_n {l : Launch} {D : va_G} {ct : Nat → ClassId} {G : gE} {tl : va_W} (hG : gOK G) {a b k3 : Nat} {mo : Int32} {cap : Nat} {es : List (Option Nat)} {x : Nat} {g : GP} (hgc : gHasC G g) (hx : x < es.length) (hcap : es.length ≤ cap) (hc9 : cap < 1000000) (hy : lsF es x = none) : ∀ sz, Met l yX1_has (ws_ yX1_has cX1_has 2 (some .boolean)) { frames := 3, cells := 0, slots := 0, locals := 64 } (va_Pc [.ref a, .int (nI x)] (cPre G D ct ((a, .inr (1, [.ref b])) :: (b, .inr (6, [.int mo, .ref k3, .int (nI es.length)])) :: (k3, .inl (ct 3, cap, .inr (.inr (.inr (.inr (lsF es)))))) :: tl) sz)) (va_Qi (fun (z : Int32) (_ : Unit) => z = 0) (fun (u : Unit) => cB D ct (va_A ((a, .inr (1, [.ref b])) :: (b, .inr (6, [.int mo, .ref k3, .int (nI es.length)])) :: (k3, .inl (ct 3, cap, .inr (.inr (.inr (.inr (lsF es)))))) :: tl) sz) (((a, .inr (1, [.ref b])) :: (b, .inr (6, [.int mo, .ref k3, .int (nI es.length)])) :: (k3, .inl (ct 3, cap, .inr (.inr (.inr (.inr (lsF es)))))) :: tl))) (va_A ((a, .inr (1, [.ref b])) :: (b, .inr (6, [.int mo, .ref k3, .int (nI es.length)])) :: (k3, .inl (ct 3, cap, .inr (.inr (.inr (.inr (lsF es)))))) :: tl) sz)) 0 0 (va_A ((a, .inr (1, [.ref b])) :: (b, .inr (6, [.int mo, .ref k3, .int (nI es.length)])) :: (k3, .inl (ct 3, cap, .inr (.inr (.inr (.inr (lsF es)))))) :: tl) sz) := fun sz =>
  j_met (Qc := fun A => va_Qi (fun (z : Int32) (_ : Unit) => z = 0) (fun (u : Unit) => cB D ct A (((a, .inr (1, [.ref b])) :: (b, .inr (6, [.int mo, .ref k3, .int (nI es.length)])) :: (k3, .inl (ct 3, cap, .inr (.inr (.inr (.inr (lsF es)))))) :: tl))) A) (by decide) hG (Nat.le_of_ble_eq_true rfl) (fun p e s m args below meth c A K hr hnm _ => by
    refine j_aload_n K 0 dX1_has_0 rfl rfl ?_
    refine j_get K in_X1 0 rfl rfl 0 (by decide) q196 rfl rfl dX1_has_1 ?_
    refine j_iload_n K 1 dX1_has_4 rfl rfl ?_
    refine j_wsT [1, 2, 0] (wx := [(a, .inr (1, [.ref b])), (b, .inr (6, [.int mo, .ref k3, .int (nI es.length)])), (k3, .inl (ct 3, cap, .inr (.inr (.inr (.inr (lsF es))))))]) (ws' := [(b, .inr (6, [.int mo, .ref k3, .int (nI es.length)])), (k3, .inl (ct 3, cap, .inr (.inr (.inr (.inr (lsF es)))))), (a, .inr (1, [.ref b]))]) (tl := tl) rfl rfl ?_
    refine j_wsEq (ws' := ((b, .inr (6, [.int mo, .ref k3, .int (nI es.length)])) :: (k3, .inl (ct 3, cap, .inr (.inr (.inr (.inr (lsF es)))))) :: (a, .inr (1, [.ref b])) :: tl)) rfl ?_
    refine j_callFq K (As := [.int (nI x)]) (rest := []) (ctJ2_get (l := l) (D := D) (ct := ct) (G := G) (tl := ((a, .inr (1, [.ref b])) :: tl)) hG hx hcap hc9) (lw_F q378 q381 q383 q74 q385) (K.fw hgc 3 rfl) (n := 1) (by decide +kernel) ⟨Nat.le_of_ble_eq_true rfl, Nat.le_of_ble_eq_true rfl⟩ 0 rfl rfl rfl rfl rfl (Nat.le_of_ble_eq_true rfl) dX1_has_5 ⟨by dsimp only; omega, by dsimp only; omega⟩ (fun r5 u5 hq5 => ?_)
    rw [hq5, hy]
    show jJ p l e _ s m args below meth c _ A D _ _ _ _ _ _ (.null :: _)
    refine j_wsEq (ws' := ((b, .inr (6, [.int mo, .ref k3, .int (nI es.length)])) :: (k3, .inl (ct 3, cap, .inr (.inr (.inr (.inr (lsF es)))))) :: (a, .inr (1, [.ref b])) :: tl)) rfl ?_
    refine j_ifnullN K 17 dX1_has_10 (by decide) ?_
    refine j_iconst K (0 : Int32) dX1_has_17 (by decide) ?_
    refine j_wsT [2, 0, 1] (wx := [(b, .inr (6, [.int mo, .ref k3, .int (nI es.length)])), (k3, .inl (ct 3, cap, .inr (.inr (.inr (.inr (lsF es)))))), (a, .inr (1, [.ref b]))]) (ws' := [(a, .inr (1, [.ref b])), (b, .inr (6, [.int mo, .ref k3, .int (nI es.length)])), (k3, .inl (ct 3, cap, .inr (.inr (.inr (.inr (lsF es))))))]) (tl := tl) rfl rfl ?_
    exact j_zret (wf := fun _ => ((a, .inr (1, [.ref b])) :: (b, .inr (6, [.int mo, .ref k3, .int (nI es.length)])) :: (k3, .inl (ct 3, cap, .inr (.inr (.inr (.inr (lsF es)))))) :: tl)) () K hr rfl rfl (by first | exact Or.inl rfl | exact Or.inr rfl) (by omega) (by omega) dX1_has_18)
theorem ctX1_get {l : Launch} {D : va_G} {ct : Nat → ClassId} {G : gE} {tl : va_W} (hG : gOK G) {a b k3 : Nat} {mo : Int32} {cap : Nat} {es : List (Option Nat)} {x : Nat} {g : GP} (hgc : gHasC G g) {y : Nat} {fs : List Value} (hx : x < es.length) (hcap : es.length ≤ cap) (hc9 : cap < 1000000) (hy : lsF es x = some y) : ∀ sz, Met l yX1_get (ws_ yX1_get cX1_get 2 (some (.object "MorrisTables$Rules"))) { frames := 3, cells := 0, slots := 0, locals := 64 } (va_Pc [.ref a, .int (nI x)] (cPre G D ct ((a, .inr (1, [.ref b])) :: (b, .inr (6, [.int mo, .ref k3, .int (nI es.length)])) :: (k3, .inl (ct 3, cap, .inr (.inr (.inr (.inr (lsF es)))))) :: (y, .inr (4, fs)) :: tl) sz)) (va_Qq (fun (z : Option Nat) (_ : Unit) => z = some y) (fun (u : Unit) => cB D ct (va_A ((a, .inr (1, [.ref b])) :: (b, .inr (6, [.int mo, .ref k3, .int (nI es.length)])) :: (k3, .inl (ct 3, cap, .inr (.inr (.inr (.inr (lsF es)))))) :: (y, .inr (4, fs)) :: tl) sz) (((a, .inr (1, [.ref b])) :: (b, .inr (6, [.int mo, .ref k3, .int (nI es.length)])) :: (k3, .inl (ct 3, cap, .inr (.inr (.inr (.inr (lsF es)))))) :: (y, .inr (4, fs)) :: tl))) (va_A ((a, .inr (1, [.ref b])) :: (b, .inr (6, [.int mo, .ref k3, .int (nI es.length)])) :: (k3, .inl (ct 3, cap, .inr (.inr (.inr (.inr (lsF es)))))) :: (y, .inr (4, fs)) :: tl) sz)) 0 0 (va_A ((a, .inr (1, [.ref b])) :: (b, .inr (6, [.int mo, .ref k3, .int (nI es.length)])) :: (k3, .inl (ct 3, cap, .inr (.inr (.inr (.inr (lsF es)))))) :: (y, .inr (4, fs)) :: tl) sz) := fun sz =>
  j_met (Qc := fun A => va_Qq (fun (z : Option Nat) (_ : Unit) => z = some y) (fun (u : Unit) => cB D ct A (((a, .inr (1, [.ref b])) :: (b, .inr (6, [.int mo, .ref k3, .int (nI es.length)])) :: (k3, .inl (ct 3, cap, .inr (.inr (.inr (.inr (lsF es)))))) :: (y, .inr (4, fs)) :: tl))) A) (by decide) hG (Nat.le_of_ble_eq_true rfl) (fun p e s m args below meth c A K hr hnm _ => by
    refine j_aload_n K 0 dX1_get_0 rfl rfl ?_
    refine j_get K in_X1 0 rfl rfl 0 (by decide) q196 rfl rfl dX1_get_1 ?_
    refine j_iload_n K 1 dX1_get_4 rfl rfl ?_
    refine j_wsT [1, 2, 0, 3] (wx := [(a, .inr (1, [.ref b])), (b, .inr (6, [.int mo, .ref k3, .int (nI es.length)])), (k3, .inl (ct 3, cap, .inr (.inr (.inr (.inr (lsF es)))))), (y, .inr (4, fs))]) (ws' := [(b, .inr (6, [.int mo, .ref k3, .int (nI es.length)])), (k3, .inl (ct 3, cap, .inr (.inr (.inr (.inr (lsF es)))))), (a, .inr (1, [.ref b])), (y, .inr (4, fs))]) (tl := tl) rfl rfl ?_
    refine j_wsEq (ws' := ((b, .inr (6, [.int mo, .ref k3, .int (nI es.length)])) :: (k3, .inl (ct 3, cap, .inr (.inr (.inr (.inr (lsF es)))))) :: (a, .inr (1, [.ref b])) :: (y, .inr (4, fs)) :: tl)) rfl ?_
    refine j_callFq K (As := [.int (nI x)]) (rest := []) (ctJ2_get (l := l) (D := D) (ct := ct) (G := G) (tl := ((a, .inr (1, [.ref b])) :: (y, .inr (4, fs)) :: tl)) hG hx hcap hc9) (lw_F q378 q381 q383 q74 q385) (K.fw hgc 3 rfl) (n := 1) (by decide +kernel) ⟨Nat.le_of_ble_eq_true rfl, Nat.le_of_ble_eq_true rfl⟩ 0 rfl rfl rfl rfl rfl (Nat.le_of_ble_eq_true rfl) dX1_get_5 ⟨by dsimp only; omega, by dsimp only; omega⟩ (fun r5 u5 hq5 => ?_)
    rw [hq5, hy]
    show jJ p l e _ s m args below meth c _ A D _ _ _ _ _ _ (.ref y :: _)
    refine j_wsEq (ws' := ((b, .inr (6, [.int mo, .ref k3, .int (nI es.length)])) :: (k3, .inl (ct 3, cap, .inr (.inr (.inr (.inr (lsF es)))))) :: (a, .inr (1, [.ref b])) :: (y, .inr (4, fs)) :: tl)) rfl ?_
    refine j_castY K q394 (K.cs hgc 3 rfl) 3 rfl rfl rfl dX1_get_10 ?_
    refine j_wsT [2, 0, 1, 3] (wx := [(b, .inr (6, [.int mo, .ref k3, .int (nI es.length)])), (k3, .inl (ct 3, cap, .inr (.inr (.inr (.inr (lsF es)))))), (a, .inr (1, [.ref b])), (y, .inr (4, fs))]) (ws' := [(a, .inr (1, [.ref b])), (b, .inr (6, [.int mo, .ref k3, .int (nI es.length)])), (k3, .inl (ct 3, cap, .inr (.inr (.inr (.inr (lsF es)))))), (y, .inr (4, fs))]) (tl := tl) rfl rfl ?_
    exact j_aretq (wf := fun _ => ((a, .inr (1, [.ref b])) :: (b, .inr (6, [.int mo, .ref k3, .int (nI es.length)])) :: (k3, .inl (ct 3, cap, .inr (.inr (.inr (.inr (lsF es)))))) :: (y, .inr (4, fs)) :: tl)) (r := (some y)) () K hr (Or.inl ⟨_, rfl⟩) rfl rfl (by omega) (by omega) dX1_get_13)
theorem ctX1_put {l : Launch} {D : va_G} {ct : Nat → ClassId} {G : gE} {tl : va_W} (hG : gOK G) {a b k3 : Nat} {mo : Int32} {cap : Nat} {es : List (Option Nat)} {x : Nat} {g : GP} (hgc : gHasC G g) {y : Nat} {fs : List Value} (hx : x < es.length) (hcap : es.length ≤ cap) (hc9 : cap < 1000000) (hy : lsF es x = none) : ∀ sz, Met l yX1_put (ws_ yX1_put cX1_put 3 (some (.object "MorrisTables$Rules"))) { frames := 3, cells := 0, slots := 0, locals := 66 } (va_Pc [.ref a, .int (nI x), .ref y] (cPre G D ct ((a, .inr (1, [.ref b])) :: (b, .inr (6, [.int mo, .ref k3, .int (nI es.length)])) :: (k3, .inl (ct 3, cap, .inr (.inr (.inr (.inr (lsF es)))))) :: (y, .inr (4, fs)) :: tl) sz)) (va_Qq (fun (z : Option Nat) (_ : Unit) => z = some y) (fun (u : Unit) => cB D ct (va_A ((a, .inr (1, [.ref b])) :: (b, .inr (6, [.int mo, .ref k3, .int (nI es.length)])) :: (k3, .inl (ct 3, cap, .inr (.inr (.inr (.inr (lsF es)))))) :: (y, .inr (4, fs)) :: tl) sz) (((a, .inr (1, [.ref b])) :: (b, .inr (6, [.int mo, .ref k3, .int (nI (es.set x (some y)).length)])) :: (k3, .inl (ct 3, cap, .inr (.inr (.inr (.inr (lsF (es.set x (some y)))))))) :: (y, .inr (4, fs)) :: tl))) (va_A ((a, .inr (1, [.ref b])) :: (b, .inr (6, [.int mo, .ref k3, .int (nI es.length)])) :: (k3, .inl (ct 3, cap, .inr (.inr (.inr (.inr (lsF es)))))) :: (y, .inr (4, fs)) :: tl) sz)) 0 0 (va_A ((a, .inr (1, [.ref b])) :: (b, .inr (6, [.int mo, .ref k3, .int (nI es.length)])) :: (k3, .inl (ct 3, cap, .inr (.inr (.inr (.inr (lsF es)))))) :: (y, .inr (4, fs)) :: tl) sz) := fun sz =>
  j_met (Qc := fun A => va_Qq (fun (z : Option Nat) (_ : Unit) => z = some y) (fun (u : Unit) => cB D ct A (((a, .inr (1, [.ref b])) :: (b, .inr (6, [.int mo, .ref k3, .int (nI (es.set x (some y)).length)])) :: (k3, .inl (ct 3, cap, .inr (.inr (.inr (.inr (lsF (es.set x (some y)))))))) :: (y, .inr (4, fs)) :: tl))) A) (by decide) hG (Nat.le_of_ble_eq_true rfl) (fun p e s m args below meth c A K hr hnm _ => by
    refine j_aload_n K 0 dX1_put_0 rfl rfl ?_
    refine j_get K in_X1 0 rfl rfl 0 (by decide) q196 rfl rfl dX1_put_1 ?_
    refine j_iload_n K 1 dX1_put_4 rfl rfl ?_
    refine j_aload_n K 2 dX1_put_5 rfl rfl ?_
    refine j_wsT [1, 2, 0, 3] (wx := [(a, .inr (1, [.ref b])), (b, .inr (6, [.int mo, .ref k3, .int (nI es.length)])), (k3, .inl (ct 3, cap, .inr (.inr (.inr (.inr (lsF es)))))), (y, .inr (4, fs))]) (ws' := [(b, .inr (6, [.int mo, .ref k3, .int (nI es.length)])), (k3, .inl (ct 3, cap, .inr (.inr (.inr (.inr (lsF es)))))), (a, .inr (1, [.ref b])), (y, .inr (4, fs))]) (tl := tl) rfl rfl ?_
    refine j_wsEq (ws' := ((b, .inr (6, [.int mo, .ref k3, .int (nI es.length)])) :: (k3, .inl (ct 3, cap, .inr (.inr (.inr (.inr (lsF es)))))) :: (a, .inr (1, [.ref b])) :: (y, .inr (4, fs)) :: tl)) rfl ?_
    refine j_callFq K (As := [.int (nI x), .ref y]) (rest := []) (ctJ2_set (l := l) (D := D) (ct := ct) (G := G) (tl := ((a, .inr (1, [.ref b])) :: (y, .inr (4, fs)) :: tl)) hG (y := y) (el := .inr (4, fs)) hgc hx hcap hc9 hy (List.mem_cons_of_mem _ List.mem_cons_self) (Or.inr (Or.inl ⟨_, rfl⟩))) (lw_F q537 q540 q542 q74 q544) (K.fw hgc 4 rfl) (n := 2) (by decide +kernel) ⟨Nat.le_of_ble_eq_true rfl, Nat.le_of_ble_eq_true rfl⟩ 0 rfl rfl rfl rfl rfl (Nat.le_of_ble_eq_true rfl) dX1_put_6 ⟨by dsimp only; omega, by dsimp only; omega⟩ (fun r6 u6 hq6 => ?_)
    rw [hq6]
    show jJ p l e _ s m args below meth c _ A D _ _ _ _ _ _ (.null :: _)
    refine j_wsEq (ws' := ((b, .inr (6, [.int mo, .ref k3, .int (nI (es.set x (some y)).length)])) :: (k3, .inl (ct 3, cap, .inr (.inr (.inr (.inr (lsF (es.set x (some y)))))))) :: (a, .inr (1, [.ref b])) :: (y, .inr (4, fs)) :: tl)) rfl ?_
    refine j_pop K dX1_put_11 rfl ?_
    refine j_aload_n K 2 dX1_put_12 rfl rfl ?_
    refine j_wsT [2, 0, 1, 3] (wx := [(b, .inr (6, [.int mo, .ref k3, .int (nI (es.set x (some y)).length)])), (k3, .inl (ct 3, cap, .inr (.inr (.inr (.inr (lsF (es.set x (some y)))))))), (a, .inr (1, [.ref b])), (y, .inr (4, fs))]) (ws' := [(a, .inr (1, [.ref b])), (b, .inr (6, [.int mo, .ref k3, .int (nI (es.set x (some y)).length)])), (k3, .inl (ct 3, cap, .inr (.inr (.inr (.inr (lsF (es.set x (some y)))))))), (y, .inr (4, fs))]) (tl := tl) rfl rfl ?_
    exact j_aretq (wf := fun _ => ((a, .inr (1, [.ref b])) :: (b, .inr (6, [.int mo, .ref k3, .int (nI (es.set x (some y)).length)])) :: (k3, .inl (ct 3, cap, .inr (.inr (.inr (.inr (lsF (es.set x (some y)))))))) :: (y, .inr (4, fs)) :: tl)) (r := (some y)) () K hr (Or.inl ⟨_, rfl⟩) rfl rfl (by omega) (by omega) dX1_put_13)
