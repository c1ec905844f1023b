/-! LISTS that grow: contracts, printed by gen_list2.py -/
theorem ctJ4_min {l : Launch} {D : va_G} {ct : Nat → ClassId} {G : gE} {tl : va_W} (hG : gOK G) {x y : Int32}  : ∀ sz, Met l yJ4_min (ws_ yJ4_min cJ4_min 2 (some .int)) { frames := 0, cells := 0, slots := 0, locals := 0 } (va_Pc [.int x, .int y] (cPre G D ct tl sz)) (va_Qi (fun (r : Int32) (_ : Unit) => r = if y < x then y else x) (fun (u : Unit) => cB D ct (va_A tl sz) (tl)) (va_A tl sz)) 0 0 (va_A tl sz) := fun sz =>
  j_metF (Qc := fun A => va_Qi (fun (r : Int32) (_ : Unit) => r = if y < x then y else x) (fun (u : Unit) => cB D ct A (tl)) A) (by decide +kernel) hG (Nat.le_of_ble_eq_true rfl) (fun p e s m args below meth c A K hr hnm _ => by
    refine j_iload_n K 0 dJ4_min_0 rfl rfl ?_
    refine j_iload_n K 1 dJ4_min_1 rfl rfl ?_
    refine j_icmp_gt K 9 dJ4_min_2 (by decide) (fun hc2 => ?_) (fun hc2 => ?_)
    · refine j_iload_n K 1 dJ4_min_9 rfl rfl ?_
      exact j_iret (wf := fun _ => tl) () K hr rfl (if_pos hc2).symm (by omega) (by omega) dJ4_min_10
    · refine j_iload_n K 0 dJ4_min_5 rfl rfl ?_
      refine j_goto K 10 dJ4_min_6 (by decide) ?_
      exact j_iret (wf := fun _ => tl) () K hr rfl (if_neg hc2).symm (by omega) (by omega) dJ4_min_10)
theorem ctJ3_newLength {l : Launch} {D : va_G} {ct : Nat → ClassId} {G : gE} {tl : va_W} (hG : gOK G) {o u v : Nat} (h0 : 0 < o + max u v) (h9 : o + max u v < 1000000) : ∀ sz, Met l yJ3_newLength (ws_ yJ3_newLength cJ3_newLength 4 (some .int)) { frames := 1, cells := 0, slots := 0, locals := 21 } (va_Pc [.int (nI o), .int (nI u), .int (nI v)] (cPre G D ct tl sz)) (va_Qi (fun (r : Int32) (_ : Unit) => r = (nI (o + max u v))) (fun (u : Unit) => cB D ct (va_A tl sz) (tl)) (va_A tl sz)) 0 0 (va_A tl sz) := fun sz =>
  j_metF (Qc := fun A => va_Qi (fun (r : Int32) (_ : Unit) => r = (nI (o + max u v))) (fun (u : Unit) => cB D ct A (tl)) A) (by decide) hG (Nat.le_of_ble_eq_true rfl) (fun p e s m args below meth c A K hr hnm _ => by
    have hu : u ≤ max u v := Nat.le_max_left _ _
    have hv : v ≤ max u v := Nat.le_max_right _ _
    refine j_iload_n K 0 dJ3_newLength_0 rfl rfl ?_
    refine j_iload_n K 1 dJ3_newLength_1 rfl rfl ?_
    refine j_iload_n K 2 dJ3_newLength_2 rfl rfl ?_
    refine j_callSi K (As := [.int (nI u), .int (nI v)]) (rest := [.int (nI o)]) (ctJ4_max (l := l) (D := D) (ct := ct) (G := G) (ws := tl) hG (nI u) (nI v)) (lw_S q160 q161 q76 q162) (n := 2) (by decide +kernel) ⟨Nat.le_of_ble_eq_true rfl, Nat.le_of_ble_eq_true rfl⟩ rfl rfl (Nat.le_of_ble_eq_true rfl) dJ3_newLength_3 ⟨by dsimp only; omega, by dsimp only; omega⟩ (fun r3 u3 hq3 => ?_)
    rw [maxI_nat (by omega) (by omega) hq3]
    refine j_wsEq (ws' := tl) rfl ?_
    refine j_iadd K dJ3_newLength_6 ?_
    rw [show ((nI o) + (nI (max u v))) = (nI (o + max u v)) from (nI_add _ _)]
    refine j_istore_n K [(3, .int (nI (o + max u v))), (0, .int (nI o)), (1, .int (nI u)), (2, .int (nI v))] dJ3_newLength_7 rfl (by decide) rfl ?_
    refine j_iconst K (0 : Int32) dJ3_newLength_8 (by decide) ?_
    refine j_iload_n K 0 dJ3_newLength_9 rfl rfl ?_
    refine j_icmp_ge K 21 dJ3_newLength_10 (by decide) (fun hc10 => absurd hc10 (fun z => absurd (nle_of (show nI (o + max u v) ≤ nI 0 from z) (by omega) (by omega)) (by omega))) (fun hc10 => ?_)
    refine j_iload_n K 0 dJ3_newLength_13 rfl rfl ?_
    refine j_ldc K q163 dJ3_newLength_14 ?_
    refine j_icmp_gt K 21 dJ3_newLength_16 (by decide) (fun hc16 => absurd hc16 (fun z => absurd (nl_of (show nI 2147483639 < nI (o + max u v) from z) (by omega) (by omega)) (by omega))) (fun hc16 => ?_)
    refine j_iload_n K 0 dJ3_newLength_19 rfl rfl ?_
    exact j_iret (wf := fun _ => tl) () K hr rfl rfl (by omega) (by omega) dJ3_newLength_20)
theorem ctJ5_copyOf_2 {l : Launch} {D : va_G} {ct : Nat → ClassId} {G : gE} {tl : va_W} (hG : gOK G) {b cap N : Nat} {es : List (Option Nat)} {g : GP} (hgc : gHasC G g) (hcap : es.length ≤ cap) (hN : cap ≤ N) (hN9 : N < 1000000) (hel : elW ct es tl) : ∀ sz, Met l yJ5_copyOf_2 (ws_ yJ5_copyOf_2 cJ5_copyOf_2 4 (some (.array (.object "java/lang/Object")))) { frames := 1, cells := 1, slots := N, locals := 32 } (va_Pc [.ref b, .int (nI N), .ref g.2.2.1] (cPre G D ct ((b, .inl (ct 3, cap, .inr (.inr (.inr (.inr (lsF es)))))) :: tl) sz)) (va_Qq (fun (z : Option Nat) (u : Nat) => z = some u) (fun (u : Nat) => cB D ct (va_A ((b, .inl (ct 3, cap, .inr (.inr (.inr (.inr (lsF es)))))) :: tl) sz) ((((u), .inl (ct 3, N, .inr (.inr (.inr (.inr (lsF es)))))) :: (b, .inl (ct 3, cap, .inr (.inr (.inr (.inr (lsF es)))))) :: tl))) (va_A ((b, .inl (ct 3, cap, .inr (.inr (.inr (.inr (lsF es)))))) :: tl) sz)) 1 N (va_A ((b, .inl (ct 3, cap, .inr (.inr (.inr (.inr (lsF es)))))) :: tl) sz) := fun sz =>
  j_metF (Qc := fun A => va_Qq (fun (z : Option Nat) (u : Nat) => z = some u) (fun (u : Nat) => cB D ct A ((((u), .inl (ct 3, N, .inr (.inr (.inr (.inr (lsF es)))))) :: (b, .inl (ct 3, cap, .inr (.inr (.inr (.inr (lsF es)))))) :: tl))) A) (by decide) hG (Nat.le_of_ble_eq_true rfl) (fun p e s m args below meth c A K hr hnm _ => by
    refine j_aload_n K 2 dJ5_copyOf_2_0 rfl rfl ?_
    refine j_ldcM K hgc q185 dJ5_copyOf_2_1 ?_
    refine j_acmp_ne K 13 dJ5_copyOf_2_3 (by decide) (fun hc3 => absurd hc3 (fun z => z rfl)) (fun hc3 => ?_)
    refine j_iload_n K 1 dJ5_copyOf_2_6 rfl rfl ?_
    refine j_newqF K q187 (K.ao hgc) 3 rfl N (nI_nn (by omega)) (nI_clamp (by omega)) (by omega) (by dsimp only; omega) (by dsimp only; omega) dJ5_copyOf_2_7 (fun a1_ => ?_)
    refine j_wsEq (ws' := ((a1_, .inl (ct 3, N, .inr (.inr (.inr (.inr (fun _ => none)))))) :: (b, .inl (ct 3, cap, .inr (.inr (.inr (.inr (lsF es)))))) :: tl)) rfl ?_
    refine j_goto K 24 dJ5_copyOf_2_10 (by decide) ?_
    refine j_astore_n K [(3, .ref a1_), (0, .ref b), (1, .int (nI N)), (2, .ref g.2.2.1)] dJ5_copyOf_2_24 rfl (by decide) rfl ?_
    refine j_aload_n K 1 dJ5_copyOf_2_25 rfl rfl ?_
    refine j_iconst K (0 : Int32) dJ5_copyOf_2_26 (by decide) ?_
    refine j_aload_n K 0 dJ5_copyOf_2_27 rfl rfl ?_
    refine j_iconst K (0 : Int32) dJ5_copyOf_2_28 (by decide) ?_
    refine j_aload_n K 1 dJ5_copyOf_2_29 rfl rfl ?_
    refine j_alen K 1 3 rfl rfl (v := nI cap) rfl dJ5_copyOf_2_30 ?_
    refine j_iload_n K 2 dJ5_copyOf_2_31 rfl rfl ?_
    refine j_callSi K (As := [.int (nI cap), .int (nI N)]) (rest := [.int (0 : Int32), .ref a1_, .int (0 : Int32), .ref b]) (ctJ4_min (l := l) (D := D) (ct := ct) (G := G) (tl := ((a1_, .inl (ct 3, N, .inr (.inr (.inr (.inr (fun _ => none)))))) :: (b, .inl (ct 3, cap, .inr (.inr (.inr (.inr (lsF es)))))) :: tl)) hG (x := nI cap) (y := nI N)) (lw_S q188 q189 q76 q190) (n := 2) (by decide +kernel) ⟨Nat.le_of_ble_eq_true rfl, Nat.le_of_ble_eq_true rfl⟩ rfl rfl (Nat.le_of_ble_eq_true rfl) dJ5_copyOf_2_32 ⟨by dsimp only; omega, by dsimp only; omega⟩ (fun r32 u32 hq32 => ?_)
    rw [minI_nat hN (by omega) hq32]
    refine j_wsEq (ws' := ((a1_, .inl (ct 3, N, .inr (.inr (.inr (.inr (fun _ => none)))))) :: (b, .inl (ct 3, cap, .inr (.inr (.inr (.inr (lsF es)))))) :: tl)) rfl ?_
    refine j_copyM K q191 1 0 rfl rfl (by decide) (by decide) (nI_nn (by omega)) (by rw [nI_clamp (by omega)]; show 0 + _ ≤ _; omega) (by rw [nI_clamp (by omega)]; show 0 + _ ≤ _; omega) (fun H hP i _ y hy => by obtain ⟨el, h8, h9⟩ := hel y (lsF_lt hy); exact j_any K hgc (List.mem_cons_of_mem _ (List.mem_cons_of_mem _ h8)) h9 H hP) (Nat.le_of_ble_eq_true rfl) (Nat.le_of_ble_eq_true rfl) dJ5_copyOf_2_35 ?_
    refine j_wsEq (ws' := ((a1_, .inl (ct 3, N, .inr (.inr (.inr (.inr (va_cpy (lsF es) (fun _ => none) (0 : Int32).toNatClampNeg (0 : Int32).toNatClampNeg (nI cap).toNatClampNeg)))))) :: (b, .inl (ct 3, cap, .inr (.inr (.inr (.inr (lsF es)))))) :: tl)) rfl ?_
    refine j_aload_n K 0 dJ5_copyOf_2_38 rfl rfl ?_
    refine j_same (ws' := (((a1_), .inl (ct 3, N, .inr (.inr (.inr (.inr (lsF es)))))) :: (b, .inl (ct 3, cap, .inr (.inr (.inr (.inr (lsF es)))))) :: tl)) ⟨sameE.refs (fun i _ => by rw [nI_clamp (by omega)]; exact ls_cpy hcap i), sameW.refl _⟩ ?_
    exact j_aretq (wf := fun u => (((u), .inl (ct 3, N, .inr (.inr (.inr (.inr (lsF es)))))) :: (b, .inl (ct 3, cap, .inr (.inr (.inr (.inr (lsF es)))))) :: tl)) (r := (some a1_)) a1_ K hr (Or.inr ⟨_, rfl⟩) rfl rfl (by omega) (by omega) dJ5_copyOf_2_39)
theorem ctJ5_copyOf {l : Launch} {D : va_G} {ct : Nat → ClassId} {G : gE} {tl : va_W} (hG : gOK G) {b cap N : Nat} {es : List (Option Nat)} {g : GP} (hgc : gHasC G g) (hcap : es.length ≤ cap) (hN : cap ≤ N) (hN9 : N < 1000000) (hel : elW ct es tl) : ∀ sz, Met l yJ5_copyOf (ws_ yJ5_copyOf cJ5_copyOf 2 (some (.array (.object "java/lang/Object")))) { frames := 2, cells := 1, slots := N, locals := 55 } (va_Pc [.ref b, .int (nI N)] (cPre G D ct ((b, .inl (ct 3, cap, .inr (.inr (.inr (.inr (lsF es)))))) :: tl) sz)) (va_Qq (fun (z : Option Nat) (u : Nat) => z = some u) (fun (u : Nat) => cB D ct (va_A ((b, .inl (ct 3, cap, .inr (.inr (.inr (.inr (lsF es)))))) :: tl) sz) ((((u), .inl (ct 3, N, .inr (.inr (.inr (.inr (lsF es)))))) :: (b, .inl (ct 3, cap, .inr (.inr (.inr (.inr (lsF es)))))) :: tl))) (va_A ((b, .inl (ct 3, cap, .inr (.inr (.inr (.inr (lsF es)))))) :: tl) sz)) 1 N (va_A ((b, .inl (ct 3, cap, .inr (.inr (.inr (.inr (lsF es)))))) :: tl) sz) := fun sz =>
  j_metF (Qc := fun A => va_Qq (fun (z : Option Nat) (u : Nat) => z = some u) (fun (u : Nat) => cB D ct A ((((u), .inl (ct 3, N, .inr (.inr (.inr (.inr (lsF es)))))) :: (b, .inl (ct 3, cap, .inr (.inr (.inr (.inr (lsF es)))))) :: tl))) A) (by decide) hG (Nat.le_of_ble_eq_true rfl) (fun p e s m args below meth c A K hr hnm _ => by
    refine j_aload_n K 0 dJ5_copyOf_0 rfl rfl ?_
    refine j_iload_n K 1 dJ5_copyOf_1 rfl rfl ?_
    refine j_aload_n K 0 dJ5_copyOf_2 rfl rfl ?_
    refine j_getCA K hgc q170 0 rfl (Nat.le_of_ble_eq_true rfl) (Nat.le_of_ble_eq_true rfl) dJ5_copyOf_3 ?_
    refine j_callSq K (As := [.ref b, .int (nI N), .ref g.2.2.1]) (rest := []) (ctJ5_copyOf_2 (l := l) (D := D) (ct := ct) (G := G) (tl := tl) hG hgc hcap hN hN9 hel) (lw_S q182 q183 q77 q184) (n := 3) (by decide +kernel) ⟨Nat.le_of_ble_eq_true rfl, Nat.le_of_ble_eq_true rfl⟩ rfl rfl (Nat.le_of_ble_eq_true rfl) dJ5_copyOf_6 ⟨by dsimp only; omega, by dsimp only; omega⟩ (fun r6 u6 hq6 => ?_)
    exact j_aretq (wf := fun u => (((u), .inl (ct 3, N, .inr (.inr (.inr (.inr (lsF es)))))) :: (b, .inl (ct 3, cap, .inr (.inr (.inr (.inr (lsF es)))))) :: tl)) (r := r6) u6 K hr (Or.inr ⟨_, rfl⟩) rfl hq6 (by omega) (by omega) dJ5_copyOf_9)
theorem ctJ2_grow_2_f {l : Launch} {D : va_G} {ct : Nat → ClassId} {G : gE} {tl : va_W} (hG : gOK G) {a : Nat} {mo : Int32} {g : GP} (hgc : gHasC G g)  : ∀ sz, Met l yJ2_grow_2 (ws_ yJ2_grow_2 cJ2_grow_2 4 (some (.array (.object "java/lang/Object")))) { frames := 1, cells := 1, slots := 10, locals := 32 } (va_Pc [.ref a, .int (nI 1)] (cPre G D ct ((a, .inr (6, [.int mo, .ref g.2.1, .int (nI 0)])) :: tl) sz)) (va_Qq (fun (z : Option Nat) (u : Nat) => z = some u) (fun (u : Nat) => cB D ct (va_A ((a, .inr (6, [.int mo, .ref g.2.1, .int (nI 0)])) :: tl) sz) (((a, .inr (6, [.int mo, .ref u, .int (nI 0)])) :: (u, .inl (ct 3, 10, .inr (.inr (.inr (.inr (fun _ => none)))))) :: tl))) (va_A ((a, .inr (6, [.int mo, .ref g.2.1, .int (nI 0)])) :: tl) sz)) 1 10 (va_A ((a, .inr (6, [.int mo, .ref g.2.1, .int (nI 0)])) :: tl) sz) := fun sz =>
  j_metF (Qc := fun A => va_Qq (fun (z : Option Nat) (u : Nat) => z = some u) (fun (u : Nat) => cB D ct A (((a, .inr (6, [.int mo, .ref u, .int (nI 0)])) :: (u, .inl (ct 3, 10, .inr (.inr (.inr (.inr (fun _ => none)))))) :: tl))) A) (by decide) hG (Nat.le_of_ble_eq_true rfl) (fun p e s m args below meth c A K hr hnm _ => by
    refine j_aload_n K 0 dJ2_grow_2_0 rfl rfl ?_
    refine j_get K in_J2 0 rfl rfl 1 (by decide) q123 rfl rfl dJ2_grow_2_1 ?_
    refine j_e0len K hgc dJ2_grow_2_4 ?_
    refine j_istore_n K [(2, .int (nI 0)), (0, .ref a), (1, .int (nI 1))] dJ2_grow_2_5 rfl (by decide) rfl ?_
    refine j_iload_n K 0 dJ2_grow_2_6 rfl rfl ?_
    refine j_if_gt K 20 dJ2_grow_2_7 (by decide) (fun hc7 => absurd hc7 (by decide)) (fun hc7 => ?_)
    refine j_aload_n K 1 dJ2_grow_2_10 rfl rfl ?_
    refine j_get K in_J2 0 rfl rfl 1 (by decide) q123 rfl rfl dJ2_grow_2_11 ?_
    refine j_gets K (K.gc hgc).2.1 q121 rfl dJ2_grow_2_14 ?_
    refine j_acmp_eq K 45 dJ2_grow_2_17 (by decide) (fun hc17 => ?_) (fun hc17 => absurd hc17 (fun z => z rfl))
    refine j_aload_n K 1 dJ2_grow_2_45 rfl rfl ?_
    refine j_bipush K (10 : Int32) dJ2_grow_2_46 (by decide) ?_
    refine j_iload_n K 2 dJ2_grow_2_48 rfl rfl ?_
    refine j_callSi K (As := [.int (10 : Int32), .int (nI 1)]) (rest := [.ref a]) (ctJ4_max (l := l) (D := D) (ct := ct) (G := G) (ws := ((a, .inr (6, [.int mo, .ref g.2.1, .int (nI 0)])) :: tl)) hG (10 : Int32) (nI 1)) (lw_S q194 q161 q76 q162) (n := 2) (by decide +kernel) ⟨Nat.le_of_ble_eq_true rfl, Nat.le_of_ble_eq_true rfl⟩ rfl rfl (Nat.le_of_ble_eq_true rfl) dJ2_grow_2_49 ⟨by dsimp only; omega, by dsimp only; omega⟩ (fun r49 u49 hq49 => ?_)
    rw [show r49 = (10 : Int32) from hq49]
    refine j_wsEq (ws' := ((a, .inr (6, [.int mo, .ref g.2.1, .int (nI 0)])) :: tl)) rfl ?_
    refine j_newqF K q195 (K.ao hgc) 3 rfl 10 (by decide) (by decide) (Nat.le_of_ble_eq_true rfl) (by dsimp only; omega) (by dsimp only; omega) dJ2_grow_2_52 (fun a1_ => ?_)
    refine j_wsEq (ws' := ((a1_, .inl (ct 3, 10, .inr (.inr (.inr (.inr (fun _ => none)))))) :: (a, .inr (6, [.int mo, .ref g.2.1, .int (nI 0)])) :: tl)) rfl ?_
    refine j_dup_x1 K dJ2_grow_2_55 rfl rfl ?_
    refine j_put K in_J2 tyJ2 tyJ2_ok nmJ2 1 rfl rfl 1 (by decide) q123 rfl rfl (ty := (.array (.object "java/lang/Object"))) (by decide +kernel) rfl rfl (Nat.le_of_ble_eq_true rfl) dJ2_grow_2_56 ?_
    refine j_wsEq (ws' := ((a1_, .inl (ct 3, 10, .inr (.inr (.inr (.inr (fun _ => none)))))) :: (a, .inr (6, [.int mo, .ref a1_, .int (nI 0)])) :: tl)) rfl ?_
    refine j_wsT [1, 0] (wx := [(a1_, .inl (ct 3, 10, .inr (.inr (.inr (.inr (fun _ => none)))))), (a, .inr (6, [.int mo, .ref a1_, .int (nI 0)]))]) (ws' := [(a, .inr (6, [.int mo, .ref a1_, .int (nI 0)])), (a1_, .inl (ct 3, 10, .inr (.inr (.inr (.inr (fun _ => none))))))]) (tl := tl) rfl rfl ?_
    exact j_aretq (wf := fun u => ((a, .inr (6, [.int mo, .ref u, .int (nI 0)])) :: (u, .inl (ct 3, 10, .inr (.inr (.inr (.inr (fun _ => none)))))) :: tl)) (r := (some a1_)) a1_ K hr (Or.inr ⟨_, rfl⟩) rfl rfl (by omega) (by omega) dJ2_grow_2_59)
theorem ctJ2_grow_f {l : Launch} {D : va_G} {ct : Nat → ClassId} {G : gE} {tl : va_W} (hG : gOK G) {a : Nat} {mo : Int32} {g : GP} (hgc : gHasC G g)  : ∀ sz, Met l yJ2_grow (ws_ yJ2_grow cJ2_grow 1 (some (.array (.object "java/lang/Object")))) { frames := 2, cells := 1, slots := 10, locals := 55 } (va_Pc [.ref a] (cPre G D ct ((a, .inr (6, [.int mo, .ref g.2.1, .int (nI 0)])) :: tl) sz)) (va_Qq (fun (z : Option Nat) (u : Nat) => z = some u) (fun (u : Nat) => cB D ct (va_A ((a, .inr (6, [.int mo, .ref g.2.1, .int (nI 0)])) :: tl) sz) (((a, .inr (6, [.int mo, .ref u, .int (nI 0)])) :: (u, .inl (ct 3, 10, .inr (.inr (.inr (.inr (fun _ => none)))))) :: tl))) (va_A ((a, .inr (6, [.int mo, .ref g.2.1, .int (nI 0)])) :: tl) sz)) 1 10 (va_A ((a, .inr (6, [.int mo, .ref g.2.1, .int (nI 0)])) :: tl) sz) := fun sz =>
  j_metF (Qc := fun A => va_Qq (fun (z : Option Nat) (u : Nat) => z = some u) (fun (u : Nat) => cB D ct A (((a, .inr (6, [.int mo, .ref u, .int (nI 0)])) :: (u, .inl (ct 3, 10, .inr (.inr (.inr (.inr (fun _ => none)))))) :: tl))) A) (by decide) hG (Nat.le_of_ble_eq_true rfl) (fun p e s m args below meth c A K hr hnm _ => by
    refine j_aload_n K 0 dJ2_grow_0 rfl rfl ?_
    refine j_aload_n K 0 dJ2_grow_1 rfl rfl ?_
    refine j_get K in_J2 0 rfl rfl 2 (by decide) q124 rfl rfl dJ2_grow_2 ?_
    refine j_iconst K (1 : Int32) dJ2_grow_5 (by decide) ?_
    refine j_iadd K dJ2_grow_6 ?_
    rw [show ((nI 0) + (1 : Int32)) = (nI 1) from rfl]
    refine j_callVq K (As := [.int (nI 1)]) (rest := []) (ctJ2_grow_2_f (l := l) (D := D) (ct := ct) (G := G) (tl := tl) hG hgc) (lw_V q153 q155 qs2 q74 q156) (n := 1) (by decide +kernel) ⟨Nat.le_of_ble_eq_true rfl, Nat.le_of_ble_eq_true rfl⟩ 0 rfl rfl rfl rfl rfl (Nat.le_of_ble_eq_true rfl) dJ2_grow_7 ⟨by dsimp only; omega, by dsimp only; omega⟩ (fun r7 u7 hq7 => ?_)
    exact j_aretq (wf := fun u => ((a, .inr (6, [.int mo, .ref u, .int (nI 0)])) :: (u, .inl (ct 3, 10, .inr (.inr (.inr (.inr (fun _ => none)))))) :: tl)) (r := r7) u7 K hr (Or.inr ⟨_, rfl⟩) rfl hq7 (by omega) (by omega) dJ2_grow_10)
theorem ctJ2_grow_2_g {l : Launch} {D : va_G} {ct : Nat → ClassId} {G : gE} {tl : va_W} (hG : gOK G) {a b : Nat} {mo : Int32} {cap : Nat} {es : List (Option Nat)} {g : GP} (hgc : gHasC G g) (hfull : es.length = cap) (h2 : 2 ≤ cap) (hc9 : cap < 500000) (hel : elW ct es tl) : ∀ sz, Met l yJ2_grow_2 (ws_ yJ2_grow_2 cJ2_grow_2 4 (some (.array (.object "java/lang/Object")))) { frames := 3, cells := 1, slots := (cap + cap / 2), locals := 76 } (va_Pc [.ref a, .int (nI (es.length + 1))] (cPre G D ct ((a, .inr (6, [.int mo, .ref b, .int (nI es.length)])) :: (b, .inl (ct 3, cap, .inr (.inr (.inr (.inr (lsF es)))))) :: tl) sz)) (va_Qq (fun (z : Option Nat) (u : Nat) => z = some u) (fun (u : Nat) => cB D ct (va_A ((a, .inr (6, [.int mo, .ref b, .int (nI es.length)])) :: (b, .inl (ct 3, cap, .inr (.inr (.inr (.inr (lsF es)))))) :: tl) sz) ((lW ct a u mo (cap + cap / 2) es ++ tl))) (va_A ((a, .inr (6, [.int mo, .ref b, .int (nI es.length)])) :: (b, .inl (ct 3, cap, .inr (.inr (.inr (.inr (lsF es)))))) :: tl) sz)) 1 (cap + cap / 2) (va_A ((a, .inr (6, [.int mo, .ref b, .int (nI es.length)])) :: (b, .inl (ct 3, cap, .inr (.inr (.inr (.inr (lsF es)))))) :: tl) sz) := fun sz =>
  j_metF (Qc := fun A => va_Qq (fun (z : Option Nat) (u : Nat) => z = some u) (fun (u : Nat) => cB D ct A ((lW ct a u mo (cap + cap / 2) es ++ tl))) A) (by decide) hG (Nat.le_of_ble_eq_true rfl) (fun p e s m args below meth c A K hr hnm _ => by
    have hmx : cap + max 1 (cap / 2) = cap + cap / 2 := by omega
    refine j_aload_n K 0 dJ2_grow_2_0 rfl rfl ?_
    refine j_get K in_J2 0 rfl rfl 1 (by decide) q123 rfl rfl dJ2_grow_2_1 ?_
    refine j_alen K 1 3 rfl rfl (v := nI cap) rfl dJ2_grow_2_4 ?_
    refine j_istore_n K [(2, .int (nI cap)), (0, .ref a), (1, .int (nI (es.length + 1)))] dJ2_grow_2_5 rfl (by decide) rfl ?_
    refine j_iload_n K 0 dJ2_grow_2_6 rfl rfl ?_
    refine j_if_gt K 20 dJ2_grow_2_7 (by decide) (fun hc7 => ?_) (fun hc7 => absurd hc7 (fun z => z ((nI_ltI (show 0 < 2147483648 by decide) (by omega)).mpr (by omega))))
    refine j_iload_n K 0 dJ2_grow_2_20 rfl rfl ?_
    refine j_iload_n K 2 dJ2_grow_2_21 rfl rfl ?_
    refine j_iload_n K 0 dJ2_grow_2_22 rfl rfl ?_
    refine j_isub K dJ2_grow_2_23 ?_
    rw [show ((nI (es.length + 1)) - (nI cap)) = (nI 1) from (by rw [hfull]; exact (sub_n (by omega)).trans (congrArg nI (by omega)))]
    refine j_iload_n K 0 dJ2_grow_2_24 rfl rfl ?_
    refine j_iconst K (1 : Int32) dJ2_grow_2_25 (by decide) ?_
    refine j_ishr K dJ2_grow_2_26 ?_
    rw [show ((nI cap) >>> ((1 : Int32) &&& 31)) = (nI (cap / 2)) from (pk_shrN (by omega) _ 1 (by decide))]
    refine j_callSi K (As := [.int (nI cap), .int (nI 1), .int (nI (cap / 2))]) (rest := []) (ctJ3_newLength (l := l) (D := D) (ct := ct) (G := G) (tl := ((a, .inr (6, [.int mo, .ref b, .int (nI es.length)])) :: (b, .inl (ct 3, cap, .inr (.inr (.inr (.inr (lsF es)))))) :: tl)) hG (o := cap) (u := 1) (v := cap / 2) (by omega) (by omega)) (lw_S q157 q158 q75 q159) (n := 3) (by decide +kernel) ⟨Nat.le_of_ble_eq_true rfl, Nat.le_of_ble_eq_true rfl⟩ rfl rfl (Nat.le_of_ble_eq_true rfl) dJ2_grow_2_27 ⟨by dsimp only; omega, by dsimp only; omega⟩ (fun r27 u27 hq27 => ?_)
    rw [hq27, hmx]
    refine j_wsEq (ws' := ((a, .inr (6, [.int mo, .ref b, .int (nI es.length)])) :: (b, .inl (ct 3, cap, .inr (.inr (.inr (.inr (lsF es)))))) :: tl)) rfl ?_
    refine j_istore_n K [(3, .int (nI (cap + cap / 2))), (2, .int (nI cap)), (0, .ref a), (1, .int (nI (es.length + 1)))] dJ2_grow_2_30 rfl (by decide) rfl ?_
    refine j_aload_n K 2 dJ2_grow_2_31 rfl rfl ?_
    refine j_aload_n K 2 dJ2_grow_2_32 rfl rfl ?_
    refine j_get K in_J2 0 rfl rfl 1 (by decide) q123 rfl rfl dJ2_grow_2_33 ?_
    refine j_iload_n K 0 dJ2_grow_2_36 rfl rfl ?_
    refine j_wsT [1, 0] (wx := [(a, .inr (6, [.int mo, .ref b, .int (nI es.length)])), (b, .inl (ct 3, cap, .inr (.inr (.inr (.inr (lsF es))))))]) (ws' := [(b, .inl (ct 3, cap, .inr (.inr (.inr (.inr (lsF es)))))), (a, .inr (6, [.int mo, .ref b, .int (nI es.length)]))]) (tl := tl) rfl rfl ?_
    refine j_wsEq (ws' := ((b, .inl (ct 3, cap, .inr (.inr (.inr (.inr (lsF es)))))) :: (a, .inr (6, [.int mo, .ref b, .int (nI es.length)])) :: tl)) rfl ?_
    refine j_callSq K (As := [.ref b, .int (nI (cap + cap / 2))]) (rest := [.ref a]) (ctJ5_copyOf (l := l) (D := D) (ct := ct) (G := G) (tl := ((a, .inr (6, [.int mo, .ref b, .int (nI es.length)])) :: tl)) hG hgc (N := (cap + cap / 2)) (by omega) (by omega) (by omega) (fun y hy => by obtain ⟨el, h8, h9⟩ := hel y hy; exact ⟨el, List.mem_cons_of_mem _ h8, h9⟩)) (lw_S q167 q168 q77 q169) (n := 2) (by decide +kernel) ⟨Nat.le_of_ble_eq_true rfl, Nat.le_of_ble_eq_true rfl⟩ rfl rfl (Nat.le_of_ble_eq_true rfl) dJ2_grow_2_37 ⟨by dsimp only; omega, by dsimp only; omega⟩ (fun r37 u37 hq37 => ?_)
    rw [hq37]
    show jJ p l e _ s m args below meth c _ A D _ _ _ _ _ _ (.ref u37 :: _)
    refine j_wsEq (ws' := ((u37, .inl (ct 3, (cap + cap / 2), .inr (.inr (.inr (.inr (lsF es)))))) :: (b, .inl (ct 3, cap, .inr (.inr (.inr (.inr (lsF es)))))) :: (a, .inr (6, [.int mo, .ref b, .int (nI es.length)])) :: tl)) rfl ?_
    refine j_dup_x1 K dJ2_grow_2_40 rfl rfl ?_
    refine j_put K in_J2 tyJ2 tyJ2_ok nmJ2 2 rfl rfl 1 (by decide) q123 rfl rfl (ty := (.array (.object "java/lang/Object"))) (by decide +kernel) rfl rfl (Nat.le_of_ble_eq_true rfl) dJ2_grow_2_41 ?_
    refine j_wsEq (ws' := ((u37, .inl (ct 3, (cap + cap / 2), .inr (.inr (.inr (.inr (lsF es)))))) :: (b, .inl (ct 3, cap, .inr (.inr (.inr (.inr (lsF es)))))) :: (a, .inr (6, [.int mo, .ref u37, .int (nI es.length)])) :: tl)) rfl ?_
    refine j_wsT [2, 0] (wx := [(u37, .inl (ct 3, (cap + cap / 2), .inr (.inr (.inr (.inr (lsF es)))))), (b, .inl (ct 3, cap, .inr (.inr (.inr (.inr (lsF es)))))), (a, .inr (6, [.int mo, .ref u37, .int (nI es.length)]))]) (ws' := [(a, .inr (6, [.int mo, .ref u37, .int (nI es.length)])), (u37, .inl (ct 3, (cap + cap / 2), .inr (.inr (.inr (.inr (lsF es))))))]) (tl := tl) rfl rfl ?_
    exact j_aretq (wf := fun u => (lW ct a u mo (cap + cap / 2) es ++ tl)) (r := (some u37)) u37 K hr (Or.inr ⟨_, rfl⟩) rfl rfl (by omega) (by omega) dJ2_grow_2_44)
theorem ctJ2_grow_g {l : Launch} {D : va_G} {ct : Nat → ClassId} {G : gE} {tl : va_W} (hG : gOK G) {a b : Nat} {mo : Int32} {cap : Nat} {es : List (Option Nat)} {g : GP} (hgc : gHasC G g) (hfull : es.length = cap) (h2 : 2 ≤ cap) (hc9 : cap < 500000) (hel : elW ct es tl) : ∀ sz, Met l yJ2_grow (ws_ yJ2_grow cJ2_grow 1 (some (.array (.object "java/lang/Object")))) { frames := 4, cells := 1, slots := (cap + cap / 2), locals := 99 } (va_Pc [.ref a] (cPre G D ct ((a, .inr (6, [.int mo, .ref b, .int (nI es.length)])) :: (b, .inl (ct 3, cap, .inr (.inr (.inr (.inr (lsF es)))))) :: tl) sz)) (va_Qq (fun (z : Option Nat) (u : Nat) => z = some u) (fun (u : Nat) => cB D ct (va_A ((a, .inr (6, [.int mo, .ref b, .int (nI es.length)])) :: (b, .inl (ct 3, cap, .inr (.inr (.inr (.inr (lsF es)))))) :: tl) sz) ((lW ct a u mo (cap + cap / 2) es ++ tl))) (va_A ((a, .inr (6, [.int mo, .ref b, .int (nI es.length)])) :: (b, .inl (ct 3, cap, .inr (.inr (.inr (.inr (lsF es)))))) :: tl) sz)) 1 (cap + cap / 2) (va_A ((a, .inr (6, [.int mo, .ref b, .int (nI es.length)])) :: (b, .inl (ct 3, cap, .inr (.inr (.inr (.inr (lsF es)))))) :: tl) sz) := fun sz =>
  j_metF (Qc := fun A => va_Qq (fun (z : Option Nat) (u : Nat) => z = some u) (fun (u : Nat) => cB D ct A ((lW ct a u mo (cap + cap / 2) es ++ tl))) A) (by decide) hG (Nat.le_of_ble_eq_true rfl) (fun p e s m args below meth c A K hr hnm _ => by
    refine j_aload_n K 0 dJ2_grow_0 rfl rfl ?_
    refine j_aload_n K 0 dJ2_grow_1 rfl rfl ?_
    refine j_get K in_J2 0 rfl rfl 2 (by decide) q124 rfl rfl dJ2_grow_2 ?_
    refine j_iconst K (1 : Int32) dJ2_grow_5 (by decide) ?_
    refine j_iadd K dJ2_grow_6 ?_
    rw [show ((nI es.length) + (1 : Int32)) = (nI (es.length + 1)) from (nI_up _)]
    refine j_callVq K (As := [.int (nI (es.length + 1))]) (rest := []) (ctJ2_grow_2_g (l := l) (D := D) (ct := ct) (G := G) (tl := tl) hG hgc hfull h2 hc9 hel) (lw_V q153 q155 qs2 q74 q156) (n := 1) (by decide +kernel) ⟨Nat.le_of_ble_eq_true rfl, Nat.le_of_ble_eq_true rfl⟩ 0 rfl rfl rfl rfl rfl (Nat.le_of_ble_eq_true rfl) dJ2_grow_7 ⟨by dsimp only; omega, by dsimp only; omega⟩ (fun r7 u7 hq7 => ?_)
    exact j_aretq (wf := fun u => (lW ct a u mo (cap + cap / 2) es ++ tl)) (r := r7) u7 K hr (Or.inr ⟨_, rfl⟩) rfl hq7 (by omega) (by omega) dJ2_grow_10)
theorem ctJ2_add_2_fn {l : Launch} {D : va_G} {ct : Nat → ClassId} {G : gE} {tl : va_W} (hG : gOK G) {a : Nat} {mo : Int32} {g : GP} (hgc : gHasC G g)  : ∀ sz, Met l yJ2_add_2 (ws_ yJ2_add_2 cJ2_add_2 4 none) { frames := 3, cells := 1, slots := 10, locals := 75 } (va_Pc [.ref a, .null, .ref g.2.1, .int (nI 0)] (cPre G D ct ((a, .inr (6, [.int mo, .ref g.2.1, .int (nI 0)])) :: tl) sz)) (va_Qv (fun _ : Nat => True) (fun (u : Nat) => cB D ct (va_A ((a, .inr (6, [.int mo, .ref g.2.1, .int (nI 0)])) :: tl) sz) ((lW ct a u mo 10 [none] ++ tl))) (va_A ((a, .inr (6, [.int mo, .ref g.2.1, .int (nI 0)])) :: tl) sz)) 1 10 (va_A ((a, .inr (6, [.int mo, .ref g.2.1, .int (nI 0)])) :: tl) sz) := fun sz =>
  j_metF (Qc := fun A => va_Qv (fun _ : Nat => True) (fun (u : Nat) => cB D ct A ((lW ct a u mo 10 [none] ++ tl))) A) (by decide) hG (Nat.le_of_ble_eq_true rfl) (fun p e s m args below meth c A K hr hnm _ => by
    refine j_iload_n K 3 dJ2_add_2_0 rfl rfl ?_
    refine j_aload_n K 2 dJ2_add_2_1 rfl rfl ?_
    refine j_e0len K hgc dJ2_add_2_2 ?_
    refine j_icmp_ne K 11 dJ2_add_2_3 (by decide) (fun hc3 => absurd hc3 (fun z => z rfl)) (fun hc3 => ?_)
    refine j_aload_n K 0 dJ2_add_2_6 rfl rfl ?_
    refine j_callVq K (As := []) (rest := []) (ctJ2_grow_f (l := l) (D := D) (ct := ct) (G := G) (tl := tl) hG hgc) (lw_V q149 q151 qs1 q74 q152) (n := 0) (by decide +kernel) ⟨Nat.le_of_ble_eq_true rfl, Nat.le_of_ble_eq_true rfl⟩ 0 rfl rfl rfl rfl rfl (Nat.le_of_ble_eq_true rfl) dJ2_add_2_7 ⟨by dsimp only; omega, by dsimp only; omega⟩ (fun r7 u7 hq7 => ?_)
    rw [hq7]
    show jJ p l e _ s m args below meth c _ A D _ _ _ _ _ _ (.ref u7 :: _)
    refine j_wsEq (ws' := ((a, .inr (6, [.int mo, .ref u7, .int (nI 0)])) :: (u7, .inl (ct 3, 10, .inr (.inr (.inr (.inr (fun _ => none)))))) :: tl)) rfl ?_
    refine j_astore_n K [(2, .ref u7), (0, .ref a), (1, .null), (3, .int (nI 0))] dJ2_add_2_10 rfl (by decide) rfl ?_
    refine j_aload_n K 0 dJ2_add_2_11 rfl rfl ?_
    refine j_iload_n K 3 dJ2_add_2_12 rfl rfl ?_
    refine j_aload_nN K 2 dJ2_add_2_13 rfl rfl ?_
    refine j_astqN K 1 3 rfl rfl (vin (n := 0) (show 0 < 10 by decide)) dJ2_add_2_14 ?_
    refine j_wsEq (ws' := ((a, .inr (6, [.int mo, .ref u7, .int (nI 0)])) :: (u7, .inl (ct 3, 10, .inr (.inr (.inr (.inr (va_up (fun _ => none) (nI 0).toNatClampNeg none)))))) :: tl)) rfl ?_
    refine j_aload_n K 1 dJ2_add_2_15 rfl rfl ?_
    refine j_iload_n K 3 dJ2_add_2_16 rfl rfl ?_
    refine j_iconst K (1 : Int32) dJ2_add_2_17 (by decide) ?_
    refine j_iadd K dJ2_add_2_18 ?_
    refine j_put K in_J2 tyJ2 tyJ2_ok nmJ2 0 rfl rfl 2 (by decide) q124 rfl rfl (ty := .int) (by decide +kernel) rfl rfl (Nat.le_of_ble_eq_true rfl) dJ2_add_2_19 ?_
    refine j_wsEq (ws' := ((a, .inr (6, [.int mo, .ref u7, .int ((nI 0) + (1 : Int32))])) :: (u7, .inl (ct 3, 10, .inr (.inr (.inr (.inr (va_up (fun _ => none) (nI 0).toNatClampNeg none)))))) :: tl)) rfl ?_
    refine j_same (ws' := (lW ct a u7 mo 10 [none] ++ tl)) ⟨sameE.refl _, sameE.refs (fun i _ => by rw [nI_clamp (by omega)]; exact ls_add [] none i), sameW.refl _⟩ ?_
    exact j_vret (wf := fun u => (lW ct a u mo 10 [none] ++ tl)) u7 K hr rfl trivial (by omega) (by omega) dJ2_add_2_22)
theorem ctJ2_add_fn {l : Launch} {D : va_G} {ct : Nat → ClassId} {G : gE} {tl : va_W} (hG : gOK G) {a : Nat} {mo : Int32} {g : GP} (hgc : gHasC G g)  : ∀ sz, Met l yJ2_add (ws_ yJ2_add cJ2_add 2 (some .boolean)) { frames := 6, cells := 1, slots := 10, locals := 142 } (va_Pc [.ref a, .null] (cPre G D ct ((a, .inr (6, [.int mo, .ref g.2.1, .int (nI 0)])) :: tl) sz)) (va_Qi (fun (x : Int32) (_ : Nat) => x = 1) (fun (u : Nat) => cB D ct (va_A ((a, .inr (6, [.int mo, .ref g.2.1, .int (nI 0)])) :: tl) sz) ((lW ct a u (mo + (1 : Int32)) 10 [none] ++ tl))) (va_A ((a, .inr (6, [.int mo, .ref g.2.1, .int (nI 0)])) :: tl) sz)) 1 10 (va_A ((a, .inr (6, [.int mo, .ref g.2.1, .int (nI 0)])) :: tl) sz) := fun sz =>
  j_metF (Qc := fun A => va_Qi (fun (x : Int32) (_ : Nat) => x = 1) (fun (u : Nat) => cB D ct A ((lW ct a u (mo + (1 : Int32)) 10 [none] ++ tl))) A) (by decide) hG (Nat.le_of_ble_eq_true rfl) (fun p e s m args below meth c A K hr hnm _ => by
    refine j_aload_n K 0 dJ2_add_0 rfl rfl ?_
    refine j_dup K dJ2_add_1 rfl ?_
    refine j_getMC K 0 rfl rfl dJ2_add_2 ?_
    refine j_iconst K (1 : Int32) dJ2_add_5 (by decide) ?_
    refine j_iadd K dJ2_add_6 ?_
    refine j_putMC K 0 rfl (Nat.le_of_ble_eq_true rfl) dJ2_add_7 ?_
    refine j_wsEq (ws' := ((a, .inr (6, [.int (mo + (1 : Int32)), .ref g.2.1, .int (nI 0)])) :: tl)) rfl ?_
    refine j_aload_n K 0 dJ2_add_10 rfl rfl ?_
    refine j_aload_nN K 1 dJ2_add_11 rfl rfl ?_
    refine j_aload_n K 0 dJ2_add_12 rfl rfl ?_
    refine j_get K in_J2 0 rfl rfl 1 (by decide) q123 rfl rfl dJ2_add_13 ?_
    refine j_aload_n K 0 dJ2_add_16 rfl rfl ?_
    refine j_get K in_J2 0 rfl rfl 2 (by decide) q124 rfl rfl dJ2_add_17 ?_
    refine j_callVv K (As := [.null, .ref g.2.1, .int (nI 0)]) (rest := []) (ctJ2_add_2_fn (l := l) (D := D) (ct := ct) (G := G) (tl := tl) hG hgc) (lw_V q145 q147 qs0 q74 q148) (n := 3) (by decide +kernel) ⟨Nat.le_of_ble_eq_true rfl, Nat.le_of_ble_eq_true rfl⟩ 0 rfl rfl rfl rfl rfl (Nat.le_of_ble_eq_true rfl) dJ2_add_20 ⟨by dsimp only; omega, by dsimp only; omega⟩ (fun u20 hq20 => ?_)
    refine j_iconst K (1 : Int32) dJ2_add_23 (by decide) ?_
    exact j_zret (wf := fun u => (lW ct a u (mo + (1 : Int32)) 10 [none] ++ tl)) u20 K hr rfl rfl (Or.inr rfl) (by omega) (by omega) dJ2_add_24)
theorem ctJ2_add_2_fo {l : Launch} {D : va_G} {ct : Nat → ClassId} {G : gE} {tl : va_W} (hG : gOK G) {a : Nat} {mo : Int32} {g : GP} (hgc : gHasC G g) {y : Nat} {el : va_E} (hy : (y, el) ∈ tl) (hoe : okE ct el) : ∀ sz, Met l yJ2_add_2 (ws_ yJ2_add_2 cJ2_add_2 4 none) { frames := 3, cells := 1, slots := 10, locals := 75 } (va_Pc [.ref a, .ref y, .ref g.2.1, .int (nI 0)] (cPre G D ct ((a, .inr (6, [.int mo, .ref g.2.1, .int (nI 0)])) :: tl) sz)) (va_Qv (fun _ : Nat => True) (fun (u : Nat) => cB D ct (va_A ((a, .inr (6, [.int mo, .ref g.2.1, .int (nI 0)])) :: tl) sz) ((lW ct a u mo 10 [(some y)] ++ tl))) (va_A ((a, .inr (6, [.int mo, .ref g.2.1, .int (nI 0)])) :: tl) sz)) 1 10 (va_A ((a, .inr (6, [.int mo, .ref g.2.1, .int (nI 0)])) :: tl) sz) := fun sz =>
  j_metF (Qc := fun A => va_Qv (fun _ : Nat => True) (fun (u : Nat) => cB D ct A ((lW ct a u mo 10 [(some y)] ++ tl))) A) (by decide) hG (Nat.le_of_ble_eq_true rfl) (fun p e s m args below meth c A K hr hnm _ => by
    refine j_iload_n K 3 dJ2_add_2_0 rfl rfl ?_
    refine j_aload_n K 2 dJ2_add_2_1 rfl rfl ?_
    refine j_e0len K hgc dJ2_add_2_2 ?_
    refine j_icmp_ne K 11 dJ2_add_2_3 (by decide) (fun hc3 => absurd hc3 (fun z => z rfl)) (fun hc3 => ?_)
    refine j_aload_n K 0 dJ2_add_2_6 rfl rfl ?_
    refine j_callVq K (As := []) (rest := []) (ctJ2_grow_f (l := l) (D := D) (ct := ct) (G := G) (tl := tl) hG hgc) (lw_V q149 q151 qs1 q74 q152) (n := 0) (by decide +kernel) ⟨Nat.le_of_ble_eq_true rfl, Nat.le_of_ble_eq_true rfl⟩ 0 rfl rfl rfl rfl rfl (Nat.le_of_ble_eq_true rfl) dJ2_add_2_7 ⟨by dsimp only; omega, by dsimp only; omega⟩ (fun r7 u7 hq7 => ?_)
    rw [hq7]
    show jJ p l e _ s m args below meth c _ A D _ _ _ _ _ _ (.ref u7 :: _)
    refine j_wsEq (ws' := ((a, .inr (6, [.int mo, .ref u7, .int (nI 0)])) :: (u7, .inl (ct 3, 10, .inr (.inr (.inr (.inr (fun _ => none)))))) :: tl)) rfl ?_
    refine j_astore_n K [(2, .ref u7), (0, .ref a), (1, .ref y), (3, .int (nI 0))] dJ2_add_2_10 rfl (by decide) rfl ?_
    refine j_aload_n K 0 dJ2_add_2_11 rfl rfl ?_
    refine j_iload_n K 3 dJ2_add_2_12 rfl rfl ?_
    refine j_aload_n K 2 dJ2_add_2_13 rfl rfl ?_
    refine j_astqM K 1 3 rfl rfl (j_any K hgc (List.mem_cons_of_mem _ (List.mem_cons_of_mem _ hy)) hoe) (vin (n := 0) (show 0 < 10 by decide)) dJ2_add_2_14 ?_
    refine j_wsEq (ws' := ((a, .inr (6, [.int mo, .ref u7, .int (nI 0)])) :: (u7, .inl (ct 3, 10, .inr (.inr (.inr (.inr (va_up (fun _ => none) (nI 0).toNatClampNeg (some y))))))) :: tl)) rfl ?_
    refine j_aload_n K 1 dJ2_add_2_15 rfl rfl ?_
    refine j_iload_n K 3 dJ2_add_2_16 rfl rfl ?_
    refine j_iconst K (1 : Int32) dJ2_add_2_17 (by decide) ?_
    refine j_iadd K dJ2_add_2_18 ?_
    refine j_put K in_J2 tyJ2 tyJ2_ok nmJ2 0 rfl rfl 2 (by decide) q124 rfl rfl (ty := .int) (by decide +kernel) rfl rfl (Nat.le_of_ble_eq_true rfl) dJ2_add_2_19 ?_
    refine j_wsEq (ws' := ((a, .inr (6, [.int mo, .ref u7, .int ((nI 0) + (1 : Int32))])) :: (u7, .inl (ct 3, 10, .inr (.inr (.inr (.inr (va_up (fun _ => none) (nI 0).toNatClampNeg (some y))))))) :: tl)) rfl ?_
    refine j_same (ws' := (lW ct a u7 mo 10 [(some y)] ++ tl)) ⟨sameE.refl _, sameE.refs (fun i _ => by rw [nI_clamp (by omega)]; exact ls_add [] (some y) i), sameW.refl _⟩ ?_
    exact j_vret (wf := fun u => (lW ct a u mo 10 [(some y)] ++ tl)) u7 K hr rfl trivial (by omega) (by omega) dJ2_add_2_22)
theorem ctJ2_add_fo {l : Launch} {D : va_G} {ct : Nat → ClassId} {G : gE} {tl : va_W} (hG : gOK G) {a : Nat} {mo : Int32} {g : GP} (hgc : gHasC G g) {y : Nat} {el : va_E} (hy : (y, el) ∈ tl) (hoe : okE ct el) : ∀ sz, Met l yJ2_add (ws_ yJ2_add cJ2_add 2 (some .boolean)) { frames := 6, cells := 1, slots := 10, locals := 142 } (va_Pc [.ref a, .ref y] (cPre G D ct ((a, .inr (6, [.int mo, .ref g.2.1, .int (nI 0)])) :: tl) sz)) (va_Qi (fun (x : Int32) (_ : Nat) => x = 1) (fun (u : Nat) => cB D ct (va_A ((a, .inr (6, [.int mo, .ref g.2.1, .int (nI 0)])) :: tl) sz) ((lW ct a u (mo + (1 : Int32)) 10 [(some y)] ++ tl))) (va_A ((a, .inr (6, [.int mo, .ref g.2.1, .int (nI 0)])) :: tl) sz)) 1 10 (va_A ((a, .inr (6, [.int mo, .ref g.2.1, .int (nI 0)])) :: tl) sz) := fun sz =>
  j_metF (Qc := fun A => va_Qi (fun (x : Int32) (_ : Nat) => x = 1) (fun (u : Nat) => cB D ct A ((lW ct a u (mo + (1 : Int32)) 10 [(some y)] ++ tl))) A) (by decide) hG (Nat.le_of_ble_eq_true rfl) (fun p e s m args below meth c A K hr hnm _ => by
    refine j_aload_n K 0 dJ2_add_0 rfl rfl ?_
    refine j_dup K dJ2_add_1 rfl ?_
    refine j_getMC K 0 rfl rfl dJ2_add_2 ?_
    refine j_iconst K (1 : Int32) dJ2_add_5 (by decide) ?_
    refine j_iadd K dJ2_add_6 ?_
    refine j_putMC K 0 rfl (Nat.le_of_ble_eq_true rfl) dJ2_add_7 ?_
    refine j_wsEq (ws' := ((a, .inr (6, [.int (mo + (1 : Int32)), .ref g.2.1, .int (nI 0)])) :: tl)) rfl ?_
    refine j_aload_n K 0 dJ2_add_10 rfl rfl ?_
    refine j_aload_n K 1 dJ2_add_11 rfl rfl ?_
    refine j_aload_n K 0 dJ2_add_12 rfl rfl ?_
    refine j_get K in_J2 0 rfl rfl 1 (by decide) q123 rfl rfl dJ2_add_13 ?_
    refine j_aload_n K 0 dJ2_add_16 rfl rfl ?_
    refine j_get K in_J2 0 rfl rfl 2 (by decide) q124 rfl rfl dJ2_add_17 ?_
    refine j_callVv K (As := [.ref y, .ref g.2.1, .int (nI 0)]) (rest := []) (ctJ2_add_2_fo (l := l) (D := D) (ct := ct) (G := G) (tl := tl) hG hgc hy hoe) (lw_V q145 q147 qs0 q74 q148) (n := 3) (by decide +kernel) ⟨Nat.le_of_ble_eq_true rfl, Nat.le_of_ble_eq_true rfl⟩ 0 rfl rfl rfl rfl rfl (Nat.le_of_ble_eq_true rfl) dJ2_add_20 ⟨by dsimp only; omega, by dsimp only; omega⟩ (fun u20 hq20 => ?_)
    refine j_iconst K (1 : Int32) dJ2_add_23 (by decide) ?_
    exact j_zret (wf := fun u => (lW ct a u (mo + (1 : Int32)) 10 [(some y)] ++ tl)) u20 K hr rfl rfl (Or.inr rfl) (by omega) (by omega) dJ2_add_24)
theorem ctJ2_add_2_g {l : Launch} {D : va_G} {ct : Nat → ClassId} {G : gE} {tl : va_W} (hG : gOK G) {a b : Nat} {mo : Int32} {cap : Nat} {es : List (Option Nat)} {g : GP} (hgc : gHasC G g) {y : Nat} {el : va_E} (hfull : es.length = cap) (h2 : 2 ≤ cap) (hc9 : cap < 500000) (hel : elW ct es tl) (hy : (y, el) ∈ tl) (hoe : okE ct el) : ∀ sz, Met l yJ2_add_2 (ws_ yJ2_add_2 cJ2_add_2 4 none) { frames := 5, cells := 1, slots := (cap + cap / 2), locals := 119 } (va_Pc [.ref a, .ref y, .ref b, .int (nI es.length)] (cPre G D ct ((a, .inr (6, [.int mo, .ref b, .int (nI es.length)])) :: (b, .inl (ct 3, cap, .inr (.inr (.inr (.inr (lsF es)))))) :: tl) sz)) (va_Qv (fun _ : Nat => True) (fun (u : Nat) => cB D ct (va_A ((a, .inr (6, [.int mo, .ref b, .int (nI es.length)])) :: (b, .inl (ct 3, cap, .inr (.inr (.inr (.inr (lsF es)))))) :: tl) sz) ((lW ct a u mo (cap + cap / 2) (es ++ [some y]) ++ tl))) (va_A ((a, .inr (6, [.int mo, .ref b, .int (nI es.length)])) :: (b, .inl (ct 3, cap, .inr (.inr (.inr (.inr (lsF es)))))) :: tl) sz)) 1 (cap + cap / 2) (va_A ((a, .inr (6, [.int mo, .ref b, .int (nI es.length)])) :: (b, .inl (ct 3, cap, .inr (.inr (.inr (.inr (lsF es)))))) :: tl) sz) := fun sz =>
  j_metF (Qc := fun A => va_Qv (fun _ : Nat => True) (fun (u : Nat) => cB D ct A ((lW ct a u mo (cap + cap / 2) (es ++ [some y]) ++ tl))) A) (by decide) hG (Nat.le_of_ble_eq_true rfl) (fun p e s m args below meth c A K hr hnm _ => by
    refine j_iload_n K 3 dJ2_add_2_0 rfl rfl ?_
    refine j_aload_n K 2 dJ2_add_2_1 rfl rfl ?_
    refine j_alen K 1 3 rfl rfl (v := nI cap) rfl dJ2_add_2_2 ?_
    refine j_icmp_ne K 11 dJ2_add_2_3 (by decide) (fun hc3 => absurd hc3 (fun z => z (by rw [hfull]))) (fun hc3 => ?_)
    refine j_aload_n K 0 dJ2_add_2_6 rfl rfl ?_
    refine j_callVq K (As := []) (rest := []) (ctJ2_grow_g (l := l) (D := D) (ct := ct) (G := G) (tl := tl) hG hgc hfull h2 hc9 hel) (lw_V q149 q151 qs1 q74 q152) (n := 0) (by decide +kernel) ⟨Nat.le_of_ble_eq_true rfl, Nat.le_of_ble_eq_true rfl⟩ 0 rfl rfl rfl rfl rfl (Nat.le_of_ble_eq_true rfl) dJ2_add_2_7 ⟨by dsimp only; omega, by dsimp only; omega⟩ (fun r7 u7 hq7 => ?_)
    rw [hq7]
    show jJ p l e _ s m args below meth c _ A D _ _ _ _ _ _ (.ref u7 :: _)
    refine j_wsEq (ws' := ((a, .inr (6, [.int mo, .ref u7, .int (nI es.length)])) :: (u7, .inl (ct 3, (cap + cap / 2), .inr (.inr (.inr (.inr (lsF es)))))) :: tl)) rfl ?_
    refine j_astore_n K [(2, .ref u7), (0, .ref a), (1, .ref y), (3, .int (nI es.length))] dJ2_add_2_10 rfl (by decide) rfl ?_
    refine j_aload_n K 0 dJ2_add_2_11 rfl rfl ?_
    refine j_iload_n K 3 dJ2_add_2_12 rfl rfl ?_
    refine j_aload_n K 2 dJ2_add_2_13 rfl rfl ?_
    refine j_astqM K 1 3 rfl rfl (j_any K hgc (List.mem_cons_of_mem _ (List.mem_cons_of_mem _ hy)) hoe) (vin (show es.length < cap + cap / 2 by omega) (by omega)) dJ2_add_2_14 ?_
    refine j_wsEq (ws' := ((a, .inr (6, [.int mo, .ref u7, .int (nI es.length)])) :: (u7, .inl (ct 3, (cap + cap / 2), .inr (.inr (.inr (.inr (va_up (lsF es) (nI es.length).toNatClampNeg (some y))))))) :: tl)) rfl ?_
    refine j_aload_n K 1 dJ2_add_2_15 rfl rfl ?_
    refine j_iload_n K 3 dJ2_add_2_16 rfl rfl ?_
    refine j_iconst K (1 : Int32) dJ2_add_2_17 (by decide) ?_
    refine j_iadd K dJ2_add_2_18 ?_
    refine j_put K in_J2 tyJ2 tyJ2_ok nmJ2 0 rfl rfl 2 (by decide) q124 rfl rfl (ty := .int) (by decide +kernel) rfl rfl (Nat.le_of_ble_eq_true rfl) dJ2_add_2_19 ?_
    refine j_wsEq (ws' := ((a, .inr (6, [.int mo, .ref u7, .int ((nI es.length) + (1 : Int32))])) :: (u7, .inl (ct 3, (cap + cap / 2), .inr (.inr (.inr (.inr (va_up (lsF es) (nI es.length).toNatClampNeg (some y))))))) :: tl)) rfl ?_
    refine j_same (ws' := (lW ct a u7 mo (cap + cap / 2) (es ++ [some y]) ++ tl)) ⟨sameE.obj (by rw [nI_up, List.length_append]; rfl), sameE.refs (fun i _ => by rw [nI_clamp (by omega)]; exact ls_add es _ i), sameW.refl _⟩ ?_
    exact j_vret (wf := fun u => (lW ct a u mo (cap + cap / 2) (es ++ [some y]) ++ tl)) u7 K hr rfl trivial (by omega) (by omega) dJ2_add_2_22)
theorem ctJ2_add_g {l : Launch} {D : va_G} {ct : Nat → ClassId} {G : gE} {tl : va_W} (hG : gOK G) {a b : Nat} {mo : Int32} {cap : Nat} {es : List (Option Nat)} {g : GP} (hgc : gHasC G g) {y : Nat} {el : va_E} (hfull : es.length = cap) (h2 : 2 ≤ cap) (hc9 : cap < 500000) (hel : elW ct es tl) (hy : (y, el) ∈ tl) (hoe : okE ct el) : ∀ sz, Met l yJ2_add (ws_ yJ2_add cJ2_add 2 (some .boolean)) { frames := 6, cells := 1, slots := (cap + cap / 2), locals := 142 } (va_Pc [.ref a, .ref y] (cPre G D ct ((a, .inr (6, [.int mo, .ref b, .int (nI es.length)])) :: (b, .inl (ct 3, cap, .inr (.inr (.inr (.inr (lsF es)))))) :: tl) sz)) (va_Qi (fun (x : Int32) (_ : Nat) => x = 1) (fun (u : Nat) => cB D ct (va_A ((a, .inr (6, [.int mo, .ref b, .int (nI es.length)])) :: (b, .inl (ct 3, cap, .inr (.inr (.inr (.inr (lsF es)))))) :: tl) sz) ((lW ct a u (mo + (1 : Int32)) (cap + cap / 2) (es ++ [some y]) ++ tl))) (va_A ((a, .inr (6, [.int mo, .ref b, .int (nI es.length)])) :: (b, .inl (ct 3, cap, .inr (.inr (.inr (.inr (lsF es)))))) :: tl) sz)) 1 (cap + cap / 2) (va_A ((a, .inr (6, [.int mo, .ref b, .int (nI es.length)])) :: (b, .inl (ct 3, cap, .inr (.inr (.inr (.inr (lsF es)))))) :: tl) sz) := fun sz =>
  j_metF (Qc := fun A => va_Qi (fun (x : Int32) (_ : Nat) => x = 1) (fun (u : Nat) => cB D ct A ((lW ct a u (mo + (1 : Int32)) (cap + cap / 2) (es ++ [some y]) ++ tl))) A) (by decide) hG (Nat.le_of_ble_eq_true rfl) (fun p e s m args below meth c A K hr hnm _ => by
    refine j_aload_n K 0 dJ2_add_0 rfl rfl ?_
    refine j_dup K dJ2_add_1 rfl ?_
    refine j_getMC K 0 rfl rfl dJ2_add_2 ?_
    refine j_iconst K (1 : Int32) dJ2_add_5 (by decide) ?_
    refine j_iadd K dJ2_add_6 ?_
    refine j_putMC K 0 rfl (Nat.le_of_ble_eq_true rfl) dJ2_add_7 ?_
    refine j_wsEq (ws' := ((a, .inr (6, [.int (mo + (1 : Int32)), .ref b, .int (nI es.length)])) :: (b, .inl (ct 3, cap, .inr (.inr (.inr (.inr (lsF es)))))) :: tl)) rfl ?_
    refine j_aload_n K 0 dJ2_add_10 rfl rfl ?_
    refine j_aload_n K 1 dJ2_add_11 rfl rfl ?_
    refine j_aload_n K 0 dJ2_add_12 rfl rfl ?_
    refine j_get K in_J2 0 rfl rfl 1 (by decide) q123 rfl rfl dJ2_add_13 ?_
    refine j_aload_n K 0 dJ2_add_16 rfl rfl ?_
    refine j_get K in_J2 0 rfl rfl 2 (by decide) q124 rfl rfl dJ2_add_17 ?_
    refine j_callVv K (As := [.ref y, .ref b, .int (nI es.length)]) (rest := []) (ctJ2_add_2_g (l := l) (D := D) (ct := ct) (G := G) (tl := tl) hG hgc hfull h2 hc9 hel hy hoe) (lw_V q145 q147 qs0 q74 q148) (n := 3) (by decide +kernel) ⟨Nat.le_of_ble_eq_true rfl, Nat.le_of_ble_eq_true rfl⟩ 0 rfl rfl rfl rfl rfl (Nat.le_of_ble_eq_true rfl) dJ2_add_20 ⟨by dsimp only; omega, by dsimp only; omega⟩ (fun u20 hq20 => ?_)
    refine j_iconst K (1 : Int32) dJ2_add_23 (by decide) ?_
    exact j_zret (wf := fun u => (lW ct a u (mo + (1 : Int32)) (cap + cap / 2) (es ++ [some y]) ++ tl)) u20 K hr rfl rfl (Or.inr rfl) (by omega) (by omega) dJ2_add_24)
/-- a list that may be fresh (none) -/
def lWo (ct : Nat → ClassId) (e0 a : Nat) (ob : Option Nat) (mo : Int32) (cap : Nat) (es : List (Option Nat)) : va_W := match ob with
  | none => [(a, .inr (6, [.int mo, .ref e0, .int (nI 0)]))]
  | some b => lW ct a b mo cap es
def capA (ob : Option Nat) (cap n : Nat) : Nat := match ob with
  | none => 10
  | some _ => if n < cap then cap else cap + cap / 2
def celA (ob : Option Nat) (cap n : Nat) : Nat := match ob with
  | none => 1
  | some _ => if n < cap then 0 else 1
def sloA (ob : Option Nat) (cap n : Nat) : Nat := match ob with
  | none => 10
  | some _ => if n < cap then 0 else cap + cap / 2
theorem ctJ2_add_u {l : Launch} {D : va_G} {ct : Nat → ClassId} {G : gE} {tl : va_W} (hG : gOK G) {a : Nat} {ob : Option Nat} {mo : Int32} {cap : Nat} {es : List (Option Nat)} {y : Nat} {el : va_E} {g : GP} (hgc : gHasC G g) (h0 : ob = none → es = []) (hcap : es.length ≤ cap) (h2 : 2 ≤ cap) (hc9 : cap < 500000) (hel : elW ct es tl) (hy : (y, el) ∈ tl) (hoe : okE ct el) : ∀ sz, Met l yJ2_add (ws_ yJ2_add cJ2_add 2 (some .boolean)) { frames := 6, cells := celA ob cap es.length, slots := sloA ob cap es.length, locals := 142 } (va_Pc [.ref a, .ref y] (cPre G D ct (lWo ct g.2.1 a ob mo cap es ++ tl) sz)) (va_Qi (fun (x : Int32) (_ : Nat) => x = 1) (fun (u : Nat) => cB D ct (va_A (lWo ct g.2.1 a ob mo cap es ++ tl) sz) (lW ct a u (mo + (1 : Int32)) (capA ob cap es.length) (es ++ [some y]) ++ tl)) (va_A (lWo ct g.2.1 a ob mo cap es ++ tl) sz)) (celA ob cap es.length) (sloA ob cap es.length) (va_A (lWo ct g.2.1 a ob mo cap es ++ tl) sz) := by
  cases ob with
  | none =>
    have := h0 rfl
    subst this
    exact ctJ2_add_fo hG hgc hy hoe
  | some b =>
    by_cases hlt : es.length < cap
    · have e1 : celA (some b) cap es.length = 0 := if_pos hlt
      have e2 : sloA (some b) cap es.length = 0 := if_pos hlt
      have e3 : capA (some b) cap es.length = cap := if_pos hlt
      rw [e1, e2, e3]
      exact ctJ2_add_o hG hgc hlt (by omega) hy hoe
    · have e1 : celA (some b) cap es.length = 1 := if_neg hlt
      have e2 : sloA (some b) cap es.length = cap + cap / 2 := if_neg hlt
      have e3 : capA (some b) cap es.length = cap + cap / 2 := if_neg hlt
      rw [e1, e2, e3]
      exact ctJ2_add_g hG hgc (by omega) h2 hc9 hel hy hoe
