/-! WALKS of statics, printed by gen_tstat.py -/
-- J4_abs
theorem kJ4_abs_10 {p : Program} {l : Launch} {e : Env} {s : State} {m : MethodId} {args : Array Value} {below : List Frame} {meth : Method} {c : Code} {A : Nat → Prop} {D : va_G} {ct : Nat → ClassId} {G : gE} {ws : va_W} {post : Int32 → Unit → Prop} (K : CX p s m args meth c cJ4_abs 1 RJ4 A D ct G) (hr : meth.sig.returnType = (some .int))   (s0 : Int32)  (h : wJ4_abs_10 post  s0) : jJ p l e { frames := 0, cells := 0, slots := 0, locals := 0 } s m args below meth c (MQ below (va_Qi post (fun _ => cB D ct A ws) A) args s 0 0 A) A D 1 ws 0 0 10 [] [.int s0] := by
  unfold wJ4_abs_10 at h
  exact j_iret () (wf := fun _ => ws) K hr rfl h (Nat.le_of_ble_eq_true rfl) (Nat.le_of_ble_eq_true rfl) dJ4_abs_10
theorem kJ4_abs_9 {p : Program} {l : Launch} {e : Env} {s : State} {m : MethodId} {args : Array Value} {below : List Frame} {meth : Method} {c : Code} {A : Nat → Prop} {D : va_G} {ct : Nat → ClassId} {G : gE} {ws : va_W} {post : Int32 → Unit → Prop} (K : CX p s m args meth c cJ4_abs 1 RJ4 A D ct G) (hr : meth.sig.returnType = (some .int))   (x0 : Int32)  (h : wJ4_abs_9 post  x0) : jJ p l e { frames := 0, cells := 0, slots := 0, locals := 0 } s m args below meth c (MQ below (va_Qi post (fun _ => cB D ct A ws) A) args s 0 0 A) A D 1 ws 0 0 9 [(0, .int x0)] [] := by
  unfold wJ4_abs_9 at h
  refine j_iload_n K 0 dJ4_abs_9 rfl rfl ?_
  refine j_lv K [] (lv' := []) rfl ?_
  exact kJ4_abs_10 K hr  x0 h
theorem kJ4_abs_4 {p : Program} {l : Launch} {e : Env} {s : State} {m : MethodId} {args : Array Value} {below : List Frame} {meth : Method} {c : Code} {A : Nat → Prop} {D : va_G} {ct : Nat → ClassId} {G : gE} {ws : va_W} {post : Int32 → Unit → Prop} (K : CX p s m args meth c cJ4_abs 1 RJ4 A D ct G) (hr : meth.sig.returnType = (some .int))   (x0 : Int32)  (h : wJ4_abs_4 post  x0) : jJ p l e { frames := 0, cells := 0, slots := 0, locals := 0 } s m args below meth c (MQ below (va_Qi post (fun _ => cB D ct A ws) A) args s 0 0 A) A D 1 ws 0 0 4 [(0, .int x0)] [] := by
  unfold wJ4_abs_4 at h
  refine j_iload_n K 0 dJ4_abs_4 rfl rfl ?_
  refine j_ineg K dJ4_abs_5 ?_
  refine j_goto K 10 dJ4_abs_6 (by decide) ?_
  refine j_lv K [] (lv' := []) rfl ?_
  exact kJ4_abs_10 K hr  (-x0) h
theorem kJ4_abs_0 {p : Program} {l : Launch} {e : Env} {s : State} {m : MethodId} {args : Array Value} {below : List Frame} {meth : Method} {c : Code} {A : Nat → Prop} {D : va_G} {ct : Nat → ClassId} {G : gE} {ws : va_W} {post : Int32 → Unit → Prop} (K : CX p s m args meth c cJ4_abs 1 RJ4 A D ct G) (hr : meth.sig.returnType = (some .int))   (x0 : Int32)  (h : wJ4_abs_0 post  x0) : jJ p l e { frames := 0, cells := 0, slots := 0, locals := 0 } s m args below meth c (MQ below (va_Qi post (fun _ => cB D ct A ws) A) args s 0 0 A) A D 1 ws 0 0 0 [(0, .int x0)] [] := by
  unfold wJ4_abs_0 at h
  refine j_iload_n K 0 dJ4_abs_0 rfl rfl ?_
  refine j_if_ge K 9 dJ4_abs_1 (by decide) (fun hc => ?_) (fun hc => ?_)
  · exact kJ4_abs_9 K hr  x0 (h.1 hc)
  · exact kJ4_abs_4 K hr  x0 (h.2 hc)
theorem ctJ4_abs {l : Launch} {D : va_G} {ct : Nat → ClassId} {G : gE} {ws : va_W} (hG : gOK G) (x0 : Int32) : ∀ sz, Met l yJ4_abs (ws_ yJ4_abs cJ4_abs 1 (some .int)) { frames := 0, cells := 0, slots := 0, locals := 0 } (va_Pc [.int x0] (cPre G D ct ws sz)) (va_Qi (fun (r : Int32) (_ : Unit) => qJ4_abs x0 r) (fun _ => cB D ct (va_A ws sz) ws) (va_A ws sz)) 0 0 (va_A ws sz) := fun sz =>
  j_metF (Qc := fun A => va_Qi (fun (r : Int32) (_ : Unit) => qJ4_abs x0 r) (fun _ => cB D ct A ws) A) (by decide +kernel) hG (Nat.le_of_ble_eq_true rfl) (fun p e s m args below meth c A K hr _ _ => kJ4_abs_0 K hr x0 (vcJ4_abs x0))
-- J4_max
theorem kJ4_max_10 {p : Program} {l : Launch} {e : Env} {s : State} {m : MethodId} {args : Array Value} {below : List Frame} {meth : Method} {c : Code} {A : Nat → Prop} {D : va_G} {ct : Nat → ClassId} {G : gE} {ws : va_W} {post : Int32 → Unit → Prop} (K : CX p s m args meth c cJ4_max 2 RJ4 A D ct G) (hr : meth.sig.returnType = (some .int))   (s0 : Int32)  (h : wJ4_max_10 post  s0) : jJ p l e { frames := 0, cells := 0, slots := 0, locals := 0 } s m args below meth c (MQ below (va_Qi post (fun _ => cB D ct A ws) A) args s 0 0 A) A D 2 ws 0 0 10 [] [.int s0] := by
  unfold wJ4_max_10 at h
  exact j_iret () (wf := fun _ => ws) K hr rfl h (Nat.le_of_ble_eq_true rfl) (Nat.le_of_ble_eq_true rfl) dJ4_max_10
theorem kJ4_max_9 {p : Program} {l : Launch} {e : Env} {s : State} {m : MethodId} {args : Array Value} {below : List Frame} {meth : Method} {c : Code} {A : Nat → Prop} {D : va_G} {ct : Nat → ClassId} {G : gE} {ws : va_W} {post : Int32 → Unit → Prop} (K : CX p s m args meth c cJ4_max 2 RJ4 A D ct G) (hr : meth.sig.returnType = (some .int))   (x1 : Int32)  (h : wJ4_max_9 post  x1) : jJ p l e { frames := 0, cells := 0, slots := 0, locals := 0 } s m args below meth c (MQ below (va_Qi post (fun _ => cB D ct A ws) A) args s 0 0 A) A D 2 ws 0 0 9 [(1, .int x1)] [] := by
  unfold wJ4_max_9 at h
  refine j_iload_n K 0 dJ4_max_9 rfl rfl ?_
  refine j_lv K [] (lv' := []) rfl ?_
  exact kJ4_max_10 K hr  x1 h
theorem kJ4_max_5 {p : Program} {l : Launch} {e : Env} {s : State} {m : MethodId} {args : Array Value} {below : List Frame} {meth : Method} {c : Code} {A : Nat → Prop} {D : va_G} {ct : Nat → ClassId} {G : gE} {ws : va_W} {post : Int32 → Unit → Prop} (K : CX p s m args meth c cJ4_max 2 RJ4 A D ct G) (hr : meth.sig.returnType = (some .int))   (x0 : Int32)  (h : wJ4_max_5 post  x0) : jJ p l e { frames := 0, cells := 0, slots := 0, locals := 0 } s m args below meth c (MQ below (va_Qi post (fun _ => cB D ct A ws) A) args s 0 0 A) A D 2 ws 0 0 5 [(0, .int x0)] [] := by
  unfold wJ4_max_5 at h
  refine j_iload_n K 0 dJ4_max_5 rfl rfl ?_
  refine j_goto K 10 dJ4_max_6 (by decide) ?_
  refine j_lv K [] (lv' := []) rfl ?_
  exact kJ4_max_10 K hr  x0 h
theorem kJ4_max_0 {p : Program} {l : Launch} {e : Env} {s : State} {m : MethodId} {args : Array Value} {below : List Frame} {meth : Method} {c : Code} {A : Nat → Prop} {D : va_G} {ct : Nat → ClassId} {G : gE} {ws : va_W} {post : Int32 → Unit → Prop} (K : CX p s m args meth c cJ4_max 2 RJ4 A D ct G) (hr : meth.sig.returnType = (some .int))   (x0 : Int32) (x1 : Int32)  (h : wJ4_max_0 post  x0 x1) : jJ p l e { frames := 0, cells := 0, slots := 0, locals := 0 } s m args below meth c (MQ below (va_Qi post (fun _ => cB D ct A ws) A) args s 0 0 A) A D 2 ws 0 0 0 [(0, .int x0), (1, .int x1)] [] := by
  unfold wJ4_max_0 at h
  refine j_iload_n K 0 dJ4_max_0 rfl rfl ?_
  refine j_iload_n K 1 dJ4_max_1 rfl rfl ?_
  refine j_icmp_lt K 9 dJ4_max_2 (by decide) (fun hc => ?_) (fun hc => ?_)
  · refine j_lv K [1] (lv' := [(1, .int x1)]) rfl ?_
    exact kJ4_max_9 K hr  x1 (h.1 hc)
  · refine j_lv K [0] (lv' := [(0, .int x0)]) rfl ?_
    exact kJ4_max_5 K hr  x0 (h.2 hc)
theorem ctJ4_max {l : Launch} {D : va_G} {ct : Nat → ClassId} {G : gE} {ws : va_W} (hG : gOK G) (x0 : Int32) (x1 : Int32) : ∀ sz, Met l yJ4_max (ws_ yJ4_max cJ4_max 2 (some .int)) { frames := 0, cells := 0, slots := 0, locals := 0 } (va_Pc [.int x0, .int x1] (cPre G D ct ws sz)) (va_Qi (fun (r : Int32) (_ : Unit) => qJ4_max x0 x1 r) (fun _ => cB D ct (va_A ws sz) ws) (va_A ws sz)) 0 0 (va_A ws sz) := fun sz =>
  j_metF (Qc := fun A => va_Qi (fun (r : Int32) (_ : Unit) => qJ4_max x0 x1 r) (fun _ => cB D ct A ws) A) (by decide +kernel) hG (Nat.le_of_ble_eq_true rfl) (fun p e s m args below meth c A K hr _ _ => kJ4_max_0 K hr x0 x1 (vcJ4_max x0 x1))
-- J12_bitCount
theorem kJ12_bitCount_0 {p : Program} {l : Launch} {e : Env} {s : State} {m : MethodId} {args : Array Value} {below : List Frame} {meth : Method} {c : Code} {A : Nat → Prop} {D : va_G} {ct : Nat → ClassId} {G : gE} {ws : va_W} {post : Int32 → Unit → Prop} (K : CX p s m args meth c cJ12_bitCount 1 RJ12 A D ct G) (hr : meth.sig.returnType = (some .int))   (x0 : Int32)  (h : wJ12_bitCount_0 post  x0) : jJ p l e { frames := 0, cells := 0, slots := 0, locals := 0 } s m args below meth c (MQ below (va_Qi post (fun _ => cB D ct A ws) A) args s 0 0 A) A D 1 ws 0 0 0 [(0, .int x0)] [] := by
  unfold wJ12_bitCount_0 at h
  refine j_iload_n K 0 dJ12_bitCount_0 rfl rfl ?_
  refine j_iload_n K 0 dJ12_bitCount_1 rfl rfl ?_
  refine j_iconst K (1 : Int32) dJ12_bitCount_2 (by decide) ?_
  refine j_iushr K dJ12_bitCount_3 ?_
  refine j_ldc_w K q425 dJ12_bitCount_4 ?_
  refine j_iand K dJ12_bitCount_7 ?_
  refine j_isub K dJ12_bitCount_8 ?_
  refine j_istore_n K [(0, .int (x0 - ((x0.toUInt32 >>> ((1 : Int32).toUInt32 &&& Int32.toUInt32 31)).toInt32 &&& (1431655765 : Int32))))] dJ12_bitCount_9 rfl (by decide) rfl ?_
  refine j_iload_n K 0 dJ12_bitCount_10 rfl rfl ?_
  refine j_ldc_w K q426 dJ12_bitCount_11 ?_
  refine j_iand K dJ12_bitCount_14 ?_
  refine j_iload_n K 0 dJ12_bitCount_15 rfl rfl ?_
  refine j_iconst K (2 : Int32) dJ12_bitCount_16 (by decide) ?_
  refine j_iushr K dJ12_bitCount_17 ?_
  refine j_ldc_w K q426 dJ12_bitCount_18 ?_
  refine j_iand K dJ12_bitCount_21 ?_
  refine j_iadd K dJ12_bitCount_22 ?_
  refine j_istore_n K [(0, .int (((x0 - ((x0.toUInt32 >>> ((1 : Int32).toUInt32 &&& Int32.toUInt32 31)).toInt32 &&& (1431655765 : Int32))) &&& (858993459 : Int32)) + (((x0 - ((x0.toUInt32 >>> ((1 : Int32).toUInt32 &&& Int32.toUInt32 31)).toInt32 &&& (1431655765 : Int32))).toUInt32 >>> ((2 : Int32).toUInt32 &&& Int32.toUInt32 31)).toInt32 &&& (858993459 : Int32))))] dJ12_bitCount_23 rfl (by decide) rfl ?_
  refine j_iload_n K 0 dJ12_bitCount_24 rfl rfl ?_
  refine j_iload_n K 0 dJ12_bitCount_25 rfl rfl ?_
  refine j_iconst K (4 : Int32) dJ12_bitCount_26 (by decide) ?_
  refine j_iushr K dJ12_bitCount_27 ?_
  refine j_iadd K dJ12_bitCount_28 ?_
  refine j_ldc_w K q427 dJ12_bitCount_29 ?_
  refine j_iand K dJ12_bitCount_32 ?_
  refine j_istore_n K [(0, .int (((((x0 - ((x0.toUInt32 >>> ((1 : Int32).toUInt32 &&& Int32.toUInt32 31)).toInt32 &&& (1431655765 : Int32))) &&& (858993459 : Int32)) + (((x0 - ((x0.toUInt32 >>> ((1 : Int32).toUInt32 &&& Int32.toUInt32 31)).toInt32 &&& (1431655765 : Int32))).toUInt32 >>> ((2 : Int32).toUInt32 &&& Int32.toUInt32 31)).toInt32 &&& (858993459 : Int32))) + ((((x0 - ((x0.toUInt32 >>> ((1 : Int32).toUInt32 &&& Int32.toUInt32 31)).toInt32 &&& (1431655765 : Int32))) &&& (858993459 : Int32)) + (((x0 - ((x0.toUInt32 >>> ((1 : Int32).toUInt32 &&& Int32.toUInt32 31)).toInt32 &&& (1431655765 : Int32))).toUInt32 >>> ((2 : Int32).toUInt32 &&& Int32.toUInt32 31)).toInt32 &&& (858993459 : Int32))).toUInt32 >>> ((4 : Int32).toUInt32 &&& Int32.toUInt32 31)).toInt32) &&& (252645135 : Int32)))] dJ12_bitCount_33 rfl (by decide) rfl ?_
  refine j_iload_n K 0 dJ12_bitCount_34 rfl rfl ?_
  refine j_iload_n K 0 dJ12_bitCount_35 rfl rfl ?_
  refine j_bipush K (8 : Int32) dJ12_bitCount_36 (by decide) ?_
  refine j_iushr K dJ12_bitCount_38 ?_
  refine j_iadd K dJ12_bitCount_39 ?_
  refine j_istore_n K [(0, .int ((((((x0 - ((x0.toUInt32 >>> ((1 : Int32).toUInt32 &&& Int32.toUInt32 31)).toInt32 &&& (1431655765 : Int32))) &&& (858993459 : Int32)) + (((x0 - ((x0.toUInt32 >>> ((1 : Int32).toUInt32 &&& Int32.toUInt32 31)).toInt32 &&& (1431655765 : Int32))).toUInt32 >>> ((2 : Int32).toUInt32 &&& Int32.toUInt32 31)).toInt32 &&& (858993459 : Int32))) + ((((x0 - ((x0.toUInt32 >>> ((1 : Int32).toUInt32 &&& Int32.toUInt32 31)).toInt32 &&& (1431655765 : Int32))) &&& (858993459 : Int32)) + (((x0 - ((x0.toUInt32 >>> ((1 : Int32).toUInt32 &&& Int32.toUInt32 31)).toInt32 &&& (1431655765 : Int32))).toUInt32 >>> ((2 : Int32).toUInt32 &&& Int32.toUInt32 31)).toInt32 &&& (858993459 : Int32))).toUInt32 >>> ((4 : Int32).toUInt32 &&& Int32.toUInt32 31)).toInt32) &&& (252645135 : Int32)) + ((((((x0 - ((x0.toUInt32 >>> ((1 : Int32).toUInt32 &&& Int32.toUInt32 31)).toInt32 &&& (1431655765 : Int32))) &&& (858993459 : Int32)) + (((x0 - ((x0.toUInt32 >>> ((1 : Int32).toUInt32 &&& Int32.toUInt32 31)).toInt32 &&& (1431655765 : Int32))).toUInt32 >>> ((2 : Int32).toUInt32 &&& Int32.toUInt32 31)).toInt32 &&& (858993459 : Int32))) + ((((x0 - ((x0.toUInt32 >>> ((1 : Int32).toUInt32 &&& Int32.toUInt32 31)).toInt32 &&& (1431655765 : Int32))) &&& (858993459 : Int32)) + (((x0 - ((x0.toUInt32 >>> ((1 : Int32).toUInt32 &&& Int32.toUInt32 31)).toInt32 &&& (1431655765 : Int32))).toUInt32 >>> ((2 : Int32).toUInt32 &&& Int32.toUInt32 31)).toInt32 &&& (858993459 : Int32))).toUInt32 >>> ((4 : Int32).toUInt32 &&& Int32.toUInt32 31)).toInt32) &&& (252645135 : Int32)).toUInt32 >>> ((8 : Int32).toUInt32 &&& Int32.toUInt32 31)).toInt32))] dJ12_bitCount_40 rfl (by decide) rfl ?_
  refine j_iload_n K 0 dJ12_bitCount_41 rfl rfl ?_
  refine j_iload_n K 0 dJ12_bitCount_42 rfl rfl ?_
  refine j_bipush K (16 : Int32) dJ12_bitCount_43 (by decide) ?_
  refine j_iushr K dJ12_bitCount_45 ?_
  refine j_iadd K dJ12_bitCount_46 ?_
  refine j_istore_n K [(0, .int (((((((x0 - ((x0.toUInt32 >>> ((1 : Int32).toUInt32 &&& Int32.toUInt32 31)).toInt32 &&& (1431655765 : Int32))) &&& (858993459 : Int32)) + (((x0 - ((x0.toUInt32 >>> ((1 : Int32).toUInt32 &&& Int32.toUInt32 31)).toInt32 &&& (1431655765 : Int32))).toUInt32 >>> ((2 : Int32).toUInt32 &&& Int32.toUInt32 31)).toInt32 &&& (858993459 : Int32))) + ((((x0 - ((x0.toUInt32 >>> ((1 : Int32).toUInt32 &&& Int32.toUInt32 31)).toInt32 &&& (1431655765 : Int32))) &&& (858993459 : Int32)) + (((x0 - ((x0.toUInt32 >>> ((1 : Int32).toUInt32 &&& Int32.toUInt32 31)).toInt32 &&& (1431655765 : Int32))).toUInt32 >>> ((2 : Int32).toUInt32 &&& Int32.toUInt32 31)).toInt32 &&& (858993459 : Int32))).toUInt32 >>> ((4 : Int32).toUInt32 &&& Int32.toUInt32 31)).toInt32) &&& (252645135 : Int32)) + ((((((x0 - ((x0.toUInt32 >>> ((1 : Int32).toUInt32 &&& Int32.toUInt32 31)).toInt32 &&& (1431655765 : Int32))) &&& (858993459 : Int32)) + (((x0 - ((x0.toUInt32 >>> ((1 : Int32).toUInt32 &&& Int32.toUInt32 31)).toInt32 &&& (1431655765 : Int32))).toUInt32 >>> ((2 : Int32).toUInt32 &&& Int32.toUInt32 31)).toInt32 &&& (858993459 : Int32))) + ((((x0 - ((x0.toUInt32 >>> ((1 : Int32).toUInt32 &&& Int32.toUInt32 31)).toInt32 &&& (1431655765 : Int32))) &&& (858993459 : Int32)) + (((x0 - ((x0.toUInt32 >>> ((1 : Int32).toUInt32 &&& Int32.toUInt32 31)).toInt32 &&& (1431655765 : Int32))).toUInt32 >>> ((2 : Int32).toUInt32 &&& Int32.toUInt32 31)).toInt32 &&& (858993459 : Int32))).toUInt32 >>> ((4 : Int32).toUInt32 &&& Int32.toUInt32 31)).toInt32) &&& (252645135 : Int32)).toUInt32 >>> ((8 : Int32).toUInt32 &&& Int32.toUInt32 31)).toInt32) + (((((((x0 - ((x0.toUInt32 >>> ((1 : Int32).toUInt32 &&& Int32.toUInt32 31)).toInt32 &&& (1431655765 : Int32))) &&& (858993459 : Int32)) + (((x0 - ((x0.toUInt32 >>> ((1 : Int32).toUInt32 &&& Int32.toUInt32 31)).toInt32 &&& (1431655765 : Int32))).toUInt32 >>> ((2 : Int32).toUInt32 &&& Int32.toUInt32 31)).toInt32 &&& (858993459 : Int32))) + ((((x0 - ((x0.toUInt32 >>> ((1 : Int32).toUInt32 &&& Int32.toUInt32 31)).toInt32 &&& (1431655765 : Int32))) &&& (858993459 : Int32)) + (((x0 - ((x0.toUInt32 >>> ((1 : Int32).toUInt32 &&& Int32.toUInt32 31)).toInt32 &&& (1431655765 : Int32))).toUInt32 >>> ((2 : Int32).toUInt32 &&& Int32.toUInt32 31)).toInt32 &&& (858993459 : Int32))).toUInt32 >>> ((4 : Int32).toUInt32 &&& Int32.toUInt32 31)).toInt32) &&& (252645135 : Int32)) + ((((((x0 - ((x0.toUInt32 >>> ((1 : Int32).toUInt32 &&& Int32.toUInt32 31)).toInt32 &&& (1431655765 : Int32))) &&& (858993459 : Int32)) + (((x0 - ((x0.toUInt32 >>> ((1 : Int32).toUInt32 &&& Int32.toUInt32 31)).toInt32 &&& (1431655765 : Int32))).toUInt32 >>> ((2 : Int32).toUInt32 &&& Int32.toUInt32 31)).toInt32 &&& (858993459 : Int32))) + ((((x0 - ((x0.toUInt32 >>> ((1 : Int32).toUInt32 &&& Int32.toUInt32 31)).toInt32 &&& (1431655765 : Int32))) &&& (858993459 : Int32)) + (((x0 - ((x0.toUInt32 >>> ((1 : Int32).toUInt32 &&& Int32.toUInt32 31)).toInt32 &&& (1431655765 : Int32))).toUInt32 >>> ((2 : Int32).toUInt32 &&& Int32.toUInt32 31)).toInt32 &&& (858993459 : Int32))).toUInt32 >>> ((4 : Int32).toUInt32 &&& Int32.toUInt32 31)).toInt32) &&& (252645135 : Int32)).toUInt32 >>> ((8 : Int32).toUInt32 &&& Int32.toUInt32 31)).toInt32).toUInt32 >>> ((16 : Int32).toUInt32 &&& Int32.toUInt32 31)).toInt32))] dJ12_bitCount_47 rfl (by decide) rfl ?_
  refine j_iload_n K 0 dJ12_bitCount_48 rfl rfl ?_
  refine j_bipush K (63 : Int32) dJ12_bitCount_49 (by decide) ?_
  refine j_iand K dJ12_bitCount_51 ?_
  exact j_iret () (wf := fun _ => ws) K hr rfl h (Nat.le_of_ble_eq_true rfl) (Nat.le_of_ble_eq_true rfl) dJ12_bitCount_52
theorem ctJ12_bitCount {l : Launch} {D : va_G} {ct : Nat → ClassId} {G : gE} {ws : va_W} (hG : gOK G) (x0 : Int32) : ∀ sz, Met l yJ12_bitCount (ws_ yJ12_bitCount cJ12_bitCount 1 (some .int)) { frames := 0, cells := 0, slots := 0, locals := 0 } (va_Pc [.int x0] (cPre G D ct ws sz)) (va_Qi (fun (r : Int32) (_ : Unit) => qJ12_bitCount x0 r) (fun _ => cB D ct (va_A ws sz) ws) (va_A ws sz)) 0 0 (va_A ws sz) := fun sz =>
  j_metF (Qc := fun A => va_Qi (fun (r : Int32) (_ : Unit) => qJ12_bitCount x0 r) (fun _ => cB D ct A ws) A) (by decide +kernel) hG (Nat.le_of_ble_eq_true rfl) (fun p e s m args below meth c A K hr _ _ => kJ12_bitCount_0 K hr x0 (vcJ12_bitCount x0))
-- J12_signum
theorem kJ12_signum_0 {p : Program} {l : Launch} {e : Env} {s : State} {m : MethodId} {args : Array Value} {below : List Frame} {meth : Method} {c : Code} {A : Nat → Prop} {D : va_G} {ct : Nat → ClassId} {G : gE} {ws : va_W} {post : Int32 → Unit → Prop} (K : CX p s m args meth c cJ12_signum 1 RJ12 A D ct G) (hr : meth.sig.returnType = (some .int))   (x0 : Int32)  (h : wJ12_signum_0 post  x0) : jJ p l e { frames := 0, cells := 0, slots := 0, locals := 0 } s m args below meth c (MQ below (va_Qi post (fun _ => cB D ct A ws) A) args s 0 0 A) A D 1 ws 0 0 0 [(0, .int x0)] [] := by
  unfold wJ12_signum_0 at h
  refine j_iload_n K 0 dJ12_signum_0 rfl rfl ?_
  refine j_bipush K (31 : Int32) dJ12_signum_1 (by decide) ?_
  refine j_ishr K dJ12_signum_3 ?_
  refine j_iload_n K 0 dJ12_signum_4 rfl rfl ?_
  refine j_ineg K dJ12_signum_5 ?_
  refine j_bipush K (31 : Int32) dJ12_signum_6 (by decide) ?_
  refine j_iushr K dJ12_signum_8 ?_
  refine j_ior K dJ12_signum_9 ?_
  exact j_iret () (wf := fun _ => ws) K hr rfl h (Nat.le_of_ble_eq_true rfl) (Nat.le_of_ble_eq_true rfl) dJ12_signum_10
theorem ctJ12_signum {l : Launch} {D : va_G} {ct : Nat → ClassId} {G : gE} {ws : va_W} (hG : gOK G) (x0 : Int32) : ∀ sz, Met l yJ12_signum (ws_ yJ12_signum cJ12_signum 1 (some .int)) { frames := 0, cells := 0, slots := 0, locals := 0 } (va_Pc [.int x0] (cPre G D ct ws sz)) (va_Qi (fun (r : Int32) (_ : Unit) => qJ12_signum x0 r) (fun _ => cB D ct (va_A ws sz) ws) (va_A ws sz)) 0 0 (va_A ws sz) := fun sz =>
  j_metF (Qc := fun A => va_Qi (fun (r : Int32) (_ : Unit) => qJ12_signum x0 r) (fun _ => cB D ct A ws) A) (by decide +kernel) hG (Nat.le_of_ble_eq_true rfl) (fun p e s m args below meth c A K hr _ _ => kJ12_signum_0 K hr x0 (vcJ12_signum x0))
-- X0_isIn
theorem kX0_isIn_15 {p : Program} {l : Launch} {e : Env} {s : State} {m : MethodId} {args : Array Value} {below : List Frame} {meth : Method} {c : Code} {A : Nat → Prop} {D : va_G} {ct : Nat → ClassId} {G : gE} {ws : va_W} {post : Int32 → Unit → Prop} (K : CX p s m args meth c cX0_isIn 3 RX0 A D ct G) (hr : meth.sig.returnType = (some .boolean))   (s0 : Int32)  (h : wX0_isIn_15 post  s0) : jJ p l e { frames := 0, cells := 0, slots := 0, locals := 0 } s m args below meth c (MQ below (va_Qi post (fun _ => cB D ct A ws) A) args s 0 0 A) A D 3 ws 0 0 15 [] [.int s0] := by
  unfold wX0_isIn_15 at h
  exact j_zret () (wf := fun _ => ws) K hr rfl h.2 h.1 (Nat.le_of_ble_eq_true rfl) (Nat.le_of_ble_eq_true rfl) dX0_isIn_15
theorem kX0_isIn_14 {p : Program} {l : Launch} {e : Env} {s : State} {m : MethodId} {args : Array Value} {below : List Frame} {meth : Method} {c : Code} {A : Nat → Prop} {D : va_G} {ct : Nat → ClassId} {G : gE} {ws : va_W} {post : Int32 → Unit → Prop} (K : CX p s m args meth c cX0_isIn 3 RX0 A D ct G) (hr : meth.sig.returnType = (some .boolean))     (h : wX0_isIn_14 post  ) : jJ p l e { frames := 0, cells := 0, slots := 0, locals := 0 } s m args below meth c (MQ below (va_Qi post (fun _ => cB D ct A ws) A) args s 0 0 A) A D 3 ws 0 0 14 [] [] := by
  unfold wX0_isIn_14 at h
  refine j_iconst K (0 : Int32) dX0_isIn_14 (by decide) ?_
  exact kX0_isIn_15 K hr  (0 : Int32) h
theorem kX0_isIn_10 {p : Program} {l : Launch} {e : Env} {s : State} {m : MethodId} {args : Array Value} {below : List Frame} {meth : Method} {c : Code} {A : Nat → Prop} {D : va_G} {ct : Nat → ClassId} {G : gE} {ws : va_W} {post : Int32 → Unit → Prop} (K : CX p s m args meth c cX0_isIn 3 RX0 A D ct G) (hr : meth.sig.returnType = (some .boolean))     (h : wX0_isIn_10 post  ) : jJ p l e { frames := 0, cells := 0, slots := 0, locals := 0 } s m args below meth c (MQ below (va_Qi post (fun _ => cB D ct A ws) A) args s 0 0 A) A D 3 ws 0 0 10 [] [] := by
  unfold wX0_isIn_10 at h
  refine j_iconst K (1 : Int32) dX0_isIn_10 (by decide) ?_
  refine j_goto K 15 dX0_isIn_11 (by decide) ?_
  exact kX0_isIn_15 K hr  (1 : Int32) h
theorem kX0_isIn_5 {p : Program} {l : Launch} {e : Env} {s : State} {m : MethodId} {args : Array Value} {below : List Frame} {meth : Method} {c : Code} {A : Nat → Prop} {D : va_G} {ct : Nat → ClassId} {G : gE} {ws : va_W} {post : Int32 → Unit → Prop} (K : CX p s m args meth c cX0_isIn 3 RX0 A D ct G) (hr : meth.sig.returnType = (some .boolean))   (x0 : Int32) (x2 : Int32)  (h : wX0_isIn_5 post  x0 x2) : jJ p l e { frames := 0, cells := 0, slots := 0, locals := 0 } s m args below meth c (MQ below (va_Qi post (fun _ => cB D ct A ws) A) args s 0 0 A) A D 3 ws 0 0 5 [(0, .int x0), (2, .int x2)] [] := by
  unfold wX0_isIn_5 at h
  refine j_iload_n K 0 dX0_isIn_5 rfl rfl ?_
  refine j_iload_n K 1 dX0_isIn_6 rfl rfl ?_
  refine j_icmp_gt K 14 dX0_isIn_7 (by decide) (fun hc => ?_) (fun hc => ?_)
  · refine j_lv K [] (lv' := []) rfl ?_
    exact kX0_isIn_14 K hr   (h.1 hc)
  · refine j_lv K [] (lv' := []) rfl ?_
    exact kX0_isIn_10 K hr   (h.2 hc)
theorem kX0_isIn_0 {p : Program} {l : Launch} {e : Env} {s : State} {m : MethodId} {args : Array Value} {below : List Frame} {meth : Method} {c : Code} {A : Nat → Prop} {D : va_G} {ct : Nat → ClassId} {G : gE} {ws : va_W} {post : Int32 → Unit → Prop} (K : CX p s m args meth c cX0_isIn 3 RX0 A D ct G) (hr : meth.sig.returnType = (some .boolean))   (x0 : Int32) (x1 : Int32) (x2 : Int32)  (h : wX0_isIn_0 post  x0 x1 x2) : jJ p l e { frames := 0, cells := 0, slots := 0, locals := 0 } s m args below meth c (MQ below (va_Qi post (fun _ => cB D ct A ws) A) args s 0 0 A) A D 3 ws 0 0 0 [(0, .int x0), (1, .int x1), (2, .int x2)] [] := by
  unfold wX0_isIn_0 at h
  refine j_iload_n K 0 dX0_isIn_0 rfl rfl ?_
  refine j_iload_n K 1 dX0_isIn_1 rfl rfl ?_
  refine j_icmp_lt K 14 dX0_isIn_2 (by decide) (fun hc => ?_) (fun hc => ?_)
  · refine j_lv K [] (lv' := []) rfl ?_
    exact kX0_isIn_14 K hr   (h.1 hc)
  · refine j_lv K [0, 2] (lv' := [(0, .int x0), (2, .int x2)]) rfl ?_
    exact kX0_isIn_5 K hr  x0 x2 (h.2 hc)
theorem ctX0_isIn {l : Launch} {D : va_G} {ct : Nat → ClassId} {G : gE} {ws : va_W} (hG : gOK G) (x0 : Int32) (x1 : Int32) (x2 : Int32) : ∀ sz, Met l yX0_isIn (ws_ yX0_isIn cX0_isIn 3 (some .boolean)) { frames := 0, cells := 0, slots := 0, locals := 0 } (va_Pc [.int x0, .int x1, .int x2] (cPre G D ct ws sz)) (va_Qi (fun (r : Int32) (_ : Unit) => qX0_isIn x0 x1 x2 r) (fun _ => cB D ct (va_A ws sz) ws) (va_A ws sz)) 0 0 (va_A ws sz) := fun sz =>
  j_met (Qc := fun A => va_Qi (fun (r : Int32) (_ : Unit) => qX0_isIn x0 x1 x2 r) (fun _ => cB D ct A ws) A) (by decide +kernel) hG (Nat.le_of_ble_eq_true rfl) (fun p e s m args below meth c A K hr _ _ => kX0_isIn_0 K hr x0 x1 x2 (vcX0_isIn x0 x1 x2))
-- X4_isBeside
theorem kX4_isBeside_42 {p : Program} {l : Launch} {e : Env} {s : State} {m : MethodId} {args : Array Value} {below : List Frame} {meth : Method} {c : Code} {A : Nat → Prop} {D : va_G} {ct : Nat → ClassId} {G : gE} {ws : va_W} {post : Int32 → Unit → Prop} (K : CX p s m args meth c cX4_isBeside 4 RX4 A D ct G) (hr : meth.sig.returnType = (some .boolean))   (s0 : Int32)  (h : wX4_isBeside_42 post  s0) : jJ p l e { frames := 1, cells := 0, slots := 0, locals := 20 } s m args below meth c (MQ below (va_Qi post (fun _ => cB D ct A ws) A) args s 0 0 A) A D 4 ws 0 0 42 [] [.int s0] := by
  unfold wX4_isBeside_42 at h
  exact j_zret () (wf := fun _ => ws) K hr rfl h.2 h.1 (Nat.le_of_ble_eq_true rfl) (Nat.le_of_ble_eq_true rfl) dX4_isBeside_42
theorem kX4_isBeside_41 {p : Program} {l : Launch} {e : Env} {s : State} {m : MethodId} {args : Array Value} {below : List Frame} {meth : Method} {c : Code} {A : Nat → Prop} {D : va_G} {ct : Nat → ClassId} {G : gE} {ws : va_W} {post : Int32 → Unit → Prop} (K : CX p s m args meth c cX4_isBeside 4 RX4 A D ct G) (hr : meth.sig.returnType = (some .boolean))     (h : wX4_isBeside_41 post  ) : jJ p l e { frames := 1, cells := 0, slots := 0, locals := 20 } s m args below meth c (MQ below (va_Qi post (fun _ => cB D ct A ws) A) args s 0 0 A) A D 4 ws 0 0 41 [] [] := by
  unfold wX4_isBeside_41 at h
  refine j_iconst K (0 : Int32) dX4_isBeside_41 (by decide) ?_
  exact kX4_isBeside_42 K hr  (0 : Int32) h
theorem kX4_isBeside_37 {p : Program} {l : Launch} {e : Env} {s : State} {m : MethodId} {args : Array Value} {below : List Frame} {meth : Method} {c : Code} {A : Nat → Prop} {D : va_G} {ct : Nat → ClassId} {G : gE} {ws : va_W} {post : Int32 → Unit → Prop} (K : CX p s m args meth c cX4_isBeside 4 RX4 A D ct G) (hr : meth.sig.returnType = (some .boolean))     (h : wX4_isBeside_37 post  ) : jJ p l e { frames := 1, cells := 0, slots := 0, locals := 20 } s m args below meth c (MQ below (va_Qi post (fun _ => cB D ct A ws) A) args s 0 0 A) A D 4 ws 0 0 37 [] [] := by
  unfold wX4_isBeside_37 at h
  refine j_iconst K (1 : Int32) dX4_isBeside_37 (by decide) ?_
  refine j_goto K 42 dX4_isBeside_38 (by decide) ?_
  exact kX4_isBeside_42 K hr  (1 : Int32) h
theorem kX4_isBeside_32 {p : Program} {l : Launch} {e : Env} {s : State} {m : MethodId} {args : Array Value} {below : List Frame} {meth : Method} {c : Code} {A : Nat → Prop} {D : va_G} {ct : Nat → ClassId} {G : gE} {ws : va_W} {post : Int32 → Unit → Prop} (K : CX p s m args meth c cX4_isBeside 4 RX4 A D ct G) (hr : meth.sig.returnType = (some .boolean))   (x3 : Int32)  (h : wX4_isBeside_32 post  x3) : jJ p l e { frames := 1, cells := 0, slots := 0, locals := 20 } s m args below meth c (MQ below (va_Qi post (fun _ => cB D ct A ws) A) args s 0 0 A) A D 4 ws 0 0 32 [(3, .int x3)] [] := by
  unfold wX4_isBeside_32 at h
  refine j_iload_n K 0 dX4_isBeside_32 rfl rfl ?_
  refine j_iconst K (1 : Int32) dX4_isBeside_33 (by decide) ?_
  refine j_icmp_gt K 41 dX4_isBeside_34 (by decide) (fun hc => ?_) (fun hc => ?_)
  · refine j_lv K [] (lv' := []) rfl ?_
    exact kX4_isBeside_41 K hr   (h.1 hc)
  · refine j_lv K [] (lv' := []) rfl ?_
    exact kX4_isBeside_37 K hr   (h.2 hc)
theorem kX4_isBeside_27 {p : Program} {l : Launch} {e : Env} {s : State} {m : MethodId} {args : Array Value} {below : List Frame} {meth : Method} {c : Code} {A : Nat → Prop} {D : va_G} {ct : Nat → ClassId} {G : gE} {ws : va_W} {post : Int32 → Unit → Prop} (K : CX p s m args meth c cX4_isBeside 4 RX4 A D ct G) (hr : meth.sig.returnType = (some .boolean))   (x2 : Int32) (x3 : Int32)  (h : wX4_isBeside_27 post  x2 x3) : jJ p l e { frames := 1, cells := 0, slots := 0, locals := 20 } s m args below meth c (MQ below (va_Qi post (fun _ => cB D ct A ws) A) args s 0 0 A) A D 4 ws 0 0 27 [(2, .int x2), (3, .int x3)] [] := by
  unfold wX4_isBeside_27 at h
  refine j_iload_n K 0 dX4_isBeside_27 rfl rfl ?_
  refine j_iconst K (1 : Int32) dX4_isBeside_28 (by decide) ?_
  refine j_icmp_gt K 41 dX4_isBeside_29 (by decide) (fun hc => ?_) (fun hc => ?_)
  · refine j_lv K [] (lv' := []) rfl ?_
    exact kX4_isBeside_41 K hr   (h.1 hc)
  · refine j_lv K [1] (lv' := [(3, .int x3)]) rfl ?_
    exact kX4_isBeside_32 K hr  x3 (h.2 hc)
theorem kX4_isBeside_0 {p : Program} {l : Launch} {e : Env} {s : State} {m : MethodId} {args : Array Value} {below : List Frame} {meth : Method} {c : Code} {A : Nat → Prop} {D : va_G} {ct : Nat → ClassId} {G : gE} {ws : va_W} {post : Int32 → Unit → Prop} (K : CX p s m args meth c cX4_isBeside 4 RX4 A D ct G) (hr : meth.sig.returnType = (some .boolean))   (x0 : Int32) (x1 : Int32)  (h : wX4_isBeside_0 post  x0 x1) : jJ p l e { frames := 1, cells := 0, slots := 0, locals := 20 } s m args below meth c (MQ below (va_Qi post (fun _ => cB D ct A ws) A) args s 0 0 A) A D 4 ws 0 0 0 [(0, .int x0), (1, .int x1)] [] := by
  unfold wX4_isBeside_0 at h
  refine j_iload_n K 0 dX4_isBeside_0 rfl rfl ?_
  refine j_iconst K (3 : Int32) dX4_isBeside_1 (by decide) ?_
  refine j_idiv K (by decide) dX4_isBeside_2 ?_
  refine j_iload_n K 1 dX4_isBeside_3 rfl rfl ?_
  refine j_iconst K (3 : Int32) dX4_isBeside_4 (by decide) ?_
  refine j_idiv K (by decide) dX4_isBeside_5 ?_
  refine j_isub K dX4_isBeside_6 ?_
  refine j_callSi K (As := [.int ((x0 / (3 : Int32)) - (x1 / (3 : Int32)))]) (rest := []) (ctJ4_abs (l := l) (D := D) (ct := ct) (G := G) (ws := ws) K.2.2.2.2.2.2.2.2.2 ((x0 / (3 : Int32)) - (x1 / (3 : Int32)))) (lw_S q414 q415 q76 q416) (n := 1) (by decide +kernel) ⟨Nat.le_of_ble_eq_true rfl, Nat.le_of_ble_eq_true rfl⟩ rfl rfl (Nat.le_of_ble_eq_true rfl) dX4_isBeside_7 ⟨Nat.le_of_ble_eq_true rfl, Nat.le_of_ble_eq_true rfl⟩ (fun r_1 _ hq => ?_)
  replace h := h r_1 hq
  refine j_istore_n K [(2, .int r_1), (0, .int x0), (1, .int x1)] dX4_isBeside_10 rfl (by decide) rfl ?_
  refine j_iload_n K 1 dX4_isBeside_11 rfl rfl ?_
  refine j_iconst K (3 : Int32) dX4_isBeside_12 (by decide) ?_
  refine j_irem K (by decide) dX4_isBeside_13 ?_
  refine j_iload_n K 2 dX4_isBeside_14 rfl rfl ?_
  refine j_iconst K (3 : Int32) dX4_isBeside_15 (by decide) ?_
  refine j_irem K (by decide) dX4_isBeside_16 ?_
  refine j_isub K dX4_isBeside_17 ?_
  refine j_callSi K (As := [.int ((irm x0 (3 : Int32)) - (irm x1 (3 : Int32)))]) (rest := []) (ctJ4_abs (l := l) (D := D) (ct := ct) (G := G) (ws := ws) K.2.2.2.2.2.2.2.2.2 ((irm x0 (3 : Int32)) - (irm x1 (3 : Int32)))) (lw_S q414 q415 q76 q416) (n := 1) (by decide +kernel) ⟨Nat.le_of_ble_eq_true rfl, Nat.le_of_ble_eq_true rfl⟩ rfl rfl (Nat.le_of_ble_eq_true rfl) dX4_isBeside_18 ⟨Nat.le_of_ble_eq_true rfl, Nat.le_of_ble_eq_true rfl⟩ (fun r_2 _ hq => ?_)
  replace h := h r_2 hq
  refine j_istore_n K [(3, .int r_2), (2, .int r_1), (0, .int x0), (1, .int x1)] dX4_isBeside_21 rfl (by decide) rfl ?_
  refine j_iload_n K 2 dX4_isBeside_22 rfl rfl ?_
  refine j_iload_n K 3 dX4_isBeside_23 rfl rfl ?_
  refine j_icmp_eq K 41 dX4_isBeside_24 (by decide) (fun hc => ?_) (fun hc => ?_)
  · refine j_lv K [] (lv' := []) rfl ?_
    exact kX4_isBeside_41 K hr   (h.1 hc)
  · refine j_lv K [1, 0] (lv' := [(2, .int r_1), (3, .int r_2)]) rfl ?_
    exact kX4_isBeside_27 K hr  r_1 r_2 (h.2 hc)
theorem ctX4_isBeside {l : Launch} {D : va_G} {ct : Nat → ClassId} {G : gE} {ws : va_W} (hG : gOK G) (x0 : Int32) (x1 : Int32) : ∀ sz, Met l yX4_isBeside (ws_ yX4_isBeside cX4_isBeside 4 (some .boolean)) { frames := 1, cells := 0, slots := 0, locals := 20 } (va_Pc [.int x0, .int x1] (cPre G D ct ws sz)) (va_Qi (fun (r : Int32) (_ : Unit) => qX4_isBeside x0 x1 r) (fun _ => cB D ct (va_A ws sz) ws) (va_A ws sz)) 0 0 (va_A ws sz) := fun sz =>
  j_met (Qc := fun A => va_Qi (fun (r : Int32) (_ : Unit) => qX4_isBeside x0 x1 r) (fun _ => cB D ct A ws) A) (by decide +kernel) hG (Nat.le_of_ble_eq_true rfl) (fun p e s m args below meth c A K hr _ _ => kX4_isBeside_0 K hr x0 x1 (vcX4_isBeside x0 x1))
-- X4_behind
theorem kX4_behind_45 {p : Program} {l : Launch} {e : Env} {s : State} {m : MethodId} {args : Array Value} {below : List Frame} {meth : Method} {c : Code} {A : Nat → Prop} {D : va_G} {ct : Nat → ClassId} {G : gE} {ws : va_W} {post : Int32 → Unit → Prop} (K : CX p s m args meth c cX4_behind 2 RX4 A D ct G) (hr : meth.sig.returnType = (some .int))   (s0 : Int32)  (h : wX4_behind_45 post  s0) : jJ p l e { frames := 0, cells := 0, slots := 0, locals := 0 } s m args below meth c (MQ below (va_Qi post (fun _ => cB D ct A ws) A) args s 0 0 A) A D 2 ws 0 0 45 [] [.int s0] := by
  unfold wX4_behind_45 at h
  exact j_iret () (wf := fun _ => ws) K hr rfl h (Nat.le_of_ble_eq_true rfl) (Nat.le_of_ble_eq_true rfl) dX4_behind_45
theorem kX4_behind_22 {p : Program} {l : Launch} {e : Env} {s : State} {m : MethodId} {args : Array Value} {below : List Frame} {meth : Method} {c : Code} {A : Nat → Prop} {D : va_G} {ct : Nat → ClassId} {G : gE} {ws : va_W} {post : Int32 → Unit → Prop} (K : CX p s m args meth c cX4_behind 2 RX4 A D ct G) (hr : meth.sig.returnType = (some .int))   (x0 : Int32) (x1 : Int32)  (h : wX4_behind_22 post  x0 x1) : jJ p l e { frames := 0, cells := 0, slots := 0, locals := 0 } s m args below meth c (MQ below (va_Qi post (fun _ => cB D ct A ws) A) args s 0 0 A) A D 2 ws 0 0 22 [(0, .int x0), (1, .int x1)] [] := by
  unfold wX4_behind_22 at h
  refine j_iload_n K 0 dX4_behind_22 rfl rfl ?_
  refine j_iconst K (1 : Int32) dX4_behind_23 (by decide) ?_
  refine j_iload_n K 1 dX4_behind_24 rfl rfl ?_
  refine j_bipush K (9 : Int32) dX4_behind_25 (by decide) ?_
  refine j_isub K dX4_behind_27 ?_
  refine j_bipush K (9 : Int32) dX4_behind_28 (by decide) ?_
  refine j_idiv K (by decide) dX4_behind_30 ?_
  refine j_ishl K dX4_behind_31 ?_
  refine j_iconst K (-1 : Int32) dX4_behind_32 (by decide) ?_
  refine j_ixor K dX4_behind_33 ?_
  refine j_iand K dX4_behind_34 ?_
  refine j_iconst K (1 : Int32) dX4_behind_35 (by decide) ?_
  refine j_iload_n K 1 dX4_behind_36 rfl rfl ?_
  refine j_bipush K (9 : Int32) dX4_behind_37 (by decide) ?_
  refine j_isub K dX4_behind_39 ?_
  refine j_bipush K (9 : Int32) dX4_behind_40 (by decide) ?_
  refine j_irem K (by decide) dX4_behind_42 ?_
  refine j_ishl K dX4_behind_43 ?_
  refine j_ior K dX4_behind_44 ?_
  refine j_lv K [] (lv' := []) rfl ?_
  exact kX4_behind_45 K hr  ((x0 &&& (((1 : Int32) <<< (((x1 - (9 : Int32)) / (9 : Int32)) &&& 31)) ^^^ (-1 : Int32))) ||| ((1 : Int32) <<< ((irm (x1 - (9 : Int32)) (9 : Int32)) &&& 31))) h
theorem kX4_behind_14 {p : Program} {l : Launch} {e : Env} {s : State} {m : MethodId} {args : Array Value} {below : List Frame} {meth : Method} {c : Code} {A : Nat → Prop} {D : va_G} {ct : Nat → ClassId} {G : gE} {ws : va_W} {post : Int32 → Unit → Prop} (K : CX p s m args meth c cX4_behind 2 RX4 A D ct G) (hr : meth.sig.returnType = (some .int))   (x0 : Int32) (x1 : Int32)  (h : wX4_behind_14 post  x0 x1) : jJ p l e { frames := 0, cells := 0, slots := 0, locals := 0 } s m args below meth c (MQ below (va_Qi post (fun _ => cB D ct A ws) A) args s 0 0 A) A D 2 ws 0 0 14 [(0, .int x0), (1, .int x1)] [] := by
  unfold wX4_behind_14 at h
  refine j_iload_n K 0 dX4_behind_14 rfl rfl ?_
  refine j_iconst K (1 : Int32) dX4_behind_15 (by decide) ?_
  refine j_iload_n K 1 dX4_behind_16 rfl rfl ?_
  refine j_ishl K dX4_behind_17 ?_
  refine j_ior K dX4_behind_18 ?_
  refine j_goto K 45 dX4_behind_19 (by decide) ?_
  refine j_lv K [] (lv' := []) rfl ?_
  exact kX4_behind_45 K hr  (x0 ||| ((1 : Int32) <<< (x1 &&& 31))) h
theorem kX4_behind_8 {p : Program} {l : Launch} {e : Env} {s : State} {m : MethodId} {args : Array Value} {below : List Frame} {meth : Method} {c : Code} {A : Nat → Prop} {D : va_G} {ct : Nat → ClassId} {G : gE} {ws : va_W} {post : Int32 → Unit → Prop} (K : CX p s m args meth c cX4_behind 2 RX4 A D ct G) (hr : meth.sig.returnType = (some .int))   (x0 : Int32) (x1 : Int32)  (h : wX4_behind_8 post  x0 x1) : jJ p l e { frames := 0, cells := 0, slots := 0, locals := 0 } s m args below meth c (MQ below (va_Qi post (fun _ => cB D ct A ws) A) args s 0 0 A) A D 2 ws 0 0 8 [(0, .int x0), (1, .int x1)] [] := by
  unfold wX4_behind_8 at h
  refine j_iload_n K 1 dX4_behind_8 rfl rfl ?_
  refine j_bipush K (9 : Int32) dX4_behind_9 (by decide) ?_
  refine j_icmp_ge K 22 dX4_behind_11 (by decide) (fun hc => ?_) (fun hc => ?_)
  · exact kX4_behind_22 K hr  x0 x1 (h.1 hc)
  · exact kX4_behind_14 K hr  x0 x1 (h.2 hc)
theorem kX4_behind_6 {p : Program} {l : Launch} {e : Env} {s : State} {m : MethodId} {args : Array Value} {below : List Frame} {meth : Method} {c : Code} {A : Nat → Prop} {D : va_G} {ct : Nat → ClassId} {G : gE} {ws : va_W} {post : Int32 → Unit → Prop} (K : CX p s m args meth c cX4_behind 2 RX4 A D ct G) (hr : meth.sig.returnType = (some .int))   (x0 : Int32)  (h : wX4_behind_6 post  x0) : jJ p l e { frames := 0, cells := 0, slots := 0, locals := 0 } s m args below meth c (MQ below (va_Qi post (fun _ => cB D ct A ws) A) args s 0 0 A) A D 2 ws 0 0 6 [(0, .int x0)] [] := by
  unfold wX4_behind_6 at h
  refine j_iload_n K 0 dX4_behind_6 rfl rfl ?_
  exact j_iret () (wf := fun _ => ws) K hr rfl h (Nat.le_of_ble_eq_true rfl) (Nat.le_of_ble_eq_true rfl) dX4_behind_7
theorem kX4_behind_0 {p : Program} {l : Launch} {e : Env} {s : State} {m : MethodId} {args : Array Value} {below : List Frame} {meth : Method} {c : Code} {A : Nat → Prop} {D : va_G} {ct : Nat → ClassId} {G : gE} {ws : va_W} {post : Int32 → Unit → Prop} (K : CX p s m args meth c cX4_behind 2 RX4 A D ct G) (hr : meth.sig.returnType = (some .int))   (x0 : Int32) (x1 : Int32)  (h : wX4_behind_0 post  x0 x1) : jJ p l e { frames := 0, cells := 0, slots := 0, locals := 0 } s m args below meth c (MQ below (va_Qi post (fun _ => cB D ct A ws) A) args s 0 0 A) A D 2 ws 0 0 0 [(0, .int x0), (1, .int x1)] [] := by
  unfold wX4_behind_0 at h
  refine j_iload_n K 1 dX4_behind_0 rfl rfl ?_
  refine j_bipush K (90 : Int32) dX4_behind_1 (by decide) ?_
  refine j_icmp_ne K 8 dX4_behind_3 (by decide) (fun hc => ?_) (fun hc => ?_)
  · exact kX4_behind_8 K hr  x0 x1 (h.1 hc)
  · refine j_lv K [0] (lv' := [(0, .int x0)]) rfl ?_
    exact kX4_behind_6 K hr  x0 (h.2 hc)
theorem ctX4_behind {l : Launch} {D : va_G} {ct : Nat → ClassId} {G : gE} {ws : va_W} (hG : gOK G) (x0 : Int32) (x1 : Int32) : ∀ sz, Met l yX4_behind (ws_ yX4_behind cX4_behind 2 (some .int)) { frames := 0, cells := 0, slots := 0, locals := 0 } (va_Pc [.int x0, .int x1] (cPre G D ct ws sz)) (va_Qi (fun (r : Int32) (_ : Unit) => qX4_behind x0 x1 r) (fun _ => cB D ct (va_A ws sz) ws) (va_A ws sz)) 0 0 (va_A ws sz) := fun sz =>
  j_met (Qc := fun A => va_Qi (fun (r : Int32) (_ : Unit) => qX4_behind x0 x1 r) (fun _ => cB D ct A ws) A) (by decide +kernel) hG (Nat.le_of_ble_eq_true rfl) (fun p e s m args below meth c A K hr _ _ => kX4_behind_0 K hr x0 x1 (vcX4_behind x0 x1))
-- X5_rank
theorem kX5_rank_24 {p : Program} {l : Launch} {e : Env} {s : State} {m : MethodId} {args : Array Value} {below : List Frame} {meth : Method} {c : Code} {A : Nat → Prop} {D : va_G} {ct : Nat → ClassId} {G : gE} {ws : va_W} {post : Int32 → Unit → Prop} (K : CX p s m args meth c cX5_rank 2 RX5 A D ct G) (hr : meth.sig.returnType = (some .int))   (s0 : Int32)  (h : wX5_rank_24 post  s0) : jJ p l e { frames := 0, cells := 0, slots := 0, locals := 0 } s m args below meth c (MQ below (va_Qi post (fun _ => cB D ct A ws) A) args s 0 0 A) A D 2 ws 0 0 24 [] [.int s0] := by
  unfold wX5_rank_24 at h
  exact j_iret () (wf := fun _ => ws) K hr rfl h (Nat.le_of_ble_eq_true rfl) (Nat.le_of_ble_eq_true rfl) dX5_rank_24
theorem kX5_rank_23 {p : Program} {l : Launch} {e : Env} {s : State} {m : MethodId} {args : Array Value} {below : List Frame} {meth : Method} {c : Code} {A : Nat → Prop} {D : va_G} {ct : Nat → ClassId} {G : gE} {ws : va_W} {post : Int32 → Unit → Prop} (K : CX p s m args meth c cX5_rank 2 RX5 A D ct G) (hr : meth.sig.returnType = (some .int))     (h : wX5_rank_23 post  ) : jJ p l e { frames := 0, cells := 0, slots := 0, locals := 0 } s m args below meth c (MQ below (va_Qi post (fun _ => cB D ct A ws) A) args s 0 0 A) A D 2 ws 0 0 23 [] [] := by
  unfold wX5_rank_23 at h
  refine j_iconst K (1 : Int32) dX5_rank_23 (by decide) ?_
  exact kX5_rank_24 K hr  (1 : Int32) h
theorem kX5_rank_19 {p : Program} {l : Launch} {e : Env} {s : State} {m : MethodId} {args : Array Value} {below : List Frame} {meth : Method} {c : Code} {A : Nat → Prop} {D : va_G} {ct : Nat → ClassId} {G : gE} {ws : va_W} {post : Int32 → Unit → Prop} (K : CX p s m args meth c cX5_rank 2 RX5 A D ct G) (hr : meth.sig.returnType = (some .int))     (h : wX5_rank_19 post  ) : jJ p l e { frames := 0, cells := 0, slots := 0, locals := 0 } s m args below meth c (MQ below (va_Qi post (fun _ => cB D ct A ws) A) args s 0 0 A) A D 2 ws 0 0 19 [] [] := by
  unfold wX5_rank_19 at h
  refine j_iconst K (0 : Int32) dX5_rank_19 (by decide) ?_
  refine j_goto K 24 dX5_rank_20 (by decide) ?_
  exact kX5_rank_24 K hr  (0 : Int32) h
theorem kX5_rank_14 {p : Program} {l : Launch} {e : Env} {s : State} {m : MethodId} {args : Array Value} {below : List Frame} {meth : Method} {c : Code} {A : Nat → Prop} {D : va_G} {ct : Nat → ClassId} {G : gE} {ws : va_W} {post : Int32 → Unit → Prop} (K : CX p s m args meth c cX5_rank 2 RX5 A D ct G) (hr : meth.sig.returnType = (some .int))   (x0 : Int32) (x1 : Int32)  (h : wX5_rank_14 post  x0 x1) : jJ p l e { frames := 0, cells := 0, slots := 0, locals := 0 } s m args below meth c (MQ below (va_Qi post (fun _ => cB D ct A ws) A) args s 0 0 A) A D 2 ws 0 0 14 [(0, .int x0), (1, .int x1)] [] := by
  unfold wX5_rank_14 at h
  refine j_iload_n K 0 dX5_rank_14 rfl rfl ?_
  refine j_iload_n K 1 dX5_rank_15 rfl rfl ?_
  refine j_icmp_ge K 23 dX5_rank_16 (by decide) (fun hc => ?_) (fun hc => ?_)
  · refine j_lv K [] (lv' := []) rfl ?_
    exact kX5_rank_23 K hr   (h.1 hc)
  · refine j_lv K [] (lv' := []) rfl ?_
    exact kX5_rank_19 K hr   (h.2 hc)
theorem kX5_rank_10 {p : Program} {l : Launch} {e : Env} {s : State} {m : MethodId} {args : Array Value} {below : List Frame} {meth : Method} {c : Code} {A : Nat → Prop} {D : va_G} {ct : Nat → ClassId} {G : gE} {ws : va_W} {post : Int32 → Unit → Prop} (K : CX p s m args meth c cX5_rank 2 RX5 A D ct G) (hr : meth.sig.returnType = (some .int))   (x0 : Int32) (x1 : Int32)  (h : wX5_rank_10 post  x0 x1) : jJ p l e { frames := 0, cells := 0, slots := 0, locals := 0 } s m args below meth c (MQ below (va_Qi post (fun _ => cB D ct A ws) A) args s 0 0 A) A D 2 ws 0 0 10 [(0, .int x0), (1, .int x1)] [] := by
  unfold wX5_rank_10 at h
  refine j_iload_n K 0 dX5_rank_10 rfl rfl ?_
  refine j_if_le K 23 dX5_rank_11 (by decide) (fun hc => ?_) (fun hc => ?_)
  · refine j_lv K [] (lv' := []) rfl ?_
    exact kX5_rank_23 K hr   (h.1 hc)
  · exact kX5_rank_14 K hr  x0 x1 (h.2 hc)
theorem kX5_rank_6 {p : Program} {l : Launch} {e : Env} {s : State} {m : MethodId} {args : Array Value} {below : List Frame} {meth : Method} {c : Code} {A : Nat → Prop} {D : va_G} {ct : Nat → ClassId} {G : gE} {ws : va_W} {post : Int32 → Unit → Prop} (K : CX p s m args meth c cX5_rank 2 RX5 A D ct G) (hr : meth.sig.returnType = (some .int))     (h : wX5_rank_6 post  ) : jJ p l e { frames := 0, cells := 0, slots := 0, locals := 0 } s m args below meth c (MQ below (va_Qi post (fun _ => cB D ct A ws) A) args s 0 0 A) A D 2 ws 0 0 6 [] [] := by
  unfold wX5_rank_6 at h
  refine j_iconst K (2 : Int32) dX5_rank_6 (by decide) ?_
  refine j_goto K 24 dX5_rank_7 (by decide) ?_
  exact kX5_rank_24 K hr  (2 : Int32) h
theorem kX5_rank_0 {p : Program} {l : Launch} {e : Env} {s : State} {m : MethodId} {args : Array Value} {below : List Frame} {meth : Method} {c : Code} {A : Nat → Prop} {D : va_G} {ct : Nat → ClassId} {G : gE} {ws : va_W} {post : Int32 → Unit → Prop} (K : CX p s m args meth c cX5_rank 2 RX5 A D ct G) (hr : meth.sig.returnType = (some .int))   (x0 : Int32) (x1 : Int32)  (h : wX5_rank_0 post  x0 x1) : jJ p l e { frames := 0, cells := 0, slots := 0, locals := 0 } s m args below meth c (MQ below (va_Qi post (fun _ => cB D ct A ws) A) args s 0 0 A) A D 2 ws 0 0 0 [(0, .int x0), (1, .int x1)] [] := by
  unfold wX5_rank_0 at h
  refine j_iload_n K 0 dX5_rank_0 rfl rfl ?_
  refine j_iload_n K 1 dX5_rank_1 rfl rfl ?_
  refine j_ineg K dX5_rank_2 ?_
  refine j_icmp_ne K 10 dX5_rank_3 (by decide) (fun hc => ?_) (fun hc => ?_)
  · exact kX5_rank_10 K hr  x0 x1 (h.1 hc)
  · refine j_lv K [] (lv' := []) rfl ?_
    exact kX5_rank_6 K hr   (h.2 hc)
theorem ctX5_rank {l : Launch} {D : va_G} {ct : Nat → ClassId} {G : gE} {ws : va_W} (hG : gOK G) (x0 : Int32) (x1 : Int32) : ∀ sz, Met l yX5_rank (ws_ yX5_rank cX5_rank 2 (some .int)) { frames := 0, cells := 0, slots := 0, locals := 0 } (va_Pc [.int x0, .int x1] (cPre G D ct ws sz)) (va_Qi (fun (r : Int32) (_ : Unit) => qX5_rank x0 x1 r) (fun _ => cB D ct (va_A ws sz) ws) (va_A ws sz)) 0 0 (va_A ws sz) := fun sz =>
  j_met (Qc := fun A => va_Qi (fun (r : Int32) (_ : Unit) => qX5_rank x0 x1 r) (fun _ => cB D ct A ws) A) (by decide +kernel) hG (Nat.le_of_ble_eq_true rfl) (fun p e s m args below meth c A K hr _ _ => kX5_rank_0 K hr x0 x1 (vcX5_rank x0 x1))
