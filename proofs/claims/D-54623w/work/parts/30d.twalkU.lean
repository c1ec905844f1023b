/-! WALKS and CONTRACTS of Rules and Table (U), printed by gen_table.py -/
theorem gwU5_34 : GoodIn lw_all (va_wsU RX5 34 RX5 RX4 ⟨RX5, "isLegal", "(III)Z"⟩ yX4_isLegal (ws_ yX4_isLegal cX4_isLegal 7 (some .boolean))) := lw_U q432 q433 q435 q436 q87 q437
theorem gdU5_34 : RX4 ≠ "java/lang/invoke/MethodHandle" ∧ RX4 ≠ "java/lang/invoke/VarHandle" ∧ (parseMethodDescriptor (⟨RX5, "isLegal", "(III)Z"⟩ : MethodName).desc).map (fun d => d.parameters.length) = some 3 := by decide +kernel
theorem gwU5_42 : GoodIn lw_all (va_wsU RX5 42 RX5 RX4 ⟨RX5, "hasLost", "(II)Z"⟩ yX4_hasLost (ws_ yX4_hasLost cX4_hasLost 3 (some .boolean))) := lw_U q444 q445 q447 q448 q87 q449
theorem gdU5_42 : RX4 ≠ "java/lang/invoke/MethodHandle" ∧ RX4 ≠ "java/lang/invoke/VarHandle" ∧ (parseMethodDescriptor (⟨RX5, "hasLost", "(II)Z"⟩ : MethodName).desc).map (fun d => d.parameters.length) = some 2 := by decide +kernel
theorem gw5_51 : GoodIn lw_all (wsV RX5 51 RX5 yX5_add (ws_ yX5_add cX5_add 5 none)) := lw_V q428 q430 qs13 q88 q431
theorem gd5_51 : yX5_add.cls = RX5 ∧ yX5_add.cls ≠ "java/lang/invoke/MethodHandle" ∧ yX5_add.cls ≠ "java/lang/invoke/VarHandle" ∧ (parseMethodDescriptor yX5_add.desc).map (fun d => d.parameters.length) = some 3 := by decide +kernel
-- X5_add
theorem kX5_add_83 {p : Program} {l : Launch} {e : Env} {s : State} {m : MethodId} {args : Array Value} {below : List Frame} {meth : Method} {c : Code} {A : Nat → Prop} {D : va_G} {ct : Nat → ClassId} {ad : Nat → Nat} {tl : va_W} {G : gE} {t : Nat} {post : MS → Prop} (K : CX p s m args meth c cX5_add 5 RX5 A D ct G) (hr : meth.sig.returnType = none) (hgl : gHas G t)   (s1 : Int32) (s2 : Int32) (st : MS) (h : wX5_add_83 post  s1 s2 st) : jJ p l e { frames := 3, cells := 0, slots := 0, locals := 66 } s m args below meth c (MQ below (va_Qv post (fun u => cB D ct A (TW ct ad tl u)) A) args s 0 0 A) A D 5 (TW ct ad tl st) 0 0 83 [] [.int s2, .int s1, .ref (ad 3)] := by
  unfold wX5_add_83 at h
  obtain ⟨hc, h⟩ := h
  refine tt_worths K hc dX5_add_83 ?_
  exact j_vret (mA st 2 (s1).toNatClampNeg s2) K hr rfl h (Nat.le_of_ble_eq_true rfl) (Nat.le_of_ble_eq_true rfl) dX5_add_84
theorem kX5_add_82 {p : Program} {l : Launch} {e : Env} {s : State} {m : MethodId} {args : Array Value} {below : List Frame} {meth : Method} {c : Code} {A : Nat → Prop} {D : va_G} {ct : Nat → ClassId} {ad : Nat → Nat} {tl : va_W} {G : gE} {t : Nat} {post : MS → Prop} (K : CX p s m args meth c cX5_add 5 RX5 A D ct G) (hr : meth.sig.returnType = none) (hgl : gHas G t)   (s1 : Int32) (st : MS) (h : wX5_add_82 post  s1 st) : jJ p l e { frames := 3, cells := 0, slots := 0, locals := 66 } s m args below meth c (MQ below (va_Qv post (fun u => cB D ct A (TW ct ad tl u)) A) args s 0 0 A) A D 5 (TW ct ad tl st) 0 0 82 [] [.int s1, .ref (ad 3)] := by
  unfold wX5_add_82 at h
  refine j_iconst K (0 : Int32) dX5_add_82 (by decide) ?_
  exact kX5_add_83 K hr hgl  s1 (0 : Int32) st h
theorem kX5_add_78 {p : Program} {l : Launch} {e : Env} {s : State} {m : MethodId} {args : Array Value} {below : List Frame} {meth : Method} {c : Code} {A : Nat → Prop} {D : va_G} {ct : Nat → ClassId} {ad : Nat → Nat} {tl : va_W} {G : gE} {t : Nat} {post : MS → Prop} (K : CX p s m args meth c cX5_add 5 RX5 A D ct G) (hr : meth.sig.returnType = none) (hgl : gHas G t)   (s1 : Int32) (st : MS) (h : wX5_add_78 post  s1 st) : jJ p l e { frames := 3, cells := 0, slots := 0, locals := 66 } s m args below meth c (MQ below (va_Qv post (fun u => cB D ct A (TW ct ad tl u)) A) args s 0 0 A) A D 5 (TW ct ad tl st) 0 0 78 [] [.int s1, .ref (ad 3)] := by
  unfold wX5_add_78 at h
  refine j_iconst K (-1 : Int32) dX5_add_78 (by decide) ?_
  refine j_goto K 83 dX5_add_79 (by decide) ?_
  exact kX5_add_83 K hr hgl  s1 (-1 : Int32) st h
theorem kX5_add_60 {p : Program} {l : Launch} {e : Env} {s : State} {m : MethodId} {args : Array Value} {below : List Frame} {meth : Method} {c : Code} {A : Nat → Prop} {D : va_G} {ct : Nat → ClassId} {ad : Nat → Nat} {tl : va_W} {G : gE} {t : Nat} {post : MS → Prop} (K : CX p s m args meth c cX5_add 5 RX5 A D ct G) (hr : meth.sig.returnType = none) (hgl : gHas G t)   (x1 : Int32) (x2 : Int32) (x3 : Int32) (s0 : Int32) (st : MS) (h : wX5_add_60 post  x1 x2 x3 s0 st) : jJ p l e { frames := 3, cells := 0, slots := 0, locals := 66 } s m args below meth c (MQ below (va_Qv post (fun u => cB D ct A (TW ct ad tl u)) A) args s 0 0 A) A D 5 (TW ct ad tl st) 0 0 60 [(0, .ref (ad 0)), (1, .int x1), (2, .int x2), (3, .int x3)] [.int s0] := by
  unfold wX5_add_60 at h
  refine j_istore K [(4, .int s0), (0, .ref (ad 0)), (1, .int x1), (2, .int x2), (3, .int x3)] dX5_add_60 (by decide) rfl ?_
  refine j_aload_n K 1 dX5_add_62 rfl rfl ?_
  refine tg_worths K dX5_add_63 ?_
  refine j_aload_n K 1 dX5_add_66 rfl rfl ?_
  refine j_iload_n K 2 dX5_add_67 rfl rfl ?_
  refine j_iload_n K 3 dX5_add_68 rfl rfl ?_
  refine j_iload_n K 4 dX5_add_69 rfl rfl ?_
  obtain ⟨hp, h⟩ := h
  refine j_callVi K (As := [.int x1, .int x2, .int x3]) (rest := [.ref (ad 3)]) (ctX5_indexOf (l := l) (D := D) (ct := ct) (ad := ad) (tl := tl) (G := G) (t := t) K.2.2.2.2.2.2.2.2.2 hgl x1 x2 x3 st hp) gw5_30 gd5_30 ⟨Nat.le_of_ble_eq_true rfl, Nat.le_of_ble_eq_true rfl⟩ 0 rfl rfl rfl rfl rfl (Nat.le_of_ble_eq_true rfl) dX5_add_70 ⟨Nat.le_of_ble_eq_true rfl, Nat.le_of_ble_eq_true rfl⟩ (fun r_1 st_2 hq => ?_)
  obtain ⟨hq, rfl⟩ := hq
  replace h := h r_1 hq
  refine j_iload K 0 dX5_add_73 rfl ?_
  refine j_if_eq K 82 dX5_add_75 (by decide) (fun hc => ?_) (fun hc => ?_)
  · refine j_lv K [] (lv' := []) rfl ?_
    exact kX5_add_82 K hr hgl  r_1 st (h.1 hc)
  · refine j_lv K [] (lv' := []) rfl ?_
    exact kX5_add_78 K hr hgl  r_1 st (h.2 hc)
theorem kX5_add_54 {p : Program} {l : Launch} {e : Env} {s : State} {m : MethodId} {args : Array Value} {below : List Frame} {meth : Method} {c : Code} {A : Nat → Prop} {D : va_G} {ct : Nat → ClassId} {ad : Nat → Nat} {tl : va_W} {G : gE} {t : Nat} {post : MS → Prop} (K : CX p s m args meth c cX5_add 5 RX5 A D ct G) (hr : meth.sig.returnType = none) (hgl : gHas G t)   (x1 : Int32) (x2 : Int32) (x3 : Int32) (st : MS) (h : wX5_add_54 post  x1 x2 x3 st) : jJ p l e { frames := 3, cells := 0, slots := 0, locals := 66 } s m args below meth c (MQ below (va_Qv post (fun u => cB D ct A (TW ct ad tl u)) A) args s 0 0 A) A D 5 (TW ct ad tl st) 0 0 54 [(0, .ref (ad 0)), (1, .int x1), (2, .int x2), (3, .int x3)] [] := by
  unfold wX5_add_54 at h
  refine j_aload_n K 0 dX5_add_54 rfl rfl ?_
  refine j_iload_n K 2 dX5_add_55 rfl rfl ?_
  refine j_iload_n K 1 dX5_add_56 rfl rfl ?_
  obtain ⟨hp, h⟩ := h
  refine j_callUi K (As := [.int x2, .int x1]) (rest := []) (ctX4_hasLost (l := l) (D := D) (ct := ct) (ad := ad) (tl := tl) (G := G) (t := t) K.2.2.2.2.2.2.2.2.2 hgl x2 x1 st hp) gwU5_42 rfl gdU5_42 ⟨Nat.le_of_ble_eq_true rfl, Nat.le_of_ble_eq_true rfl⟩ 0 rfl rfl rfl rfl rfl (Nat.le_of_ble_eq_true rfl) dX5_add_57 ⟨Nat.le_of_ble_eq_true rfl, Nat.le_of_ble_eq_true rfl⟩ (fun r_1 st_2 hq => ?_)
  obtain ⟨hq, rfl⟩ := hq
  replace h := h r_1 hq
  exact kX5_add_60 K hr hgl  x1 x2 x3 r_1 st h
theorem kX5_add_45 {p : Program} {l : Launch} {e : Env} {s : State} {m : MethodId} {args : Array Value} {below : List Frame} {meth : Method} {c : Code} {A : Nat → Prop} {D : va_G} {ct : Nat → ClassId} {ad : Nat → Nat} {tl : va_W} {G : gE} {t : Nat} {post : MS → Prop} (K : CX p s m args meth c cX5_add 5 RX5 A D ct G) (hr : meth.sig.returnType = none) (hgl : gHas G t)   (x1 : Int32) (x2 : Int32) (x3 : Int32) (st : MS) (h : wX5_add_45 post  x1 x2 x3 st) : jJ p l e { frames := 3, cells := 0, slots := 0, locals := 66 } s m args below meth c (MQ below (va_Qv post (fun u => cB D ct A (TW ct ad tl u)) A) args s 0 0 A) A D 5 (TW ct ad tl st) 0 0 45 [(0, .ref (ad 0)), (1, .int x1), (2, .int x2), (3, .int x3)] [] := by
  unfold wX5_add_45 at h
  refine j_aload_n K 0 dX5_add_45 rfl rfl ?_
  refine j_iload_n K 1 dX5_add_46 rfl rfl ?_
  refine j_iload_n K 2 dX5_add_47 rfl rfl ?_
  obtain ⟨hp, h⟩ := h
  refine j_callUi K (As := [.int x1, .int x2]) (rest := []) (ctX4_hasLost (l := l) (D := D) (ct := ct) (ad := ad) (tl := tl) (G := G) (t := t) K.2.2.2.2.2.2.2.2.2 hgl x1 x2 st hp) gwU5_42 rfl gdU5_42 ⟨Nat.le_of_ble_eq_true rfl, Nat.le_of_ble_eq_true rfl⟩ 0 rfl rfl rfl rfl rfl (Nat.le_of_ble_eq_true rfl) dX5_add_48 ⟨Nat.le_of_ble_eq_true rfl, Nat.le_of_ble_eq_true rfl⟩ (fun r_1 st_2 hq => ?_)
  obtain ⟨hq, rfl⟩ := hq
  replace h := h r_1 hq
  refine j_goto K 60 dX5_add_51 (by decide) ?_
  exact kX5_add_60 K hr hgl  x1 x2 x3 r_1 st h
theorem kX5_add_11 {p : Program} {l : Launch} {e : Env} {s : State} {m : MethodId} {args : Array Value} {below : List Frame} {meth : Method} {c : Code} {A : Nat → Prop} {D : va_G} {ct : Nat → ClassId} {ad : Nat → Nat} {tl : va_W} {G : gE} {t : Nat} {post : MS → Prop} (K : CX p s m args meth c cX5_add 5 RX5 A D ct G) (hr : meth.sig.returnType = none) (hgl : gHas G t)   (x1 : Int32) (x2 : Int32) (x3 : Int32) (st : MS) (h : wX5_add_11 post  x1 x2 x3 st) : jJ p l e { frames := 3, cells := 0, slots := 0, locals := 66 } s m args below meth c (MQ below (va_Qv post (fun u => cB D ct A (TW ct ad tl u)) A) args s 0 0 A) A D 5 (TW ct ad tl st) 0 0 11 [(0, .ref (ad 0)), (1, .int x1), (2, .int x2), (3, .int x3)] [] := by
  unfold wX5_add_11 at h
  refine j_aload_n K 0 dX5_add_11 rfl rfl ?_
  refine tg_legal K dX5_add_12 ?_
  refine j_aload_n K 0 dX5_add_15 rfl rfl ?_
  refine tg_many K dX5_add_16 ?_
  refine j_iload_n K 1 dX5_add_19 rfl rfl ?_
  refine j_iload_n K 2 dX5_add_20 rfl rfl ?_
  refine j_bipush K (9 : Int32) dX5_add_21 (by decide) ?_
  refine j_ishl K dX5_add_23 ?_
  refine j_ior K dX5_add_24 ?_
  refine j_iload_n K 3 dX5_add_25 rfl rfl ?_
  refine j_bipush K (18 : Int32) dX5_add_26 (by decide) ?_
  refine j_ishl K dX5_add_28 ?_
  refine j_ior K dX5_add_29 ?_
  obtain ⟨hc, h⟩ := h
  refine tt_legal K hc dX5_add_30 ?_
  refine j_aload_n K 0 dX5_add_31 rfl rfl ?_
  refine j_dup K dX5_add_32 rfl ?_
  refine tg_many K dX5_add_33 ?_
  refine j_iconst K (1 : Int32) dX5_add_36 (by decide) ?_
  refine j_iadd K dX5_add_37 ?_
  refine tp_many K dX5_add_38 ?_
  refine j_iload_n K 3 dX5_add_41 rfl rfl ?_
  refine j_if_ne K 54 dX5_add_42 (by decide) (fun hc => ?_) (fun hc => ?_)
  · exact kX5_add_54 K hr hgl  x1 x2 x3 (mF (mA st 3 ((st.2 2)).toNatClampNeg ((x1 ||| (x2 <<< ((9 : Int32) &&& 31))) ||| (x3 <<< ((18 : Int32) &&& 31)))) 2 (((mA st 3 ((st.2 2)).toNatClampNeg ((x1 ||| (x2 <<< ((9 : Int32) &&& 31))) ||| (x3 <<< ((18 : Int32) &&& 31)))).2 2) + (1 : Int32))) (h.1 hc)
  · exact kX5_add_45 K hr hgl  x1 x2 x3 (mF (mA st 3 ((st.2 2)).toNatClampNeg ((x1 ||| (x2 <<< ((9 : Int32) &&& 31))) ||| (x3 <<< ((18 : Int32) &&& 31)))) 2 (((mA st 3 ((st.2 2)).toNatClampNeg ((x1 ||| (x2 <<< ((9 : Int32) &&& 31))) ||| (x3 <<< ((18 : Int32) &&& 31)))).2 2) + (1 : Int32))) (h.2 hc)
theorem kX5_add_10 {p : Program} {l : Launch} {e : Env} {s : State} {m : MethodId} {args : Array Value} {below : List Frame} {meth : Method} {c : Code} {A : Nat → Prop} {D : va_G} {ct : Nat → ClassId} {ad : Nat → Nat} {tl : va_W} {G : gE} {t : Nat} {post : MS → Prop} (K : CX p s m args meth c cX5_add 5 RX5 A D ct G) (hr : meth.sig.returnType = none) (hgl : gHas G t)    (st : MS) (h : wX5_add_10 post  st) : jJ p l e { frames := 3, cells := 0, slots := 0, locals := 66 } s m args below meth c (MQ below (va_Qv post (fun u => cB D ct A (TW ct ad tl u)) A) args s 0 0 A) A D 5 (TW ct ad tl st) 0 0 10 [] [] := by
  unfold wX5_add_10 at h
  exact j_vret st K hr rfl h (Nat.le_of_ble_eq_true rfl) (Nat.le_of_ble_eq_true rfl) dX5_add_10
theorem kX5_add_0 {p : Program} {l : Launch} {e : Env} {s : State} {m : MethodId} {args : Array Value} {below : List Frame} {meth : Method} {c : Code} {A : Nat → Prop} {D : va_G} {ct : Nat → ClassId} {ad : Nat → Nat} {tl : va_W} {G : gE} {t : Nat} {post : MS → Prop} (K : CX p s m args meth c cX5_add 5 RX5 A D ct G) (hr : meth.sig.returnType = none) (hgl : gHas G t)   (x1 : Int32) (x2 : Int32) (x3 : Int32) (st : MS) (h : wX5_add_0 post  x1 x2 x3 st) : jJ p l e { frames := 3, cells := 0, slots := 0, locals := 66 } s m args below meth c (MQ below (va_Qv post (fun u => cB D ct A (TW ct ad tl u)) A) args s 0 0 A) A D 5 (TW ct ad tl st) 0 0 0 [(0, .ref (ad 0)), (1, .int x1), (2, .int x2), (3, .int x3)] [] := by
  unfold wX5_add_0 at h
  refine j_aload_n K 0 dX5_add_0 rfl rfl ?_
  refine j_iload_n K 1 dX5_add_1 rfl rfl ?_
  refine j_iload_n K 2 dX5_add_2 rfl rfl ?_
  refine j_iload_n K 3 dX5_add_3 rfl rfl ?_
  obtain ⟨hp, h⟩ := h
  refine j_callUi K (As := [.int x1, .int x2, .int x3]) (rest := []) (ctX4_isLegal (l := l) (D := D) (ct := ct) (ad := ad) (tl := tl) (G := G) (t := t) K.2.2.2.2.2.2.2.2.2 hgl x1 x2 x3 st hp) gwU5_34 rfl gdU5_34 ⟨Nat.le_of_ble_eq_true rfl, Nat.le_of_ble_eq_true rfl⟩ 0 rfl rfl rfl rfl rfl (Nat.le_of_ble_eq_true rfl) dX5_add_4 ⟨Nat.le_of_ble_eq_true rfl, Nat.le_of_ble_eq_true rfl⟩ (fun r_1 st_2 hq => ?_)
  obtain ⟨hq, rfl⟩ := hq
  replace h := h r_1 hq
  refine j_if_ne K 11 dX5_add_7 (by decide) (fun hc => ?_) (fun hc => ?_)
  · exact kX5_add_11 K hr hgl  x1 x2 x3 st (h.1 hc)
  · refine j_lv K [] (lv' := []) rfl ?_
    exact kX5_add_10 K hr hgl  st (h.2 hc)
theorem ctX5_add {l : Launch} {D : va_G} {ct : Nat → ClassId} {ad : Nat → Nat} {tl : va_W} {G : gE} {t : Nat} (hG : gOK G) (hgl : gHas G t) (x1 : Int32) (x2 : Int32) (x3 : Int32) (st : MS) (hp : pX5_add x1 x2 x3 st) : ∀ sz, Met l yX5_add (ws_ yX5_add cX5_add 5 none) { frames := 3, cells := 0, slots := 0, locals := 66 } (va_Pc [.ref (ad 0), .int x1, .int x2, .int x3] (cPre G D ct (TW ct ad tl st) sz)) (va_Qv (qX5_add x1 x2 x3 st) (fun u => cB D ct (va_A (TW ct ad tl st) sz) (TW ct ad tl u)) (va_A (TW ct ad tl st) sz)) 0 0 (va_A (TW ct ad tl st) sz) := fun sz =>
  j_met (Qc := fun A => va_Qv (qX5_add x1 x2 x3 st) (fun u => cB D ct A (TW ct ad tl u)) A) (by decide) hG (Nat.le_of_ble_eq_true rfl) (fun p e s m args below meth c A K hr _ _ => kX5_add_0 K hr hgl x1 x2 x3 st (vcX5_add x1 x2 x3 st hp))
-- X5_findLegal
theorem kX5_findLegal_52 {p : Program} {l : Launch} {e : Env} {s : State} {m : MethodId} {args : Array Value} {below : List Frame} {meth : Method} {c : Code} {A : Nat → Prop} {D : va_G} {ct : Nat → ClassId} {ad : Nat → Nat} {tl : va_W} {G : gE} {t : Nat} {post : MS → Prop} (K : CX p s m args meth c cX5_findLegal 3 RX5 A D ct G) (hr : meth.sig.returnType = none) (hgl : gHas G t)    (st : MS) (h : wX5_findLegal_52 post  st) : jJ p l e { frames := 4, cells := 0, slots := 0, locals := 90 } s m args below meth c (MQ below (va_Qv post (fun u => cB D ct A (TW ct ad tl u)) A) args s 0 0 A) A D 3 (TW ct ad tl st) 0 0 52 [] [] := by
  unfold wX5_findLegal_52 at h
  exact j_vret st K hr rfl h (Nat.le_of_ble_eq_true rfl) (Nat.le_of_ble_eq_true rfl) dX5_findLegal_52
theorem kX5_findLegal_46 {p : Program} {l : Launch} {e : Env} {s : State} {m : MethodId} {args : Array Value} {below : List Frame} {meth : Method} {c : Code} {A : Nat → Prop} {D : va_G} {ct : Nat → ClassId} {ad : Nat → Nat} {tl : va_W} {G : gE} {t : Nat} {post : MS → Prop} (K : CX p s m args meth c cX5_findLegal 3 RX5 A D ct G) (hr : meth.sig.returnType = none) (hgl : gHas G t) (L2 : Int32 → MS → Prop) (hL2 : ∀ (x1 : Int32) (st : MS), L2 x1 st → jJ p l e { frames := 4, cells := 0, slots := 0, locals := 90 } s m args below meth c (MQ below (va_Qv post (fun u => cB D ct A (TW ct ad tl u)) A) args s 0 0 A) A D 3 (TW ct ad tl st) 0 0 2 [(0, .ref (ad 0)), (1, .int x1)] []) (x1 : Int32) (st : MS) (h : wX5_findLegal_46 post L2 x1 st) : jJ p l e { frames := 4, cells := 0, slots := 0, locals := 90 } s m args below meth c (MQ below (va_Qv post (fun u => cB D ct A (TW ct ad tl u)) A) args s 0 0 A) A D 3 (TW ct ad tl st) 0 0 46 [(0, .ref (ad 0)), (1, .int x1)] [] := by
  unfold wX5_findLegal_46 at h
  refine j_iinc K 1 (x1 + (1 : Int32)) [(1, .int (x1 + (1 : Int32))), (0, .ref (ad 0))] dX5_findLegal_46 rfl rfl (by decide) rfl ?_
  refine j_goto K 2 dX5_findLegal_49 (by decide) ?_
  refine j_lv K [1, 0] (lv' := [(0, .ref (ad 0)), (1, .int (x1 + (1 : Int32)))]) rfl ?_
  exact hL2 (x1 + (1 : Int32)) st h
theorem kX5_findLegal_26 {p : Program} {l : Launch} {e : Env} {s : State} {m : MethodId} {args : Array Value} {below : List Frame} {meth : Method} {c : Code} {A : Nat → Prop} {D : va_G} {ct : Nat → ClassId} {ad : Nat → Nat} {tl : va_W} {G : gE} {t : Nat} {post : MS → Prop} (K : CX p s m args meth c cX5_findLegal 3 RX5 A D ct G) (hr : meth.sig.returnType = none) (hgl : gHas G t) (L11 : Int32 → Int32 → MS → Prop) (hL11 : ∀ (x1 : Int32) (x2 : Int32) (st : MS), L11 x1 x2 st → jJ p l e { frames := 4, cells := 0, slots := 0, locals := 90 } s m args below meth c (MQ below (va_Qv post (fun u => cB D ct A (TW ct ad tl u)) A) args s 0 0 A) A D 3 (TW ct ad tl st) 0 0 11 [(0, .ref (ad 0)), (1, .int x1), (2, .int x2)] []) (x1 : Int32) (x2 : Int32) (st : MS) (h : wX5_findLegal_26 post L11 x1 x2 st) : jJ p l e { frames := 4, cells := 0, slots := 0, locals := 90 } s m args below meth c (MQ below (va_Qv post (fun u => cB D ct A (TW ct ad tl u)) A) args s 0 0 A) A D 3 (TW ct ad tl st) 0 0 26 [(0, .ref (ad 0)), (1, .int x1), (2, .int x2)] [] := by
  unfold wX5_findLegal_26 at h
  refine j_aload_n K 0 dX5_findLegal_26 rfl rfl ?_
  refine j_iload_n K 1 dX5_findLegal_27 rfl rfl ?_
  refine j_iload_n K 2 dX5_findLegal_28 rfl rfl ?_
  refine j_iconst K (0 : Int32) dX5_findLegal_29 (by decide) ?_
  obtain ⟨hp, h⟩ := h
  refine j_callVv K (As := [.int x1, .int x2, .int (0 : Int32)]) (rest := []) (ctX5_add (l := l) (D := D) (ct := ct) (ad := ad) (tl := tl) (G := G) (t := t) K.2.2.2.2.2.2.2.2.2 hgl x1 x2 (0 : Int32) st hp) gw5_51 gd5_51 ⟨Nat.le_of_ble_eq_true rfl, Nat.le_of_ble_eq_true rfl⟩ 0 rfl rfl rfl rfl rfl (Nat.le_of_ble_eq_true rfl) dX5_findLegal_30 ⟨Nat.le_of_ble_eq_true rfl, Nat.le_of_ble_eq_true rfl⟩ (fun st_1 hq => ?_)
  replace h := h st_1 hq
  refine j_aload_n K 0 dX5_findLegal_33 rfl rfl ?_
  refine j_iload_n K 1 dX5_findLegal_34 rfl rfl ?_
  refine j_iload_n K 2 dX5_findLegal_35 rfl rfl ?_
  refine j_iconst K (1 : Int32) dX5_findLegal_36 (by decide) ?_
  obtain ⟨hp, h⟩ := h
  refine j_callVv K (As := [.int x1, .int x2, .int (1 : Int32)]) (rest := []) (ctX5_add (l := l) (D := D) (ct := ct) (ad := ad) (tl := tl) (G := G) (t := t) K.2.2.2.2.2.2.2.2.2 hgl x1 x2 (1 : Int32) st_1 hp) gw5_51 gd5_51 ⟨Nat.le_of_ble_eq_true rfl, Nat.le_of_ble_eq_true rfl⟩ 0 rfl rfl rfl rfl rfl (Nat.le_of_ble_eq_true rfl) dX5_findLegal_37 ⟨Nat.le_of_ble_eq_true rfl, Nat.le_of_ble_eq_true rfl⟩ (fun st_2 hq => ?_)
  replace h := h st_2 hq
  refine j_iinc K 2 (x2 + (1 : Int32)) [(2, .int (x2 + (1 : Int32))), (0, .ref (ad 0)), (1, .int x1)] dX5_findLegal_40 rfl rfl (by decide) rfl ?_
  refine j_goto K 11 dX5_findLegal_43 (by decide) ?_
  refine j_lv K [1, 2, 0] (lv' := [(0, .ref (ad 0)), (1, .int x1), (2, .int (x2 + (1 : Int32)))]) rfl ?_
  exact hL11 x1 (x2 + (1 : Int32)) st_2 h
theorem kX5_findLegal_18 {p : Program} {l : Launch} {e : Env} {s : State} {m : MethodId} {args : Array Value} {below : List Frame} {meth : Method} {c : Code} {A : Nat → Prop} {D : va_G} {ct : Nat → ClassId} {ad : Nat → Nat} {tl : va_W} {G : gE} {t : Nat} {post : MS → Prop} (K : CX p s m args meth c cX5_findLegal 3 RX5 A D ct G) (hr : meth.sig.returnType = none) (hgl : gHas G t) (L2 : Int32 → MS → Prop) (L11 : Int32 → Int32 → MS → Prop) (hL2 : ∀ (x1 : Int32) (st : MS), L2 x1 st → jJ p l e { frames := 4, cells := 0, slots := 0, locals := 90 } s m args below meth c (MQ below (va_Qv post (fun u => cB D ct A (TW ct ad tl u)) A) args s 0 0 A) A D 3 (TW ct ad tl st) 0 0 2 [(0, .ref (ad 0)), (1, .int x1)] []) (hL11 : ∀ (x1 : Int32) (x2 : Int32) (st : MS), L11 x1 x2 st → jJ p l e { frames := 4, cells := 0, slots := 0, locals := 90 } s m args below meth c (MQ below (va_Qv post (fun u => cB D ct A (TW ct ad tl u)) A) args s 0 0 A) A D 3 (TW ct ad tl st) 0 0 11 [(0, .ref (ad 0)), (1, .int x1), (2, .int x2)] []) (x1 : Int32) (x2 : Int32) (st : MS) (h : wX5_findLegal_18 post L2 L11 x1 x2 st) : jJ p l e { frames := 4, cells := 0, slots := 0, locals := 90 } s m args below meth c (MQ below (va_Qv post (fun u => cB D ct A (TW ct ad tl u)) A) args s 0 0 A) A D 3 (TW ct ad tl st) 0 0 18 [(0, .ref (ad 0)), (1, .int x1), (2, .int x2)] [] := by
  unfold wX5_findLegal_18 at h
  refine j_iload_n K 1 dX5_findLegal_18 rfl rfl ?_
  refine j_callSi K (As := [.int x1]) (rest := []) (ctJ12_bitCount (l := l) (D := D) (ct := ct) (G := G) (ws := (TW ct ad tl st)) K.2.2.2.2.2.2.2.2.2 x1) (lw_S q422 q423 q90 q424) (n := 1) (by decide +kernel) ⟨Nat.le_of_ble_eq_true rfl, Nat.le_of_ble_eq_true rfl⟩ rfl rfl (Nat.le_of_ble_eq_true rfl) dX5_findLegal_19 ⟨Nat.le_of_ble_eq_true rfl, Nat.le_of_ble_eq_true rfl⟩ (fun r_1 _ hq => ?_)
  replace h := h r_1 hq
  refine j_iconst K (3 : Int32) dX5_findLegal_22 (by decide) ?_
  refine j_icmp_gt K 46 dX5_findLegal_23 (by decide) (fun hc => ?_) (fun hc => ?_)
  · refine j_lv K [0, 1] (lv' := [(0, .ref (ad 0)), (1, .int x1)]) rfl ?_
    exact kX5_findLegal_46 K hr hgl L2 hL2 x1 st (h.1 hc)
  · exact kX5_findLegal_26 K hr hgl L11 hL11 x1 x2 st (h.2 hc)
theorem kX5_findLegal_11_b {p : Program} {l : Launch} {e : Env} {s : State} {m : MethodId} {args : Array Value} {below : List Frame} {meth : Method} {c : Code} {A : Nat → Prop} {D : va_G} {ct : Nat → ClassId} {ad : Nat → Nat} {tl : va_W} {G : gE} {t : Nat} {post : MS → Prop} (K : CX p s m args meth c cX5_findLegal 3 RX5 A D ct G) (hr : meth.sig.returnType = none) (hgl : gHas G t) (L2 : Int32 → MS → Prop) (L11 : Int32 → Int32 → MS → Prop) (hL2 : ∀ (x1 : Int32) (st : MS), L2 x1 st → jJ p l e { frames := 4, cells := 0, slots := 0, locals := 90 } s m args below meth c (MQ below (va_Qv post (fun u => cB D ct A (TW ct ad tl u)) A) args s 0 0 A) A D 3 (TW ct ad tl st) 0 0 2 [(0, .ref (ad 0)), (1, .int x1)] []) (hL11 : ∀ (x1 : Int32) (x2 : Int32) (st : MS), L11 x1 x2 st → jJ p l e { frames := 4, cells := 0, slots := 0, locals := 90 } s m args below meth c (MQ below (va_Qv post (fun u => cB D ct A (TW ct ad tl u)) A) args s 0 0 A) A D 3 (TW ct ad tl st) 0 0 11 [(0, .ref (ad 0)), (1, .int x1), (2, .int x2)] []) (x1 : Int32) (x2 : Int32) (st : MS) (h : wX5_findLegal_11_b post L2 L11 x1 x2 st) : jJ p l e { frames := 4, cells := 0, slots := 0, locals := 90 } s m args below meth c (MQ below (va_Qv post (fun u => cB D ct A (TW ct ad tl u)) A) args s 0 0 A) A D 3 (TW ct ad tl st) 0 0 11 [(0, .ref (ad 0)), (1, .int x1), (2, .int x2)] [] := by
  unfold wX5_findLegal_11_b at h
  refine j_iload_n K 2 dX5_findLegal_11 rfl rfl ?_
  refine j_sipush K (511 : Int32) dX5_findLegal_12 (by decide) ?_
  refine j_icmp_gt K 46 dX5_findLegal_15 (by decide) (fun hc => ?_) (fun hc => ?_)
  · refine j_lv K [0, 1] (lv' := [(0, .ref (ad 0)), (1, .int x1)]) rfl ?_
    exact kX5_findLegal_46 K hr hgl L2 hL2 x1 st (h.1 hc)
  · exact kX5_findLegal_18 K hr hgl L2 L11 hL2 hL11 x1 x2 st (h.2 hc)
theorem kX5_findLegal_11 {p : Program} {l : Launch} {e : Env} {s : State} {m : MethodId} {args : Array Value} {below : List Frame} {meth : Method} {c : Code} {A : Nat → Prop} {D : va_G} {ct : Nat → ClassId} {ad : Nat → Nat} {tl : va_W} {G : gE} {t : Nat} {post : MS → Prop} (K : CX p s m args meth c cX5_findLegal 3 RX5 A D ct G) (hr : meth.sig.returnType = none) (hgl : gHas G t) (L2 : Int32 → MS → Prop) (hL2 : ∀ (x1 : Int32) (st : MS), L2 x1 st → jJ p l e { frames := 4, cells := 0, slots := 0, locals := 90 } s m args below meth c (MQ below (va_Qv post (fun u => cB D ct A (TW ct ad tl u)) A) args s 0 0 A) A D 3 (TW ct ad tl st) 0 0 2 [(0, .ref (ad 0)), (1, .int x1)] []) (x1 : Int32) (x2 : Int32) (st : MS) (h : wX5_findLegal_11 post L2 x1 x2 st) : jJ p l e { frames := 4, cells := 0, slots := 0, locals := 90 } s m args below meth c (MQ below (va_Qv post (fun u => cB D ct A (TW ct ad tl u)) A) args s 0 0 A) A D 3 (TW ct ad tl st) 0 0 11 [(0, .ref (ad 0)), (1, .int x1), (2, .int x2)] [] :=
  wloop_sound (V := Int32 × Int32 × MS) (Wk := fun v => jJ p l e { frames := 4, cells := 0, slots := 0, locals := 90 } s m args below meth c (MQ below (va_Qv post (fun u => cB D ct A (TW ct ad tl u)) A) args s 0 0 A) A D 3 (TW ct ad tl v.2.2) 0 0 11 [(0, .ref (ad 0)), (1, .int v.1), (2, .int v.2.1)] []) (fun L hL v hb => kX5_findLegal_11_b K hr hgl L2 (fun x1 x2 st => L (x1, x2, st)) hL2 (fun x1 x2 st hx => hL (x1, x2, st) hx) v.1 v.2.1 v.2.2 hb) h
theorem kX5_findLegal_9 {p : Program} {l : Launch} {e : Env} {s : State} {m : MethodId} {args : Array Value} {below : List Frame} {meth : Method} {c : Code} {A : Nat → Prop} {D : va_G} {ct : Nat → ClassId} {ad : Nat → Nat} {tl : va_W} {G : gE} {t : Nat} {post : MS → Prop} (K : CX p s m args meth c cX5_findLegal 3 RX5 A D ct G) (hr : meth.sig.returnType = none) (hgl : gHas G t) (L2 : Int32 → MS → Prop) (hL2 : ∀ (x1 : Int32) (st : MS), L2 x1 st → jJ p l e { frames := 4, cells := 0, slots := 0, locals := 90 } s m args below meth c (MQ below (va_Qv post (fun u => cB D ct A (TW ct ad tl u)) A) args s 0 0 A) A D 3 (TW ct ad tl st) 0 0 2 [(0, .ref (ad 0)), (1, .int x1)] []) (x1 : Int32) (st : MS) (h : wX5_findLegal_9 post L2 x1 st) : jJ p l e { frames := 4, cells := 0, slots := 0, locals := 90 } s m args below meth c (MQ below (va_Qv post (fun u => cB D ct A (TW ct ad tl u)) A) args s 0 0 A) A D 3 (TW ct ad tl st) 0 0 9 [(0, .ref (ad 0)), (1, .int x1)] [] := by
  unfold wX5_findLegal_9 at h
  refine j_iconst K (0 : Int32) dX5_findLegal_9 (by decide) ?_
  refine j_istore_n K [(2, .int (0 : Int32)), (0, .ref (ad 0)), (1, .int x1)] dX5_findLegal_10 rfl (by decide) rfl ?_
  refine j_lv K [1, 2, 0] (lv' := [(0, .ref (ad 0)), (1, .int x1), (2, .int (0 : Int32))]) rfl ?_
  exact kX5_findLegal_11 K hr hgl L2 hL2 x1 (0 : Int32) st h
theorem kX5_findLegal_2_b {p : Program} {l : Launch} {e : Env} {s : State} {m : MethodId} {args : Array Value} {below : List Frame} {meth : Method} {c : Code} {A : Nat → Prop} {D : va_G} {ct : Nat → ClassId} {ad : Nat → Nat} {tl : va_W} {G : gE} {t : Nat} {post : MS → Prop} (K : CX p s m args meth c cX5_findLegal 3 RX5 A D ct G) (hr : meth.sig.returnType = none) (hgl : gHas G t) (L2 : Int32 → MS → Prop) (hL2 : ∀ (x1 : Int32) (st : MS), L2 x1 st → jJ p l e { frames := 4, cells := 0, slots := 0, locals := 90 } s m args below meth c (MQ below (va_Qv post (fun u => cB D ct A (TW ct ad tl u)) A) args s 0 0 A) A D 3 (TW ct ad tl st) 0 0 2 [(0, .ref (ad 0)), (1, .int x1)] []) (x1 : Int32) (st : MS) (h : wX5_findLegal_2_b post L2 x1 st) : jJ p l e { frames := 4, cells := 0, slots := 0, locals := 90 } s m args below meth c (MQ below (va_Qv post (fun u => cB D ct A (TW ct ad tl u)) A) args s 0 0 A) A D 3 (TW ct ad tl st) 0 0 2 [(0, .ref (ad 0)), (1, .int x1)] [] := by
  unfold wX5_findLegal_2_b at h
  refine j_iload_n K 1 dX5_findLegal_2 rfl rfl ?_
  refine j_sipush K (511 : Int32) dX5_findLegal_3 (by decide) ?_
  refine j_icmp_gt K 52 dX5_findLegal_6 (by decide) (fun hc => ?_) (fun hc => ?_)
  · refine j_lv K [] (lv' := []) rfl ?_
    exact kX5_findLegal_52 K hr hgl  st (h.1 hc)
  · exact kX5_findLegal_9 K hr hgl L2 hL2 x1 st (h.2 hc)
theorem kX5_findLegal_2 {p : Program} {l : Launch} {e : Env} {s : State} {m : MethodId} {args : Array Value} {below : List Frame} {meth : Method} {c : Code} {A : Nat → Prop} {D : va_G} {ct : Nat → ClassId} {ad : Nat → Nat} {tl : va_W} {G : gE} {t : Nat} {post : MS → Prop} (K : CX p s m args meth c cX5_findLegal 3 RX5 A D ct G) (hr : meth.sig.returnType = none) (hgl : gHas G t)   (x1 : Int32) (st : MS) (h : wX5_findLegal_2 post  x1 st) : jJ p l e { frames := 4, cells := 0, slots := 0, locals := 90 } s m args below meth c (MQ below (va_Qv post (fun u => cB D ct A (TW ct ad tl u)) A) args s 0 0 A) A D 3 (TW ct ad tl st) 0 0 2 [(0, .ref (ad 0)), (1, .int x1)] [] :=
  wloop_sound (V := Int32 × MS) (Wk := fun v => jJ p l e { frames := 4, cells := 0, slots := 0, locals := 90 } s m args below meth c (MQ below (va_Qv post (fun u => cB D ct A (TW ct ad tl u)) A) args s 0 0 A) A D 3 (TW ct ad tl v.2) 0 0 2 [(0, .ref (ad 0)), (1, .int v.1)] []) (fun L hL v hb => kX5_findLegal_2_b K hr hgl (fun x1 st => L (x1, st)) (fun x1 st hx => hL (x1, st) hx) v.1 v.2 hb) h
theorem kX5_findLegal_0 {p : Program} {l : Launch} {e : Env} {s : State} {m : MethodId} {args : Array Value} {below : List Frame} {meth : Method} {c : Code} {A : Nat → Prop} {D : va_G} {ct : Nat → ClassId} {ad : Nat → Nat} {tl : va_W} {G : gE} {t : Nat} {post : MS → Prop} (K : CX p s m args meth c cX5_findLegal 3 RX5 A D ct G) (hr : meth.sig.returnType = none) (hgl : gHas G t)    (st : MS) (h : wX5_findLegal_0 post  st) : jJ p l e { frames := 4, cells := 0, slots := 0, locals := 90 } s m args below meth c (MQ below (va_Qv post (fun u => cB D ct A (TW ct ad tl u)) A) args s 0 0 A) A D 3 (TW ct ad tl st) 0 0 0 [(0, .ref (ad 0))] [] := by
  unfold wX5_findLegal_0 at h
  refine j_iconst K (0 : Int32) dX5_findLegal_0 (by decide) ?_
  refine j_istore_n K [(1, .int (0 : Int32)), (0, .ref (ad 0))] dX5_findLegal_1 rfl (by decide) rfl ?_
  refine j_lv K [1, 0] (lv' := [(0, .ref (ad 0)), (1, .int (0 : Int32))]) rfl ?_
  exact kX5_findLegal_2 K hr hgl  (0 : Int32) st h
theorem ctX5_findLegal {l : Launch} {D : va_G} {ct : Nat → ClassId} {ad : Nat → Nat} {tl : va_W} {G : gE} {t : Nat} (hG : gOK G) (hgl : gHas G t)  (st : MS) (hp : pX5_findLegal  st) : ∀ sz, Met l yX5_findLegal (ws_ yX5_findLegal cX5_findLegal 3 none) { frames := 4, cells := 0, slots := 0, locals := 90 } (va_Pc [.ref (ad 0)] (cPre G D ct (TW ct ad tl st) sz)) (va_Qv (qX5_findLegal  st) (fun u => cB D ct (va_A (TW ct ad tl st) sz) (TW ct ad tl u)) (va_A (TW ct ad tl st) sz)) 0 0 (va_A (TW ct ad tl st) sz) := fun sz =>
  j_met (Qc := fun A => va_Qv (qX5_findLegal  st) (fun u => cB D ct A (TW ct ad tl u)) A) (by decide) hG (Nat.le_of_ble_eq_true rfl) (fun p e s m args below meth c A K hr _ _ => kX5_findLegal_0 K hr hgl  st (vcX5_findLegal  st hp))
