/-! WALKS and CONTRACTS of Rules and Table (S), printed by gen_table.py -/
theorem gw5_30 : GoodIn lw_all (wsV RX5 30 RX5 yX5_indexOf (ws_ yX5_indexOf cX5_indexOf 4 (some .int))) := lw_V q455 q457 qs14 q88 q458
theorem gd5_30 : yX5_indexOf.cls = RX5 ∧ yX5_indexOf.cls ≠ "java/lang/invoke/MethodHandle" ∧ yX5_indexOf.cls ≠ "java/lang/invoke/VarHandle" ∧ (parseMethodDescriptor yX5_indexOf.desc).map (fun d => d.parameters.length) = some 3 := by decide +kernel
theorem gw5_59 : GoodIn lw_all (wsV RX5 59 RX5 yX5_worth (ws_ yX5_worth cX5_worth 4 (some .int))) := lw_V q475 q476 q477 q88 q478
theorem gd5_59 : yX5_worth.cls = RX5 ∧ yX5_worth.cls ≠ "java/lang/invoke/MethodHandle" ∧ yX5_worth.cls ≠ "java/lang/invoke/VarHandle" ∧ (parseMethodDescriptor yX5_worth.desc).map (fun d => d.parameters.length) = some 3 := by decide +kernel
theorem gw5_62 : GoodIn lw_all (wsV RX5 62 RX5 yX5_first (ws_ yX5_first cX5_first 2 (some .int))) := lw_V q463 q464 q465 q88 q466
theorem gd5_62 : yX5_first.cls = RX5 ∧ yX5_first.cls ≠ "java/lang/invoke/MethodHandle" ∧ yX5_first.cls ≠ "java/lang/invoke/VarHandle" ∧ (parseMethodDescriptor yX5_first.desc).map (fun d => d.parameters.length) = some 1 := by decide +kernel
theorem gw5_65 : GoodIn lw_all (wsV RX5 65 RX5 yX5_second (ws_ yX5_second cX5_second 2 (some .int))) := lw_V q467 q468 q469 q88 q470
theorem gd5_65 : yX5_second.cls = RX5 ∧ yX5_second.cls ≠ "java/lang/invoke/MethodHandle" ∧ yX5_second.cls ≠ "java/lang/invoke/VarHandle" ∧ (parseMethodDescriptor yX5_second.desc).map (fun d => d.parameters.length) = some 1 := by decide +kernel
theorem gw5_71 : GoodIn lw_all (wsV RX5 71 RX5 yX5_mover (ws_ yX5_mover cX5_mover 2 (some .int))) := lw_V q471 q472 q473 q88 q474
theorem gd5_71 : yX5_mover.cls = RX5 ∧ yX5_mover.cls ≠ "java/lang/invoke/MethodHandle" ∧ yX5_mover.cls ≠ "java/lang/invoke/VarHandle" ∧ (parseMethodDescriptor yX5_mover.desc).map (fun d => d.parameters.length) = some 1 := by decide +kernel
-- X5_indexOf
theorem kX5_indexOf_0 {p : Program} {l : Launch} {e : Env} {s : State} {m : MethodId} {args : Array Value} {below : List Frame} {meth : Method} {c : Code} {A : Nat → Prop} {D : va_G} {ct : Nat → ClassId} {ad : Nat → Nat} {tl : va_W} {G : gE} {t : Nat} {post : Int32 → MS → Prop} (K : CX p s m args meth c cX5_indexOf 4 RX5 A D ct G) (hr : meth.sig.returnType = (some .int)) (hgl : gHas G t)   (x1 : Int32) (x2 : Int32) (x3 : Int32) (st : MS) (h : wX5_indexOf_0 post  x1 x2 x3 st) : jJ p l e { frames := 0, cells := 0, slots := 0, locals := 0 } s m args below meth c (MQ below (va_Qi post (fun u => cB D ct A (TW ct ad tl u)) A) args s 0 0 A) A D 4 (TW ct ad tl st) 0 0 0 [(0, .ref (ad 0)), (1, .int x1), (2, .int x2), (3, .int x3)] [] := by
  unfold wX5_indexOf_0 at h
  refine j_iconst K (2 : Int32) dX5_indexOf_0 (by decide) ?_
  refine j_aload_n K 0 dX5_indexOf_1 rfl rfl ?_
  refine tg_codes K dX5_indexOf_2 ?_
  refine j_iload_n K 1 dX5_indexOf_5 rfl rfl ?_
  obtain ⟨hc, h⟩ := h
  refine tl_codes K hc dX5_indexOf_6 ?_
  refine j_iconst K (2 : Int32) dX5_indexOf_7 (by decide) ?_
  refine j_aload_n K 0 dX5_indexOf_8 rfl rfl ?_
  refine tg_codes K dX5_indexOf_9 ?_
  refine j_iload_n K 2 dX5_indexOf_12 rfl rfl ?_
  obtain ⟨hc, h⟩ := h
  refine tl_codes K hc dX5_indexOf_13 ?_
  refine j_imul K dX5_indexOf_14 ?_
  refine j_iadd K dX5_indexOf_15 ?_
  refine j_imul K dX5_indexOf_16 ?_
  refine j_iload_n K 3 dX5_indexOf_17 rfl rfl ?_
  refine j_iadd K dX5_indexOf_18 ?_
  exact j_iret st K hr rfl h (Nat.le_of_ble_eq_true rfl) (Nat.le_of_ble_eq_true rfl) dX5_indexOf_19
theorem ctX5_indexOf {l : Launch} {D : va_G} {ct : Nat → ClassId} {ad : Nat → Nat} {tl : va_W} {G : gE} {t : Nat} (hG : gOK G) (hgl : gHas G t) (x1 : Int32) (x2 : Int32) (x3 : Int32) (st : MS) (hp : pX5_indexOf x1 x2 x3 st) : ∀ sz, Met l yX5_indexOf (ws_ yX5_indexOf cX5_indexOf 4 (some .int)) { frames := 0, cells := 0, slots := 0, locals := 0 } (va_Pc [.ref (ad 0), .int x1, .int x2, .int x3] (cPre G D ct (TW ct ad tl st) sz)) (va_Qi (fun (r : Int32) (u : MS) => qX5_indexOf x1 x2 x3 st r ∧ st = u) (fun u => cB D ct (va_A (TW ct ad tl st) sz) (TW ct ad tl u)) (va_A (TW ct ad tl st) sz)) 0 0 (va_A (TW ct ad tl st) sz) := fun sz =>
  j_met (Qc := fun A => va_Qi (fun (r : Int32) (u : MS) => qX5_indexOf x1 x2 x3 st r ∧ st = u) (fun u => cB D ct A (TW ct ad tl u)) A) (by decide) hG (Nat.le_of_ble_eq_true rfl) (fun p e s m args below meth c A K hr _ _ => kX5_indexOf_0 K hr hgl x1 x2 x3 st (vcX5_indexOf x1 x2 x3 st hp))
-- X5_worth
theorem kX5_worth_0 {p : Program} {l : Launch} {e : Env} {s : State} {m : MethodId} {args : Array Value} {below : List Frame} {meth : Method} {c : Code} {A : Nat → Prop} {D : va_G} {ct : Nat → ClassId} {ad : Nat → Nat} {tl : va_W} {G : gE} {t : Nat} {post : Int32 → MS → Prop} (K : CX p s m args meth c cX5_worth 4 RX5 A D ct G) (hr : meth.sig.returnType = (some .int)) (hgl : gHas G t)   (x1 : Int32) (x2 : Int32) (x3 : Int32) (st : MS) (h : wX5_worth_0 post  x1 x2 x3 st) : jJ p l e { frames := 1, cells := 0, slots := 0, locals := 23 } s m args below meth c (MQ below (va_Qi post (fun u => cB D ct A (TW ct ad tl u)) A) args s 0 0 A) A D 4 (TW ct ad tl st) 0 0 0 [(0, .ref (ad 0)), (1, .int x1), (2, .int x2), (3, .int x3)] [] := by
  unfold wX5_worth_0 at h
  refine j_aload_n K 0 dX5_worth_0 rfl rfl ?_
  refine tg_worths K dX5_worth_1 ?_
  refine j_aload_n K 0 dX5_worth_4 rfl rfl ?_
  refine j_iload_n K 1 dX5_worth_5 rfl rfl ?_
  refine j_iload_n K 2 dX5_worth_6 rfl rfl ?_
  refine j_iload_n K 3 dX5_worth_7 rfl rfl ?_
  obtain ⟨hp, h⟩ := h
  refine j_callVi K (As := [.int x1, .int x2, .int x3]) (rest := [.ref (ad 3)]) (ctX5_indexOf (l := l) (D := D) (ct := ct) (ad := ad) (tl := tl) (G := G) (t := t) K.2.2.2.2.2.2.2.2.2 hgl x1 x2 x3 st hp) gw5_30 gd5_30 ⟨Nat.le_of_ble_eq_true rfl, Nat.le_of_ble_eq_true rfl⟩ 0 rfl rfl rfl rfl rfl (Nat.le_of_ble_eq_true rfl) dX5_worth_8 ⟨Nat.le_of_ble_eq_true rfl, Nat.le_of_ble_eq_true rfl⟩ (fun r_1 st_2 hq => ?_)
  obtain ⟨hq, rfl⟩ := hq
  replace h := h r_1 hq
  obtain ⟨hc, h⟩ := h
  refine tl_worths K hc dX5_worth_11 ?_
  exact j_iret st K hr rfl h (Nat.le_of_ble_eq_true rfl) (Nat.le_of_ble_eq_true rfl) dX5_worth_12
theorem ctX5_worth {l : Launch} {D : va_G} {ct : Nat → ClassId} {ad : Nat → Nat} {tl : va_W} {G : gE} {t : Nat} (hG : gOK G) (hgl : gHas G t) (x1 : Int32) (x2 : Int32) (x3 : Int32) (st : MS) (hp : pX5_worth x1 x2 x3 st) : ∀ sz, Met l yX5_worth (ws_ yX5_worth cX5_worth 4 (some .int)) { frames := 1, cells := 0, slots := 0, locals := 23 } (va_Pc [.ref (ad 0), .int x1, .int x2, .int x3] (cPre G D ct (TW ct ad tl st) sz)) (va_Qi (fun (r : Int32) (u : MS) => qX5_worth x1 x2 x3 st r ∧ st = u) (fun u => cB D ct (va_A (TW ct ad tl st) sz) (TW ct ad tl u)) (va_A (TW ct ad tl st) sz)) 0 0 (va_A (TW ct ad tl st) sz) := fun sz =>
  j_met (Qc := fun A => va_Qi (fun (r : Int32) (u : MS) => qX5_worth x1 x2 x3 st r ∧ st = u) (fun u => cB D ct A (TW ct ad tl u)) A) (by decide) hG (Nat.le_of_ble_eq_true rfl) (fun p e s m args below meth c A K hr _ _ => kX5_worth_0 K hr hgl x1 x2 x3 st (vcX5_worth x1 x2 x3 st hp))
-- X5_first
theorem kX5_first_0 {p : Program} {l : Launch} {e : Env} {s : State} {m : MethodId} {args : Array Value} {below : List Frame} {meth : Method} {c : Code} {A : Nat → Prop} {D : va_G} {ct : Nat → ClassId} {ad : Nat → Nat} {tl : va_W} {G : gE} {t : Nat} {post : Int32 → MS → Prop} (K : CX p s m args meth c cX5_first 2 RX5 A D ct G) (hr : meth.sig.returnType = (some .int)) (hgl : gHas G t)   (x1 : Int32) (st : MS) (h : wX5_first_0 post  x1 st) : jJ p l e { frames := 0, cells := 0, slots := 0, locals := 0 } s m args below meth c (MQ below (va_Qi post (fun u => cB D ct A (TW ct ad tl u)) A) args s 0 0 A) A D 2 (TW ct ad tl st) 0 0 0 [(0, .ref (ad 0)), (1, .int x1)] [] := by
  unfold wX5_first_0 at h
  refine j_aload_n K 0 dX5_first_0 rfl rfl ?_
  refine tg_legal K dX5_first_1 ?_
  refine j_iload_n K 1 dX5_first_4 rfl rfl ?_
  obtain ⟨hc, h⟩ := h
  refine tl_legal K hc dX5_first_5 ?_
  refine j_sipush K (511 : Int32) dX5_first_6 (by decide) ?_
  refine j_iand K dX5_first_9 ?_
  exact j_iret st K hr rfl h (Nat.le_of_ble_eq_true rfl) (Nat.le_of_ble_eq_true rfl) dX5_first_10
theorem ctX5_first {l : Launch} {D : va_G} {ct : Nat → ClassId} {ad : Nat → Nat} {tl : va_W} {G : gE} {t : Nat} (hG : gOK G) (hgl : gHas G t) (x1 : Int32) (st : MS) (hp : pX5_first x1 st) : ∀ sz, Met l yX5_first (ws_ yX5_first cX5_first 2 (some .int)) { frames := 0, cells := 0, slots := 0, locals := 0 } (va_Pc [.ref (ad 0), .int x1] (cPre G D ct (TW ct ad tl st) sz)) (va_Qi (fun (r : Int32) (u : MS) => qX5_first x1 st r ∧ st = u) (fun u => cB D ct (va_A (TW ct ad tl st) sz) (TW ct ad tl u)) (va_A (TW ct ad tl st) sz)) 0 0 (va_A (TW ct ad tl st) sz) := fun sz =>
  j_met (Qc := fun A => va_Qi (fun (r : Int32) (u : MS) => qX5_first x1 st r ∧ st = u) (fun u => cB D ct A (TW ct ad tl u)) A) (by decide) hG (Nat.le_of_ble_eq_true rfl) (fun p e s m args below meth c A K hr _ _ => kX5_first_0 K hr hgl x1 st (vcX5_first x1 st hp))
-- X5_second
theorem kX5_second_0 {p : Program} {l : Launch} {e : Env} {s : State} {m : MethodId} {args : Array Value} {below : List Frame} {meth : Method} {c : Code} {A : Nat → Prop} {D : va_G} {ct : Nat → ClassId} {ad : Nat → Nat} {tl : va_W} {G : gE} {t : Nat} {post : Int32 → MS → Prop} (K : CX p s m args meth c cX5_second 2 RX5 A D ct G) (hr : meth.sig.returnType = (some .int)) (hgl : gHas G t)   (x1 : Int32) (st : MS) (h : wX5_second_0 post  x1 st) : jJ p l e { frames := 0, cells := 0, slots := 0, locals := 0 } s m args below meth c (MQ below (va_Qi post (fun u => cB D ct A (TW ct ad tl u)) A) args s 0 0 A) A D 2 (TW ct ad tl st) 0 0 0 [(0, .ref (ad 0)), (1, .int x1)] [] := by
  unfold wX5_second_0 at h
  refine j_aload_n K 0 dX5_second_0 rfl rfl ?_
  refine tg_legal K dX5_second_1 ?_
  refine j_iload_n K 1 dX5_second_4 rfl rfl ?_
  obtain ⟨hc, h⟩ := h
  refine tl_legal K hc dX5_second_5 ?_
  refine j_bipush K (9 : Int32) dX5_second_6 (by decide) ?_
  refine j_ishr K dX5_second_8 ?_
  refine j_sipush K (511 : Int32) dX5_second_9 (by decide) ?_
  refine j_iand K dX5_second_12 ?_
  exact j_iret st K hr rfl h (Nat.le_of_ble_eq_true rfl) (Nat.le_of_ble_eq_true rfl) dX5_second_13
theorem ctX5_second {l : Launch} {D : va_G} {ct : Nat → ClassId} {ad : Nat → Nat} {tl : va_W} {G : gE} {t : Nat} (hG : gOK G) (hgl : gHas G t) (x1 : Int32) (st : MS) (hp : pX5_second x1 st) : ∀ sz, Met l yX5_second (ws_ yX5_second cX5_second 2 (some .int)) { frames := 0, cells := 0, slots := 0, locals := 0 } (va_Pc [.ref (ad 0), .int x1] (cPre G D ct (TW ct ad tl st) sz)) (va_Qi (fun (r : Int32) (u : MS) => qX5_second x1 st r ∧ st = u) (fun u => cB D ct (va_A (TW ct ad tl st) sz) (TW ct ad tl u)) (va_A (TW ct ad tl st) sz)) 0 0 (va_A (TW ct ad tl st) sz) := fun sz =>
  j_met (Qc := fun A => va_Qi (fun (r : Int32) (u : MS) => qX5_second x1 st r ∧ st = u) (fun u => cB D ct A (TW ct ad tl u)) A) (by decide) hG (Nat.le_of_ble_eq_true rfl) (fun p e s m args below meth c A K hr _ _ => kX5_second_0 K hr hgl x1 st (vcX5_second x1 st hp))
-- X5_mover
theorem kX5_mover_0 {p : Program} {l : Launch} {e : Env} {s : State} {m : MethodId} {args : Array Value} {below : List Frame} {meth : Method} {c : Code} {A : Nat → Prop} {D : va_G} {ct : Nat → ClassId} {ad : Nat → Nat} {tl : va_W} {G : gE} {t : Nat} {post : Int32 → MS → Prop} (K : CX p s m args meth c cX5_mover 2 RX5 A D ct G) (hr : meth.sig.returnType = (some .int)) (hgl : gHas G t)   (x1 : Int32) (st : MS) (h : wX5_mover_0 post  x1 st) : jJ p l e { frames := 0, cells := 0, slots := 0, locals := 0 } s m args below meth c (MQ below (va_Qi post (fun u => cB D ct A (TW ct ad tl u)) A) args s 0 0 A) A D 2 (TW ct ad tl st) 0 0 0 [(0, .ref (ad 0)), (1, .int x1)] [] := by
  unfold wX5_mover_0 at h
  refine j_aload_n K 0 dX5_mover_0 rfl rfl ?_
  refine tg_legal K dX5_mover_1 ?_
  refine j_iload_n K 1 dX5_mover_4 rfl rfl ?_
  obtain ⟨hc, h⟩ := h
  refine tl_legal K hc dX5_mover_5 ?_
  refine j_bipush K (18 : Int32) dX5_mover_6 (by decide) ?_
  refine j_ishr K dX5_mover_8 ?_
  exact j_iret st K hr rfl h (Nat.le_of_ble_eq_true rfl) (Nat.le_of_ble_eq_true rfl) dX5_mover_9
theorem ctX5_mover {l : Launch} {D : va_G} {ct : Nat → ClassId} {ad : Nat → Nat} {tl : va_W} {G : gE} {t : Nat} (hG : gOK G) (hgl : gHas G t) (x1 : Int32) (st : MS) (hp : pX5_mover x1 st) : ∀ sz, Met l yX5_mover (ws_ yX5_mover cX5_mover 2 (some .int)) { frames := 0, cells := 0, slots := 0, locals := 0 } (va_Pc [.ref (ad 0), .int x1] (cPre G D ct (TW ct ad tl st) sz)) (va_Qi (fun (r : Int32) (u : MS) => qX5_mover x1 st r ∧ st = u) (fun u => cB D ct (va_A (TW ct ad tl st) sz) (TW ct ad tl u)) (va_A (TW ct ad tl st) sz)) 0 0 (va_A (TW ct ad tl st) sz) := fun sz =>
  j_met (Qc := fun A => va_Qi (fun (r : Int32) (u : MS) => qX5_mover x1 st r ∧ st = u) (fun u => cB D ct A (TW ct ad tl u)) A) (by decide) hG (Nat.le_of_ble_eq_true rfl) (fun p e s m args below meth c A K hr _ _ => kX5_mover_0 K hr hgl x1 st (vcX5_mover x1 st hp))
-- X5_behind
theorem kX5_behind_31 {p : Program} {l : Launch} {e : Env} {s : State} {m : MethodId} {args : Array Value} {below : List Frame} {meth : Method} {c : Code} {A : Nat → Prop} {D : va_G} {ct : Nat → ClassId} {ad : Nat → Nat} {tl : va_W} {G : gE} {t : Nat} {post : Int32 → MS → Prop} (K : CX p s m args meth c cX5_behind 5 RX5 A D ct G) (hr : meth.sig.returnType = (some .int)) (hgl : gHas G t)   (s0 : Int32) (st : MS) (h : wX5_behind_31 post  s0 st) : jJ p l e { frames := 2, cells := 0, slots := 0, locals := 46 } s m args below meth c (MQ below (va_Qi post (fun u => cB D ct A (TW ct ad tl u)) A) args s 0 0 A) A D 5 (TW ct ad tl st) 0 0 31 [] [.int s0] := by
  unfold wX5_behind_31 at h
  exact j_iret st K hr rfl h (Nat.le_of_ble_eq_true rfl) (Nat.le_of_ble_eq_true rfl) dX5_behind_31
theorem kX5_behind_19 {p : Program} {l : Launch} {e : Env} {s : State} {m : MethodId} {args : Array Value} {below : List Frame} {meth : Method} {c : Code} {A : Nat → Prop} {D : va_G} {ct : Nat → ClassId} {ad : Nat → Nat} {tl : va_W} {G : gE} {t : Nat} {post : Int32 → MS → Prop} (K : CX p s m args meth c cX5_behind 5 RX5 A D ct G) (hr : meth.sig.returnType = (some .int)) (hgl : gHas G t)   (x1 : Int32) (x2 : Int32) (x4 : Int32) (st : MS) (h : wX5_behind_19 post  x1 x2 x4 st) : jJ p l e { frames := 2, cells := 0, slots := 0, locals := 46 } s m args below meth c (MQ below (va_Qi post (fun u => cB D ct A (TW ct ad tl u)) A) args s 0 0 A) A D 5 (TW ct ad tl st) 0 0 19 [(0, .ref (ad 0)), (1, .int x1), (2, .int x2), (4, .int x4)] [] := by
  unfold wX5_behind_19 at h
  refine j_aload_n K 0 dX5_behind_19 rfl rfl ?_
  refine j_iload_n K 1 dX5_behind_20 rfl rfl ?_
  refine j_iload_n K 2 dX5_behind_21 rfl rfl ?_
  refine j_iload K 3 dX5_behind_22 rfl ?_
  refine j_callSUi K (As := [.int x2, .int x4]) (rest := [.int x1, .ref (ad 0)]) (x := ⟨RX5, "behind", "(II)I"⟩) (owner := RX4) (n := 2) (ctX4_behind (l := l) (D := D) (ct := ct) (G := G) (ws := (TW ct ad tl st)) K.2.2.2.2.2.2.2.2.2 x2 x4) rfl q500 q497 q498 q499 q87 (by decide +kernel) (by decide +kernel) ⟨Nat.le_of_ble_eq_true rfl, Nat.le_of_ble_eq_true rfl⟩ rfl rfl (Nat.le_of_ble_eq_true rfl) dX5_behind_24 ⟨Nat.le_of_ble_eq_true rfl, Nat.le_of_ble_eq_true rfl⟩ (fun r_1 _ hq => ?_)
  replace h := h r_1 hq
  refine j_iconst K (0 : Int32) dX5_behind_27 (by decide) ?_
  obtain ⟨hp, h⟩ := h
  refine j_callVi K (As := [.int x1, .int r_1, .int (0 : Int32)]) (rest := []) (ctX5_worth (l := l) (D := D) (ct := ct) (ad := ad) (tl := tl) (G := G) (t := t) K.2.2.2.2.2.2.2.2.2 hgl x1 r_1 (0 : Int32) st hp) gw5_59 gd5_59 ⟨Nat.le_of_ble_eq_true rfl, Nat.le_of_ble_eq_true rfl⟩ 0 rfl rfl rfl rfl rfl (Nat.le_of_ble_eq_true rfl) dX5_behind_28 ⟨Nat.le_of_ble_eq_true rfl, Nat.le_of_ble_eq_true rfl⟩ (fun r_2 st_3 hq => ?_)
  obtain ⟨hq, rfl⟩ := hq
  replace h := h r_2 hq
  refine j_lv K [] (lv' := []) rfl ?_
  exact kX5_behind_31 K hr hgl  r_2 st h
theorem kX5_behind_4 {p : Program} {l : Launch} {e : Env} {s : State} {m : MethodId} {args : Array Value} {below : List Frame} {meth : Method} {c : Code} {A : Nat → Prop} {D : va_G} {ct : Nat → ClassId} {ad : Nat → Nat} {tl : va_W} {G : gE} {t : Nat} {post : Int32 → MS → Prop} (K : CX p s m args meth c cX5_behind 5 RX5 A D ct G) (hr : meth.sig.returnType = (some .int)) (hgl : gHas G t)   (x1 : Int32) (x2 : Int32) (x4 : Int32) (st : MS) (h : wX5_behind_4 post  x1 x2 x4 st) : jJ p l e { frames := 2, cells := 0, slots := 0, locals := 46 } s m args below meth c (MQ below (va_Qi post (fun u => cB D ct A (TW ct ad tl u)) A) args s 0 0 A) A D 5 (TW ct ad tl st) 0 0 4 [(0, .ref (ad 0)), (1, .int x1), (2, .int x2), (4, .int x4)] [] := by
  unfold wX5_behind_4 at h
  refine j_aload_n K 0 dX5_behind_4 rfl rfl ?_
  refine j_iload_n K 1 dX5_behind_5 rfl rfl ?_
  refine j_iload K 3 dX5_behind_6 rfl ?_
  refine j_callSUi K (As := [.int x1, .int x4]) (rest := [.ref (ad 0)]) (x := ⟨RX5, "behind", "(II)I"⟩) (owner := RX4) (n := 2) (ctX4_behind (l := l) (D := D) (ct := ct) (G := G) (ws := (TW ct ad tl st)) K.2.2.2.2.2.2.2.2.2 x1 x4) rfl q500 q497 q498 q499 q87 (by decide +kernel) (by decide +kernel) ⟨Nat.le_of_ble_eq_true rfl, Nat.le_of_ble_eq_true rfl⟩ rfl rfl (Nat.le_of_ble_eq_true rfl) dX5_behind_8 ⟨Nat.le_of_ble_eq_true rfl, Nat.le_of_ble_eq_true rfl⟩ (fun r_1 _ hq => ?_)
  replace h := h r_1 hq
  refine j_iload_n K 2 dX5_behind_11 rfl rfl ?_
  refine j_iconst K (1 : Int32) dX5_behind_12 (by decide) ?_
  obtain ⟨hp, h⟩ := h
  refine j_callVi K (As := [.int r_1, .int x2, .int (1 : Int32)]) (rest := []) (ctX5_worth (l := l) (D := D) (ct := ct) (ad := ad) (tl := tl) (G := G) (t := t) K.2.2.2.2.2.2.2.2.2 hgl r_1 x2 (1 : Int32) st hp) gw5_59 gd5_59 ⟨Nat.le_of_ble_eq_true rfl, Nat.le_of_ble_eq_true rfl⟩ 0 rfl rfl rfl rfl rfl (Nat.le_of_ble_eq_true rfl) dX5_behind_13 ⟨Nat.le_of_ble_eq_true rfl, Nat.le_of_ble_eq_true rfl⟩ (fun r_2 st_3 hq => ?_)
  obtain ⟨hq, rfl⟩ := hq
  replace h := h r_2 hq
  refine j_goto K 31 dX5_behind_16 (by decide) ?_
  refine j_lv K [] (lv' := []) rfl ?_
  exact kX5_behind_31 K hr hgl  r_2 st h
theorem kX5_behind_0 {p : Program} {l : Launch} {e : Env} {s : State} {m : MethodId} {args : Array Value} {below : List Frame} {meth : Method} {c : Code} {A : Nat → Prop} {D : va_G} {ct : Nat → ClassId} {ad : Nat → Nat} {tl : va_W} {G : gE} {t : Nat} {post : Int32 → MS → Prop} (K : CX p s m args meth c cX5_behind 5 RX5 A D ct G) (hr : meth.sig.returnType = (some .int)) (hgl : gHas G t)   (x1 : Int32) (x2 : Int32) (x3 : Int32) (x4 : Int32) (st : MS) (h : wX5_behind_0 post  x1 x2 x3 x4 st) : jJ p l e { frames := 2, cells := 0, slots := 0, locals := 46 } s m args below meth c (MQ below (va_Qi post (fun u => cB D ct A (TW ct ad tl u)) A) args s 0 0 A) A D 5 (TW ct ad tl st) 0 0 0 [(0, .ref (ad 0)), (1, .int x1), (2, .int x2), (3, .int x3), (4, .int x4)] [] := by
  unfold wX5_behind_0 at h
  refine j_iload_n K 3 dX5_behind_0 rfl rfl ?_
  refine j_if_ne K 19 dX5_behind_1 (by decide) (fun hc => ?_) (fun hc => ?_)
  · refine j_lv K [0, 1, 2, 4] (lv' := [(0, .ref (ad 0)), (1, .int x1), (2, .int x2), (4, .int x4)]) rfl ?_
    exact kX5_behind_19 K hr hgl  x1 x2 x4 st (h.1 hc)
  · refine j_lv K [0, 1, 2, 4] (lv' := [(0, .ref (ad 0)), (1, .int x1), (2, .int x2), (4, .int x4)]) rfl ?_
    exact kX5_behind_4 K hr hgl  x1 x2 x4 st (h.2 hc)
theorem ctX5_behind {l : Launch} {D : va_G} {ct : Nat → ClassId} {ad : Nat → Nat} {tl : va_W} {G : gE} {t : Nat} (hG : gOK G) (hgl : gHas G t) (x1 : Int32) (x2 : Int32) (x3 : Int32) (x4 : Int32) (st : MS) (hp : pX5_behind x1 x2 x3 x4 st) : ∀ sz, Met l yX5_behind (ws_ yX5_behind cX5_behind 5 (some .int)) { frames := 2, cells := 0, slots := 0, locals := 46 } (va_Pc [.ref (ad 0), .int x1, .int x2, .int x3, .int x4] (cPre G D ct (TW ct ad tl st) sz)) (va_Qi (fun (r : Int32) (u : MS) => qX5_behind x1 x2 x3 x4 st r ∧ st = u) (fun u => cB D ct (va_A (TW ct ad tl st) sz) (TW ct ad tl u)) (va_A (TW ct ad tl st) sz)) 0 0 (va_A (TW ct ad tl st) sz) := fun sz =>
  j_met (Qc := fun A => va_Qi (fun (r : Int32) (u : MS) => qX5_behind x1 x2 x3 x4 st r ∧ st = u) (fun u => cB D ct A (TW ct ad tl u)) A) (by decide) hG (Nat.le_of_ble_eq_true rfl) (fun p e s m args below meth c A K hr _ _ => kX5_behind_0 K hr hgl x1 x2 x3 x4 st (vcX5_behind x1 x2 x3 x4 st hp))
-- X5_worthAt
theorem kX5_worthAt_0 {p : Program} {l : Launch} {e : Env} {s : State} {m : MethodId} {args : Array Value} {below : List Frame} {meth : Method} {c : Code} {A : Nat → Prop} {D : va_G} {ct : Nat → ClassId} {ad : Nat → Nat} {tl : va_W} {G : gE} {t : Nat} {post : Int32 → MS → Prop} (K : CX p s m args meth c cX5_worthAt 2 RX5 A D ct G) (hr : meth.sig.returnType = (some .int)) (hgl : gHas G t)   (x1 : Int32) (st : MS) (h : wX5_worthAt_0 post  x1 st) : jJ p l e { frames := 2, cells := 0, slots := 0, locals := 46 } s m args below meth c (MQ below (va_Qi post (fun u => cB D ct A (TW ct ad tl u)) A) args s 0 0 A) A D 2 (TW ct ad tl st) 0 0 0 [(0, .ref (ad 0)), (1, .int x1)] [] := by
  unfold wX5_worthAt_0 at h
  refine j_aload_n K 0 dX5_worthAt_0 rfl rfl ?_
  refine j_aload_n K 0 dX5_worthAt_1 rfl rfl ?_
  refine j_iload_n K 1 dX5_worthAt_2 rfl rfl ?_
  obtain ⟨hp, h⟩ := h
  refine j_callVi K (As := [.int x1]) (rest := [.ref (ad 0)]) (ctX5_first (l := l) (D := D) (ct := ct) (ad := ad) (tl := tl) (G := G) (t := t) K.2.2.2.2.2.2.2.2.2 hgl x1 st hp) gw5_62 gd5_62 ⟨Nat.le_of_ble_eq_true rfl, Nat.le_of_ble_eq_true rfl⟩ 0 rfl rfl rfl rfl rfl (Nat.le_of_ble_eq_true rfl) dX5_worthAt_3 ⟨Nat.le_of_ble_eq_true rfl, Nat.le_of_ble_eq_true rfl⟩ (fun r_1 st_2 hq => ?_)
  obtain ⟨hq, rfl⟩ := hq
  replace h := h r_1 hq
  refine j_aload_n K 0 dX5_worthAt_6 rfl rfl ?_
  refine j_iload_n K 1 dX5_worthAt_7 rfl rfl ?_
  obtain ⟨hp, h⟩ := h
  refine j_callVi K (As := [.int x1]) (rest := [.int r_1, .ref (ad 0)]) (ctX5_second (l := l) (D := D) (ct := ct) (ad := ad) (tl := tl) (G := G) (t := t) K.2.2.2.2.2.2.2.2.2 hgl x1 st hp) gw5_65 gd5_65 ⟨Nat.le_of_ble_eq_true rfl, Nat.le_of_ble_eq_true rfl⟩ 0 rfl rfl rfl rfl rfl (Nat.le_of_ble_eq_true rfl) dX5_worthAt_8 ⟨Nat.le_of_ble_eq_true rfl, Nat.le_of_ble_eq_true rfl⟩ (fun r_3 st_4 hq => ?_)
  obtain ⟨hq, rfl⟩ := hq
  replace h := h r_3 hq
  refine j_aload_n K 0 dX5_worthAt_11 rfl rfl ?_
  refine j_iload_n K 1 dX5_worthAt_12 rfl rfl ?_
  obtain ⟨hp, h⟩ := h
  refine j_callVi K (As := [.int x1]) (rest := [.int r_3, .int r_1, .ref (ad 0)]) (ctX5_mover (l := l) (D := D) (ct := ct) (ad := ad) (tl := tl) (G := G) (t := t) K.2.2.2.2.2.2.2.2.2 hgl x1 st hp) gw5_71 gd5_71 ⟨Nat.le_of_ble_eq_true rfl, Nat.le_of_ble_eq_true rfl⟩ 0 rfl rfl rfl rfl rfl (Nat.le_of_ble_eq_true rfl) dX5_worthAt_13 ⟨Nat.le_of_ble_eq_true rfl, Nat.le_of_ble_eq_true rfl⟩ (fun r_5 st_6 hq => ?_)
  obtain ⟨hq, rfl⟩ := hq
  replace h := h r_5 hq
  obtain ⟨hp, h⟩ := h
  refine j_callVi K (As := [.int r_1, .int r_3, .int r_5]) (rest := []) (ctX5_worth (l := l) (D := D) (ct := ct) (ad := ad) (tl := tl) (G := G) (t := t) K.2.2.2.2.2.2.2.2.2 hgl r_1 r_3 r_5 st hp) gw5_59 gd5_59 ⟨Nat.le_of_ble_eq_true rfl, Nat.le_of_ble_eq_true rfl⟩ 0 rfl rfl rfl rfl rfl (Nat.le_of_ble_eq_true rfl) dX5_worthAt_16 ⟨Nat.le_of_ble_eq_true rfl, Nat.le_of_ble_eq_true rfl⟩ (fun r_7 st_8 hq => ?_)
  obtain ⟨hq, rfl⟩ := hq
  replace h := h r_7 hq
  exact j_iret st K hr rfl h (Nat.le_of_ble_eq_true rfl) (Nat.le_of_ble_eq_true rfl) dX5_worthAt_19
theorem ctX5_worthAt {l : Launch} {D : va_G} {ct : Nat → ClassId} {ad : Nat → Nat} {tl : va_W} {G : gE} {t : Nat} (hG : gOK G) (hgl : gHas G t) (x1 : Int32) (st : MS) (hp : pX5_worthAt x1 st) : ∀ sz, Met l yX5_worthAt (ws_ yX5_worthAt cX5_worthAt 2 (some .int)) { frames := 2, cells := 0, slots := 0, locals := 46 } (va_Pc [.ref (ad 0), .int x1] (cPre G D ct (TW ct ad tl st) sz)) (va_Qi (fun (r : Int32) (u : MS) => qX5_worthAt x1 st r ∧ st = u) (fun u => cB D ct (va_A (TW ct ad tl st) sz) (TW ct ad tl u)) (va_A (TW ct ad tl st) sz)) 0 0 (va_A (TW ct ad tl st) sz) := fun sz =>
  j_met (Qc := fun A => va_Qi (fun (r : Int32) (u : MS) => qX5_worthAt x1 st r ∧ st = u) (fun u => cB D ct A (TW ct ad tl u)) A) (by decide) hG (Nat.le_of_ble_eq_true rfl) (fun p e s m args below meth c A K hr _ _ => kX5_worthAt_0 K hr hgl x1 st (vcX5_worthAt x1 st hp))
