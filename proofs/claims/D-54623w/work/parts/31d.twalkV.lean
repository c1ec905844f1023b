/-! WALKS and CONTRACTS of Rules and Table (V), printed by gen_table.py -/
theorem gwU5_68 : GoodIn lw_all (va_wsU RX5 68 RX5 RX4 ⟨RX5, "next", "(I)I"⟩ yX4_next (ws_ yX4_next cX4_next 2 (some .int))) := lw_U q487 q488 q490 q491 q87 q492
theorem gdU5_68 : RX4 ≠ "java/lang/invoke/MethodHandle" ∧ RX4 ≠ "java/lang/invoke/VarHandle" ∧ (parseMethodDescriptor (⟨RX5, "next", "(I)I"⟩ : MethodName).desc).map (fun d => d.parameters.length) = some 1 := by decide +kernel
theorem gw5_74 : GoodIn lw_all (wsV RX5 74 RX5 yX5_behind (ws_ yX5_behind cX5_behind 5 (some .int))) := lw_V q493 q494 q495 q88 q496
theorem gd5_74 : yX5_behind.cls = RX5 ∧ yX5_behind.cls ≠ "java/lang/invoke/MethodHandle" ∧ yX5_behind.cls ≠ "java/lang/invoke/VarHandle" ∧ (parseMethodDescriptor yX5_behind.desc).map (fun d => d.parameters.length) = some 4 := by decide +kernel
theorem gw5_85 : GoodIn lw_all (wsV RX5 85 RX5 yX5_greatest (ws_ yX5_greatest cX5_greatest 9 (some .int))) := lw_V q483 q485 qs17 q88 q486
theorem gd5_85 : yX5_greatest.cls = RX5 ∧ yX5_greatest.cls ≠ "java/lang/invoke/MethodHandle" ∧ yX5_greatest.cls ≠ "java/lang/invoke/VarHandle" ∧ (parseMethodDescriptor yX5_greatest.desc).map (fun d => d.parameters.length) = some 3 := by decide +kernel
theorem gwU5_88 : GoodIn lw_all (va_wsU RX5 88 RX5 RX4 ⟨RX5, "isLocked", "(II)Z"⟩ yX4_isLocked (ws_ yX4_isLocked cX4_isLocked 5 (some .boolean))) := lw_U q505 q506 q508 q451 q87 q454
theorem gdU5_88 : RX4 ≠ "java/lang/invoke/MethodHandle" ∧ RX4 ≠ "java/lang/invoke/VarHandle" ∧ (parseMethodDescriptor (⟨RX5, "isLocked", "(II)Z"⟩ : MethodName).desc).map (fun d => d.parameters.length) = some 2 := by decide +kernel
-- X5_greatest
theorem kX5_greatest_123 {p : Program} {l : Launch} {e : Env} {s : State} {m : MethodId} {args : Array Value} {below : List Frame} {meth : Method} {c : Code} {A : Nat → Prop} {D : va_G} {ct : Nat → ClassId} {ad : Nat → Nat} {tl : va_W} {G : gE} {t : Nat} {post : Int32 → MS → Prop} (K : CX p s m args meth c cX5_greatest 9 RX5 A D ct G) (hr : meth.sig.returnType = (some .int)) (hgl : gHas G t)   (x6 : Int32) (st : MS) (h : wX5_greatest_123 post  x6 st) : jJ p l e { frames := 3, cells := 0, slots := 0, locals := 70 } s m args below meth c (MQ below (va_Qi post (fun u => cB D ct A (TW ct ad tl u)) A) args s 0 0 A) A D 9 (TW ct ad tl st) 0 0 123 [(6, .int x6)] [] := by
  unfold wX5_greatest_123 at h
  refine j_iload K 0 dX5_greatest_123 rfl ?_
  exact j_iret st K hr rfl h (Nat.le_of_ble_eq_true rfl) (Nat.le_of_ble_eq_true rfl) dX5_greatest_125
theorem kX5_greatest_117 {p : Program} {l : Launch} {e : Env} {s : State} {m : MethodId} {args : Array Value} {below : List Frame} {meth : Method} {c : Code} {A : Nat → Prop} {D : va_G} {ct : Nat → ClassId} {ad : Nat → Nat} {tl : va_W} {G : gE} {t : Nat} {post : Int32 → MS → Prop} (K : CX p s m args meth c cX5_greatest 9 RX5 A D ct G) (hr : meth.sig.returnType = (some .int)) (hgl : gHas G t) (L46 : Int32 → Int32 → Int32 → Int32 → Int32 → Int32 → MS → Prop) (hL46 : ∀ (x1 : Int32) (x2 : Int32) (x3 : Int32) (x5 : Int32) (x6 : Int32) (x7 : Int32) (st : MS), L46 x1 x2 x3 x5 x6 x7 st → jJ p l e { frames := 3, cells := 0, slots := 0, locals := 70 } s m args below meth c (MQ below (va_Qi post (fun u => cB D ct A (TW ct ad tl u)) A) args s 0 0 A) A D 9 (TW ct ad tl st) 0 0 46 [(0, .ref (ad 0)), (1, .int x1), (2, .int x2), (3, .int x3), (5, .int x5), (6, .int x6), (7, .int x7)] []) (x1 : Int32) (x2 : Int32) (x3 : Int32) (x5 : Int32) (x6 : Int32) (x7 : Int32) (st : MS) (h : wX5_greatest_117 post L46 x1 x2 x3 x5 x6 x7 st) : jJ p l e { frames := 3, cells := 0, slots := 0, locals := 70 } s m args below meth c (MQ below (va_Qi post (fun u => cB D ct A (TW ct ad tl u)) A) args s 0 0 A) A D 9 (TW ct ad tl st) 0 0 117 [(0, .ref (ad 0)), (1, .int x1), (2, .int x2), (3, .int x3), (5, .int x5), (6, .int x6), (7, .int x7)] [] := by
  unfold wX5_greatest_117 at h
  refine j_iinc K 6 (x7 + (1 : Int32)) [(7, .int (x7 + (1 : Int32))), (0, .ref (ad 0)), (1, .int x1), (2, .int x2), (3, .int x3), (5, .int x5), (6, .int x6)] dX5_greatest_117 rfl rfl (by decide) rfl ?_
  refine j_goto K 46 dX5_greatest_120 (by decide) ?_
  refine j_lv K [1, 2, 3, 4, 5, 6, 0] (lv' := [(0, .ref (ad 0)), (1, .int x1), (2, .int x2), (3, .int x3), (5, .int x5), (6, .int x6), (7, .int (x7 + (1 : Int32)))]) rfl ?_
  exact hL46 x1 x2 x3 x5 x6 (x7 + (1 : Int32)) st h
theorem kX5_greatest_83 {p : Program} {l : Launch} {e : Env} {s : State} {m : MethodId} {args : Array Value} {below : List Frame} {meth : Method} {c : Code} {A : Nat → Prop} {D : va_G} {ct : Nat → ClassId} {ad : Nat → Nat} {tl : va_W} {G : gE} {t : Nat} {post : Int32 → MS → Prop} (K : CX p s m args meth c cX5_greatest 9 RX5 A D ct G) (hr : meth.sig.returnType = (some .int)) (hgl : gHas G t) (L46 : Int32 → Int32 → Int32 → Int32 → Int32 → Int32 → MS → Prop) (hL46 : ∀ (x1 : Int32) (x2 : Int32) (x3 : Int32) (x5 : Int32) (x6 : Int32) (x7 : Int32) (st : MS), L46 x1 x2 x3 x5 x6 x7 st → jJ p l e { frames := 3, cells := 0, slots := 0, locals := 70 } s m args below meth c (MQ below (va_Qi post (fun u => cB D ct A (TW ct ad tl u)) A) args s 0 0 A) A D 9 (TW ct ad tl st) 0 0 46 [(0, .ref (ad 0)), (1, .int x1), (2, .int x2), (3, .int x3), (5, .int x5), (6, .int x6), (7, .int x7)] []) (x1 : Int32) (x2 : Int32) (x3 : Int32) (x5 : Int32) (x6 : Int32) (x7 : Int32) (s0 : Int32) (st : MS) (h : wX5_greatest_83 post L46 x1 x2 x3 x5 x6 x7 s0 st) : jJ p l e { frames := 3, cells := 0, slots := 0, locals := 70 } s m args below meth c (MQ below (va_Qi post (fun u => cB D ct A (TW ct ad tl u)) A) args s 0 0 A) A D 9 (TW ct ad tl st) 0 0 83 [(0, .ref (ad 0)), (1, .int x1), (2, .int x2), (3, .int x3), (5, .int x5), (6, .int x6), (7, .int x7)] [.int s0] := by
  unfold wX5_greatest_83 at h
  refine j_istore K [(8, .int s0), (0, .ref (ad 0)), (1, .int x1), (2, .int x2), (3, .int x3), (5, .int x5), (6, .int x6), (7, .int x7)] dX5_greatest_83 (by decide) rfl ?_
  refine j_iload K 6 dX5_greatest_85 rfl ?_
  refine j_aload_n K 1 dX5_greatest_87 rfl rfl ?_
  refine j_aload_n K 1 dX5_greatest_88 rfl rfl ?_
  refine j_iload_n K 2 dX5_greatest_89 rfl rfl ?_
  obtain ⟨hp, h⟩ := h
  refine j_callVi K (As := [.int x1]) (rest := [.ref (ad 0), .int x6]) (ctX5_first (l := l) (D := D) (ct := ct) (ad := ad) (tl := tl) (G := G) (t := t) K.2.2.2.2.2.2.2.2.2 hgl x1 st hp) gw5_62 gd5_62 ⟨Nat.le_of_ble_eq_true rfl, Nat.le_of_ble_eq_true rfl⟩ 0 rfl rfl rfl rfl rfl (Nat.le_of_ble_eq_true rfl) dX5_greatest_90 ⟨Nat.le_of_ble_eq_true rfl, Nat.le_of_ble_eq_true rfl⟩ (fun r_1 st_2 hq => ?_)
  obtain ⟨hq, rfl⟩ := hq
  replace h := h r_1 hq
  refine j_aload_n K 1 dX5_greatest_93 rfl rfl ?_
  refine j_iload_n K 2 dX5_greatest_94 rfl rfl ?_
  obtain ⟨hp, h⟩ := h
  refine j_callVi K (As := [.int x1]) (rest := [.int r_1, .ref (ad 0), .int x6]) (ctX5_second (l := l) (D := D) (ct := ct) (ad := ad) (tl := tl) (G := G) (t := t) K.2.2.2.2.2.2.2.2.2 hgl x1 st hp) gw5_65 gd5_65 ⟨Nat.le_of_ble_eq_true rfl, Nat.le_of_ble_eq_true rfl⟩ 0 rfl rfl rfl rfl rfl (Nat.le_of_ble_eq_true rfl) dX5_greatest_95 ⟨Nat.le_of_ble_eq_true rfl, Nat.le_of_ble_eq_true rfl⟩ (fun r_3 st_4 hq => ?_)
  obtain ⟨hq, rfl⟩ := hq
  replace h := h r_3 hq
  refine j_aload_n K 1 dX5_greatest_98 rfl rfl ?_
  refine j_iload_n K 2 dX5_greatest_99 rfl rfl ?_
  obtain ⟨hp, h⟩ := h
  refine j_callVi K (As := [.int x1]) (rest := [.int r_3, .int r_1, .ref (ad 0), .int x6]) (ctX5_mover (l := l) (D := D) (ct := ct) (ad := ad) (tl := tl) (G := G) (t := t) K.2.2.2.2.2.2.2.2.2 hgl x1 st hp) gw5_71 gd5_71 ⟨Nat.le_of_ble_eq_true rfl, Nat.le_of_ble_eq_true rfl⟩ 0 rfl rfl rfl rfl rfl (Nat.le_of_ble_eq_true rfl) dX5_greatest_100 ⟨Nat.le_of_ble_eq_true rfl, Nat.le_of_ble_eq_true rfl⟩ (fun r_5 st_6 hq => ?_)
  obtain ⟨hq, rfl⟩ := hq
  replace h := h r_5 hq
  refine j_iload K 0 dX5_greatest_103 rfl ?_
  obtain ⟨hp, h⟩ := h
  refine j_callVi K (As := [.int r_1, .int r_3, .int r_5, .int s0]) (rest := [.int x6]) (ctX5_behind (l := l) (D := D) (ct := ct) (ad := ad) (tl := tl) (G := G) (t := t) K.2.2.2.2.2.2.2.2.2 hgl r_1 r_3 r_5 s0 st hp) gw5_74 gd5_74 ⟨Nat.le_of_ble_eq_true rfl, Nat.le_of_ble_eq_true rfl⟩ 0 rfl rfl rfl rfl rfl (Nat.le_of_ble_eq_true rfl) dX5_greatest_105 ⟨Nat.le_of_ble_eq_true rfl, Nat.le_of_ble_eq_true rfl⟩ (fun r_7 st_8 hq => ?_)
  obtain ⟨hq, rfl⟩ := hq
  replace h := h r_7 hq
  refine j_iload_n K 4 dX5_greatest_108 rfl rfl ?_
  refine j_callSi K (As := [.int r_7, .int x3]) (rest := [.int x6]) (ctX5_rank (l := l) (D := D) (ct := ct) (G := G) (ws := (TW ct ad tl st)) K.2.2.2.2.2.2.2.2.2 r_7 x3) (lw_S q501 q502 q88 q503) (n := 2) (by decide +kernel) ⟨Nat.le_of_ble_eq_true rfl, Nat.le_of_ble_eq_true rfl⟩ rfl rfl (Nat.le_of_ble_eq_true rfl) dX5_greatest_109 ⟨Nat.le_of_ble_eq_true rfl, Nat.le_of_ble_eq_true rfl⟩ (fun r_9 _ hq => ?_)
  replace h := h r_9 hq
  refine j_callSi K (As := [.int x6, .int r_9]) (rest := []) (ctJ4_max (l := l) (D := D) (ct := ct) (G := G) (ws := (TW ct ad tl st)) K.2.2.2.2.2.2.2.2.2 x6 r_9) (lw_S q504 q161 q76 q162) (n := 2) (by decide +kernel) ⟨Nat.le_of_ble_eq_true rfl, Nat.le_of_ble_eq_true rfl⟩ rfl rfl (Nat.le_of_ble_eq_true rfl) dX5_greatest_112 ⟨Nat.le_of_ble_eq_true rfl, Nat.le_of_ble_eq_true rfl⟩ (fun r_10 _ hq => ?_)
  replace h := h r_10 hq
  refine j_istore K [(6, .int r_10), (8, .int s0), (0, .ref (ad 0)), (1, .int x1), (2, .int x2), (3, .int x3), (5, .int x5), (7, .int x7)] dX5_greatest_115 (by decide) rfl ?_
  refine j_lv K [2, 3, 4, 5, 6, 0, 7] (lv' := [(0, .ref (ad 0)), (1, .int x1), (2, .int x2), (3, .int x3), (5, .int x5), (6, .int r_10), (7, .int x7)]) rfl ?_
  exact kX5_greatest_117 K hr hgl L46 hL46 x1 x2 x3 x5 r_10 x7 st h
theorem kX5_greatest_73 {p : Program} {l : Launch} {e : Env} {s : State} {m : MethodId} {args : Array Value} {below : List Frame} {meth : Method} {c : Code} {A : Nat → Prop} {D : va_G} {ct : Nat → ClassId} {ad : Nat → Nat} {tl : va_W} {G : gE} {t : Nat} {post : Int32 → MS → Prop} (K : CX p s m args meth c cX5_greatest 9 RX5 A D ct G) (hr : meth.sig.returnType = (some .int)) (hgl : gHas G t) (L46 : Int32 → Int32 → Int32 → Int32 → Int32 → Int32 → MS → Prop) (hL46 : ∀ (x1 : Int32) (x2 : Int32) (x3 : Int32) (x5 : Int32) (x6 : Int32) (x7 : Int32) (st : MS), L46 x1 x2 x3 x5 x6 x7 st → jJ p l e { frames := 3, cells := 0, slots := 0, locals := 70 } s m args below meth c (MQ below (va_Qi post (fun u => cB D ct A (TW ct ad tl u)) A) args s 0 0 A) A D 9 (TW ct ad tl st) 0 0 46 [(0, .ref (ad 0)), (1, .int x1), (2, .int x2), (3, .int x3), (5, .int x5), (6, .int x6), (7, .int x7)] []) (x1 : Int32) (x2 : Int32) (x3 : Int32) (x5 : Int32) (x6 : Int32) (x7 : Int32) (st : MS) (h : wX5_greatest_73 post L46 x1 x2 x3 x5 x6 x7 st) : jJ p l e { frames := 3, cells := 0, slots := 0, locals := 70 } s m args below meth c (MQ below (va_Qi post (fun u => cB D ct A (TW ct ad tl u)) A) args s 0 0 A) A D 9 (TW ct ad tl st) 0 0 73 [(0, .ref (ad 0)), (1, .int x1), (2, .int x2), (3, .int x3), (5, .int x5), (6, .int x6), (7, .int x7)] [] := by
  unfold wX5_greatest_73 at h
  refine j_bipush K (9 : Int32) dX5_greatest_73 (by decide) ?_
  refine j_bipush K (9 : Int32) dX5_greatest_75 (by decide) ?_
  refine j_iload_n K 2 dX5_greatest_77 rfl rfl ?_
  refine j_imul K dX5_greatest_78 ?_
  refine j_iadd K dX5_greatest_79 ?_
  refine j_iload K 6 dX5_greatest_80 rfl ?_
  refine j_iadd K dX5_greatest_82 ?_
  exact kX5_greatest_83 K hr hgl L46 hL46 x1 x2 x3 x5 x6 x7 (((9 : Int32) + ((9 : Int32) * x2)) + x7) st h
theorem kX5_greatest_68 {p : Program} {l : Launch} {e : Env} {s : State} {m : MethodId} {args : Array Value} {below : List Frame} {meth : Method} {c : Code} {A : Nat → Prop} {D : va_G} {ct : Nat → ClassId} {ad : Nat → Nat} {tl : va_W} {G : gE} {t : Nat} {post : Int32 → MS → Prop} (K : CX p s m args meth c cX5_greatest 9 RX5 A D ct G) (hr : meth.sig.returnType = (some .int)) (hgl : gHas G t) (L46 : Int32 → Int32 → Int32 → Int32 → Int32 → Int32 → MS → Prop) (hL46 : ∀ (x1 : Int32) (x2 : Int32) (x3 : Int32) (x5 : Int32) (x6 : Int32) (x7 : Int32) (st : MS), L46 x1 x2 x3 x5 x6 x7 st → jJ p l e { frames := 3, cells := 0, slots := 0, locals := 70 } s m args below meth c (MQ below (va_Qi post (fun u => cB D ct A (TW ct ad tl u)) A) args s 0 0 A) A D 9 (TW ct ad tl st) 0 0 46 [(0, .ref (ad 0)), (1, .int x1), (2, .int x2), (3, .int x3), (5, .int x5), (6, .int x6), (7, .int x7)] []) (x1 : Int32) (x2 : Int32) (x3 : Int32) (x5 : Int32) (x6 : Int32) (x7 : Int32) (st : MS) (h : wX5_greatest_68 post L46 x1 x2 x3 x5 x6 x7 st) : jJ p l e { frames := 3, cells := 0, slots := 0, locals := 70 } s m args below meth c (MQ below (va_Qi post (fun u => cB D ct A (TW ct ad tl u)) A) args s 0 0 A) A D 9 (TW ct ad tl st) 0 0 68 [(0, .ref (ad 0)), (1, .int x1), (2, .int x2), (3, .int x3), (5, .int x5), (6, .int x6), (7, .int x7)] [] := by
  unfold wX5_greatest_68 at h
  refine j_iload K 6 dX5_greatest_68 rfl ?_
  refine j_goto K 83 dX5_greatest_70 (by decide) ?_
  exact kX5_greatest_83 K hr hgl L46 hL46 x1 x2 x3 x5 x6 x7 x7 st h
theorem kX5_greatest_64 {p : Program} {l : Launch} {e : Env} {s : State} {m : MethodId} {args : Array Value} {below : List Frame} {meth : Method} {c : Code} {A : Nat → Prop} {D : va_G} {ct : Nat → ClassId} {ad : Nat → Nat} {tl : va_W} {G : gE} {t : Nat} {post : Int32 → MS → Prop} (K : CX p s m args meth c cX5_greatest 9 RX5 A D ct G) (hr : meth.sig.returnType = (some .int)) (hgl : gHas G t) (L46 : Int32 → Int32 → Int32 → Int32 → Int32 → Int32 → MS → Prop) (hL46 : ∀ (x1 : Int32) (x2 : Int32) (x3 : Int32) (x5 : Int32) (x6 : Int32) (x7 : Int32) (st : MS), L46 x1 x2 x3 x5 x6 x7 st → jJ p l e { frames := 3, cells := 0, slots := 0, locals := 70 } s m args below meth c (MQ below (va_Qi post (fun u => cB D ct A (TW ct ad tl u)) A) args s 0 0 A) A D 9 (TW ct ad tl st) 0 0 46 [(0, .ref (ad 0)), (1, .int x1), (2, .int x2), (3, .int x3), (5, .int x5), (6, .int x6), (7, .int x7)] []) (x1 : Int32) (x2 : Int32) (x3 : Int32) (x5 : Int32) (x6 : Int32) (x7 : Int32) (st : MS) (h : wX5_greatest_64 post L46 x1 x2 x3 x5 x6 x7 st) : jJ p l e { frames := 3, cells := 0, slots := 0, locals := 70 } s m args below meth c (MQ below (va_Qi post (fun u => cB D ct A (TW ct ad tl u)) A) args s 0 0 A) A D 9 (TW ct ad tl st) 0 0 64 [(0, .ref (ad 0)), (1, .int x1), (2, .int x2), (3, .int x3), (5, .int x5), (6, .int x6), (7, .int x7)] [] := by
  unfold wX5_greatest_64 at h
  refine j_iload_n K 2 dX5_greatest_64 rfl rfl ?_
  refine j_if_ge K 73 dX5_greatest_65 (by decide) (fun hc => ?_) (fun hc => ?_)
  · exact kX5_greatest_73 K hr hgl L46 hL46 x1 x2 x3 x5 x6 x7 st (h.1 hc)
  · exact kX5_greatest_68 K hr hgl L46 hL46 x1 x2 x3 x5 x6 x7 st (h.2 hc)
theorem kX5_greatest_53 {p : Program} {l : Launch} {e : Env} {s : State} {m : MethodId} {args : Array Value} {below : List Frame} {meth : Method} {c : Code} {A : Nat → Prop} {D : va_G} {ct : Nat → ClassId} {ad : Nat → Nat} {tl : va_W} {G : gE} {t : Nat} {post : Int32 → MS → Prop} (K : CX p s m args meth c cX5_greatest 9 RX5 A D ct G) (hr : meth.sig.returnType = (some .int)) (hgl : gHas G t) (L46 : Int32 → Int32 → Int32 → Int32 → Int32 → Int32 → MS → Prop) (hL46 : ∀ (x1 : Int32) (x2 : Int32) (x3 : Int32) (x5 : Int32) (x6 : Int32) (x7 : Int32) (st : MS), L46 x1 x2 x3 x5 x6 x7 st → jJ p l e { frames := 3, cells := 0, slots := 0, locals := 70 } s m args below meth c (MQ below (va_Qi post (fun u => cB D ct A (TW ct ad tl u)) A) args s 0 0 A) A D 9 (TW ct ad tl st) 0 0 46 [(0, .ref (ad 0)), (1, .int x1), (2, .int x2), (3, .int x3), (5, .int x5), (6, .int x6), (7, .int x7)] []) (x1 : Int32) (x2 : Int32) (x3 : Int32) (x5 : Int32) (x6 : Int32) (x7 : Int32) (st : MS) (h : wX5_greatest_53 post L46 x1 x2 x3 x5 x6 x7 st) : jJ p l e { frames := 3, cells := 0, slots := 0, locals := 70 } s m args below meth c (MQ below (va_Qi post (fun u => cB D ct A (TW ct ad tl u)) A) args s 0 0 A) A D 9 (TW ct ad tl st) 0 0 53 [(0, .ref (ad 0)), (1, .int x1), (2, .int x2), (3, .int x3), (5, .int x5), (6, .int x6), (7, .int x7)] [] := by
  unfold wX5_greatest_53 at h
  refine j_iload K 4 dX5_greatest_53 rfl ?_
  refine j_iload K 6 dX5_greatest_55 rfl ?_
  refine j_ishr K dX5_greatest_57 ?_
  refine j_iconst K (1 : Int32) dX5_greatest_58 (by decide) ?_
  refine j_iand K dX5_greatest_59 ?_
  refine j_iconst K (1 : Int32) dX5_greatest_60 (by decide) ?_
  refine j_icmp_ne K 117 dX5_greatest_61 (by decide) (fun hc => ?_) (fun hc => ?_)
  · exact kX5_greatest_117 K hr hgl L46 hL46 x1 x2 x3 x5 x6 x7 st (h.1 hc)
  · exact kX5_greatest_64 K hr hgl L46 hL46 x1 x2 x3 x5 x6 x7 st (h.2 hc)
theorem kX5_greatest_46_b {p : Program} {l : Launch} {e : Env} {s : State} {m : MethodId} {args : Array Value} {below : List Frame} {meth : Method} {c : Code} {A : Nat → Prop} {D : va_G} {ct : Nat → ClassId} {ad : Nat → Nat} {tl : va_W} {G : gE} {t : Nat} {post : Int32 → MS → Prop} (K : CX p s m args meth c cX5_greatest 9 RX5 A D ct G) (hr : meth.sig.returnType = (some .int)) (hgl : gHas G t) (L46 : Int32 → Int32 → Int32 → Int32 → Int32 → Int32 → MS → Prop) (hL46 : ∀ (x1 : Int32) (x2 : Int32) (x3 : Int32) (x5 : Int32) (x6 : Int32) (x7 : Int32) (st : MS), L46 x1 x2 x3 x5 x6 x7 st → jJ p l e { frames := 3, cells := 0, slots := 0, locals := 70 } s m args below meth c (MQ below (va_Qi post (fun u => cB D ct A (TW ct ad tl u)) A) args s 0 0 A) A D 9 (TW ct ad tl st) 0 0 46 [(0, .ref (ad 0)), (1, .int x1), (2, .int x2), (3, .int x3), (5, .int x5), (6, .int x6), (7, .int x7)] []) (x1 : Int32) (x2 : Int32) (x3 : Int32) (x5 : Int32) (x6 : Int32) (x7 : Int32) (st : MS) (h : wX5_greatest_46_b post L46 x1 x2 x3 x5 x6 x7 st) : jJ p l e { frames := 3, cells := 0, slots := 0, locals := 70 } s m args below meth c (MQ below (va_Qi post (fun u => cB D ct A (TW ct ad tl u)) A) args s 0 0 A) A D 9 (TW ct ad tl st) 0 0 46 [(0, .ref (ad 0)), (1, .int x1), (2, .int x2), (3, .int x3), (5, .int x5), (6, .int x6), (7, .int x7)] [] := by
  unfold wX5_greatest_46_b at h
  refine j_iload K 6 dX5_greatest_46 rfl ?_
  refine j_bipush K (9 : Int32) dX5_greatest_48 (by decide) ?_
  refine j_icmp_ge K 123 dX5_greatest_50 (by decide) (fun hc => ?_) (fun hc => ?_)
  · refine j_lv K [5] (lv' := [(6, .int x6)]) rfl ?_
    exact kX5_greatest_123 K hr hgl  x6 st (h.1 hc)
  · exact kX5_greatest_53 K hr hgl L46 hL46 x1 x2 x3 x5 x6 x7 st (h.2 hc)
theorem kX5_greatest_46 {p : Program} {l : Launch} {e : Env} {s : State} {m : MethodId} {args : Array Value} {below : List Frame} {meth : Method} {c : Code} {A : Nat → Prop} {D : va_G} {ct : Nat → ClassId} {ad : Nat → Nat} {tl : va_W} {G : gE} {t : Nat} {post : Int32 → MS → Prop} (K : CX p s m args meth c cX5_greatest 9 RX5 A D ct G) (hr : meth.sig.returnType = (some .int)) (hgl : gHas G t)   (x1 : Int32) (x2 : Int32) (x3 : Int32) (x5 : Int32) (x6 : Int32) (x7 : Int32) (st : MS) (h : wX5_greatest_46 post  x1 x2 x3 x5 x6 x7 st) : jJ p l e { frames := 3, cells := 0, slots := 0, locals := 70 } s m args below meth c (MQ below (va_Qi post (fun u => cB D ct A (TW ct ad tl u)) A) args s 0 0 A) A D 9 (TW ct ad tl st) 0 0 46 [(0, .ref (ad 0)), (1, .int x1), (2, .int x2), (3, .int x3), (5, .int x5), (6, .int x6), (7, .int x7)] [] :=
  wloop_sound (V := Int32 × Int32 × Int32 × Int32 × Int32 × Int32 × MS) (Wk := fun v => jJ p l e { frames := 3, cells := 0, slots := 0, locals := 70 } s m args below meth c (MQ below (va_Qi post (fun u => cB D ct A (TW ct ad tl u)) A) args s 0 0 A) A D 9 (TW ct ad tl v.2.2.2.2.2.2) 0 0 46 [(0, .ref (ad 0)), (1, .int v.1), (2, .int v.2.1), (3, .int v.2.2.1), (5, .int v.2.2.2.1), (6, .int v.2.2.2.2.1), (7, .int v.2.2.2.2.2.1)] []) (fun L hL v hb => kX5_greatest_46_b K hr hgl (fun x1 x2 x3 x5 x6 x7 st => L (x1, x2, x3, x5, x6, x7, st)) (fun x1 x2 x3 x5 x6 x7 st hx => hL (x1, x2, x3, x5, x6, x7, st) hx) v.1 v.2.1 v.2.2.1 v.2.2.2.1 v.2.2.2.2.1 v.2.2.2.2.2.1 v.2.2.2.2.2.2 hb) h
theorem kX5_greatest_38 {p : Program} {l : Launch} {e : Env} {s : State} {m : MethodId} {args : Array Value} {below : List Frame} {meth : Method} {c : Code} {A : Nat → Prop} {D : va_G} {ct : Nat → ClassId} {ad : Nat → Nat} {tl : va_W} {G : gE} {t : Nat} {post : Int32 → MS → Prop} (K : CX p s m args meth c cX5_greatest 9 RX5 A D ct G) (hr : meth.sig.returnType = (some .int)) (hgl : gHas G t)   (x1 : Int32) (x2 : Int32) (x3 : Int32) (s0 : Int32) (st : MS) (h : wX5_greatest_38 post  x1 x2 x3 s0 st) : jJ p l e { frames := 3, cells := 0, slots := 0, locals := 70 } s m args below meth c (MQ below (va_Qi post (fun u => cB D ct A (TW ct ad tl u)) A) args s 0 0 A) A D 9 (TW ct ad tl st) 0 0 38 [(0, .ref (ad 0)), (1, .int x1), (2, .int x2), (3, .int x3)] [.int s0] := by
  unfold wX5_greatest_38 at h
  refine j_istore K [(5, .int s0), (0, .ref (ad 0)), (1, .int x1), (2, .int x2), (3, .int x3)] dX5_greatest_38 (by decide) rfl ?_
  refine j_iconst K (0 : Int32) dX5_greatest_40 (by decide) ?_
  refine j_istore K [(6, .int (0 : Int32)), (5, .int s0), (0, .ref (ad 0)), (1, .int x1), (2, .int x2), (3, .int x3)] dX5_greatest_41 (by decide) rfl ?_
  refine j_iconst K (0 : Int32) dX5_greatest_43 (by decide) ?_
  refine j_istore K [(7, .int (0 : Int32)), (6, .int (0 : Int32)), (5, .int s0), (0, .ref (ad 0)), (1, .int x1), (2, .int x2), (3, .int x3)] dX5_greatest_44 (by decide) rfl ?_
  refine j_lv K [3, 4, 5, 6, 2, 1, 0] (lv' := [(0, .ref (ad 0)), (1, .int x1), (2, .int x2), (3, .int x3), (5, .int s0), (6, .int (0 : Int32)), (7, .int (0 : Int32))]) rfl ?_
  exact kX5_greatest_46 K hr hgl  x1 x2 x3 s0 (0 : Int32) (0 : Int32) st h
theorem kX5_greatest_30 {p : Program} {l : Launch} {e : Env} {s : State} {m : MethodId} {args : Array Value} {below : List Frame} {meth : Method} {c : Code} {A : Nat → Prop} {D : va_G} {ct : Nat → ClassId} {ad : Nat → Nat} {tl : va_W} {G : gE} {t : Nat} {post : Int32 → MS → Prop} (K : CX p s m args meth c cX5_greatest 9 RX5 A D ct G) (hr : meth.sig.returnType = (some .int)) (hgl : gHas G t)   (x1 : Int32) (x2 : Int32) (x3 : Int32) (x4 : Int32) (st : MS) (h : wX5_greatest_30 post  x1 x2 x3 x4 st) : jJ p l e { frames := 3, cells := 0, slots := 0, locals := 70 } s m args below meth c (MQ below (va_Qi post (fun u => cB D ct A (TW ct ad tl u)) A) args s 0 0 A) A D 9 (TW ct ad tl st) 0 0 30 [(0, .ref (ad 0)), (1, .int x1), (2, .int x2), (3, .int x3), (4, .int x4)] [] := by
  unfold wX5_greatest_30 at h
  refine j_aload_n K 0 dX5_greatest_30 rfl rfl ?_
  refine j_iload_n K 2 dX5_greatest_31 rfl rfl ?_
  obtain ⟨hp, h⟩ := h
  refine j_callUi K (As := [.int x2]) (rest := []) (ctX4_next (l := l) (D := D) (ct := ct) (ad := ad) (tl := tl) (G := G) (t := t) K.2.2.2.2.2.2.2.2.2 hgl x2 st hp) gwU5_68 rfl gdU5_68 ⟨Nat.le_of_ble_eq_true rfl, Nat.le_of_ble_eq_true rfl⟩ 0 rfl rfl rfl rfl rfl (Nat.le_of_ble_eq_true rfl) dX5_greatest_32 ⟨Nat.le_of_ble_eq_true rfl, Nat.le_of_ble_eq_true rfl⟩ (fun r_1 st_2 hq => ?_)
  obtain ⟨hq, rfl⟩ := hq
  replace h := h r_1 hq
  refine j_iload K 4 dX5_greatest_35 rfl ?_
  refine j_iand K dX5_greatest_37 ?_
  refine j_lv K [0, 1, 2, 3] (lv' := [(0, .ref (ad 0)), (1, .int x1), (2, .int x2), (3, .int x3)]) rfl ?_
  exact kX5_greatest_38 K hr hgl  x1 x2 x3 (r_1 &&& x4) st h
theorem kX5_greatest_25 {p : Program} {l : Launch} {e : Env} {s : State} {m : MethodId} {args : Array Value} {below : List Frame} {meth : Method} {c : Code} {A : Nat → Prop} {D : va_G} {ct : Nat → ClassId} {ad : Nat → Nat} {tl : va_W} {G : gE} {t : Nat} {post : Int32 → MS → Prop} (K : CX p s m args meth c cX5_greatest 9 RX5 A D ct G) (hr : meth.sig.returnType = (some .int)) (hgl : gHas G t)   (x1 : Int32) (x2 : Int32) (x3 : Int32) (x4 : Int32) (st : MS) (h : wX5_greatest_25 post  x1 x2 x3 x4 st) : jJ p l e { frames := 3, cells := 0, slots := 0, locals := 70 } s m args below meth c (MQ below (va_Qi post (fun u => cB D ct A (TW ct ad tl u)) A) args s 0 0 A) A D 9 (TW ct ad tl st) 0 0 25 [(0, .ref (ad 0)), (1, .int x1), (2, .int x2), (3, .int x3), (4, .int x4)] [] := by
  unfold wX5_greatest_25 at h
  refine j_iload K 4 dX5_greatest_25 rfl ?_
  refine j_goto K 38 dX5_greatest_27 (by decide) ?_
  refine j_lv K [0, 1, 2, 3] (lv' := [(0, .ref (ad 0)), (1, .int x1), (2, .int x2), (3, .int x3)]) rfl ?_
  exact kX5_greatest_38 K hr hgl  x1 x2 x3 x4 st h
theorem kX5_greatest_0 {p : Program} {l : Launch} {e : Env} {s : State} {m : MethodId} {args : Array Value} {below : List Frame} {meth : Method} {c : Code} {A : Nat → Prop} {D : va_G} {ct : Nat → ClassId} {ad : Nat → Nat} {tl : va_W} {G : gE} {t : Nat} {post : Int32 → MS → Prop} (K : CX p s m args meth c cX5_greatest 9 RX5 A D ct G) (hr : meth.sig.returnType = (some .int)) (hgl : gHas G t)   (x1 : Int32) (x2 : Int32) (x3 : Int32) (st : MS) (h : wX5_greatest_0 post  x1 x2 x3 st) : jJ p l e { frames := 3, cells := 0, slots := 0, locals := 70 } s m args below meth c (MQ below (va_Qi post (fun u => cB D ct A (TW ct ad tl u)) A) args s 0 0 A) A D 9 (TW ct ad tl st) 0 0 0 [(0, .ref (ad 0)), (1, .int x1), (2, .int x2), (3, .int x3)] [] := by
  unfold wX5_greatest_0 at h
  refine j_sipush K (511 : Int32) dX5_greatest_0 (by decide) ?_
  refine j_aload_n K 0 dX5_greatest_3 rfl rfl ?_
  refine j_iload_n K 1 dX5_greatest_4 rfl rfl ?_
  obtain ⟨hp, h⟩ := h
  refine j_callVi K (As := [.int x1]) (rest := [.int (511 : Int32)]) (ctX5_first (l := l) (D := D) (ct := ct) (ad := ad) (tl := tl) (G := G) (t := t) K.2.2.2.2.2.2.2.2.2 hgl x1 st hp) gw5_62 gd5_62 ⟨Nat.le_of_ble_eq_true rfl, Nat.le_of_ble_eq_true rfl⟩ 0 rfl rfl rfl rfl rfl (Nat.le_of_ble_eq_true rfl) dX5_greatest_5 ⟨Nat.le_of_ble_eq_true rfl, Nat.le_of_ble_eq_true rfl⟩ (fun r_1 st_2 hq => ?_)
  obtain ⟨hq, rfl⟩ := hq
  replace h := h r_1 hq
  refine j_iconst K (-1 : Int32) dX5_greatest_8 (by decide) ?_
  refine j_ixor K dX5_greatest_9 ?_
  refine j_iand K dX5_greatest_10 ?_
  refine j_aload_n K 0 dX5_greatest_11 rfl rfl ?_
  refine j_iload_n K 1 dX5_greatest_12 rfl rfl ?_
  obtain ⟨hp, h⟩ := h
  refine j_callVi K (As := [.int x1]) (rest := [.int ((511 : Int32) &&& (r_1 ^^^ (-1 : Int32)))]) (ctX5_second (l := l) (D := D) (ct := ct) (ad := ad) (tl := tl) (G := G) (t := t) K.2.2.2.2.2.2.2.2.2 hgl x1 st hp) gw5_65 gd5_65 ⟨Nat.le_of_ble_eq_true rfl, Nat.le_of_ble_eq_true rfl⟩ 0 rfl rfl rfl rfl rfl (Nat.le_of_ble_eq_true rfl) dX5_greatest_13 ⟨Nat.le_of_ble_eq_true rfl, Nat.le_of_ble_eq_true rfl⟩ (fun r_3 st_4 hq => ?_)
  obtain ⟨hq, rfl⟩ := hq
  replace h := h r_3 hq
  refine j_iconst K (-1 : Int32) dX5_greatest_16 (by decide) ?_
  refine j_ixor K dX5_greatest_17 ?_
  refine j_iand K dX5_greatest_18 ?_
  refine j_istore K [(4, .int (((511 : Int32) &&& (r_1 ^^^ (-1 : Int32))) &&& (r_3 ^^^ (-1 : Int32)))), (0, .ref (ad 0)), (1, .int x1), (2, .int x2), (3, .int x3)] dX5_greatest_19 (by decide) rfl ?_
  refine j_iload_n K 3 dX5_greatest_21 rfl rfl ?_
  refine j_if_ge K 30 dX5_greatest_22 (by decide) (fun hc => ?_) (fun hc => ?_)
  · refine j_lv K [1, 2, 3, 4, 0] (lv' := [(0, .ref (ad 0)), (1, .int x1), (2, .int x2), (3, .int x3), (4, .int (((511 : Int32) &&& (r_1 ^^^ (-1 : Int32))) &&& (r_3 ^^^ (-1 : Int32))))]) rfl ?_
    exact kX5_greatest_30 K hr hgl  x1 x2 x3 (((511 : Int32) &&& (r_1 ^^^ (-1 : Int32))) &&& (r_3 ^^^ (-1 : Int32))) st (h.1 hc)
  · refine j_lv K [1, 2, 3, 4, 0] (lv' := [(0, .ref (ad 0)), (1, .int x1), (2, .int x2), (3, .int x3), (4, .int (((511 : Int32) &&& (r_1 ^^^ (-1 : Int32))) &&& (r_3 ^^^ (-1 : Int32))))]) rfl ?_
    exact kX5_greatest_25 K hr hgl  x1 x2 x3 (((511 : Int32) &&& (r_1 ^^^ (-1 : Int32))) &&& (r_3 ^^^ (-1 : Int32))) st (h.2 hc)
theorem ctX5_greatest {l : Launch} {D : va_G} {ct : Nat → ClassId} {ad : Nat → Nat} {tl : va_W} {G : gE} {t : Nat} (hG : gOK G) (hgl : gHas G t) (x1 : Int32) (x2 : Int32) (x3 : Int32) (st : MS) (hp : pX5_greatest x1 x2 x3 st) : ∀ sz, Met l yX5_greatest (ws_ yX5_greatest cX5_greatest 9 (some .int)) { frames := 3, cells := 0, slots := 0, locals := 70 } (va_Pc [.ref (ad 0), .int x1, .int x2, .int x3] (cPre G D ct (TW ct ad tl st) sz)) (va_Qi (fun (r : Int32) (u : MS) => qX5_greatest x1 x2 x3 st r ∧ st = u) (fun u => cB D ct (va_A (TW ct ad tl st) sz) (TW ct ad tl u)) (va_A (TW ct ad tl st) sz)) 0 0 (va_A (TW ct ad tl st) sz) := fun sz =>
  j_met (Qc := fun A => va_Qi (fun (r : Int32) (u : MS) => qX5_greatest x1 x2 x3 st r ∧ st = u) (fun u => cB D ct A (TW ct ad tl u)) A) (by decide) hG (Nat.le_of_ble_eq_true rfl) (fun p e s m args below meth c A K hr _ _ => kX5_greatest_0 K hr hgl x1 x2 x3 st (vcX5_greatest x1 x2 x3 st hp))
-- X5_judge
theorem kX5_judge_178 {p : Program} {l : Launch} {e : Env} {s : State} {m : MethodId} {args : Array Value} {below : List Frame} {meth : Method} {c : Code} {A : Nat → Prop} {D : va_G} {ct : Nat → ClassId} {ad : Nat → Nat} {tl : va_W} {G : gE} {t : Nat} {post : Int32 → MS → Prop} (K : CX p s m args meth c cX5_judge 7 RX5 A D ct G) (hr : meth.sig.returnType = (some .int)) (hgl : gHas G t)   (s0 : Int32) (st : MS) (h : wX5_judge_178 post  s0 st) : jJ p l e { frames := 4, cells := 0, slots := 0, locals := 98 } s m args below meth c (MQ below (va_Qi post (fun u => cB D ct A (TW ct ad tl u)) A) args s 0 0 A) A D 7 (TW ct ad tl st) 0 0 178 [] [.int s0] := by
  unfold wX5_judge_178 at h
  exact j_iret st K hr rfl h (Nat.le_of_ble_eq_true rfl) (Nat.le_of_ble_eq_true rfl) dX5_judge_178
theorem kX5_judge_175 {p : Program} {l : Launch} {e : Env} {s : State} {m : MethodId} {args : Array Value} {below : List Frame} {meth : Method} {c : Code} {A : Nat → Prop} {D : va_G} {ct : Nat → ClassId} {ad : Nat → Nat} {tl : va_W} {G : gE} {t : Nat} {post : Int32 → MS → Prop} (K : CX p s m args meth c cX5_judge 7 RX5 A D ct G) (hr : meth.sig.returnType = (some .int)) (hgl : gHas G t)   (x2 : Int32) (st : MS) (h : wX5_judge_175 post  x2 st) : jJ p l e { frames := 4, cells := 0, slots := 0, locals := 98 } s m args below meth c (MQ below (va_Qi post (fun u => cB D ct A (TW ct ad tl u)) A) args s 0 0 A) A D 7 (TW ct ad tl st) 0 0 175 [(2, .int x2)] [] := by
  unfold wX5_judge_175 at h
  refine j_iconst K (-1 : Int32) dX5_judge_175 (by decide) ?_
  refine j_iload_n K 0 dX5_judge_176 rfl rfl ?_
  refine j_isub K dX5_judge_177 ?_
  refine j_lv K [] (lv' := []) rfl ?_
  exact kX5_judge_178 K hr hgl  ((-1 : Int32) - x2) st h
theorem kX5_judge_171 {p : Program} {l : Launch} {e : Env} {s : State} {m : MethodId} {args : Array Value} {below : List Frame} {meth : Method} {c : Code} {A : Nat → Prop} {D : va_G} {ct : Nat → ClassId} {ad : Nat → Nat} {tl : va_W} {G : gE} {t : Nat} {post : Int32 → MS → Prop} (K : CX p s m args meth c cX5_judge 7 RX5 A D ct G) (hr : meth.sig.returnType = (some .int)) (hgl : gHas G t)    (st : MS) (h : wX5_judge_171 post  st) : jJ p l e { frames := 4, cells := 0, slots := 0, locals := 98 } s m args below meth c (MQ below (va_Qi post (fun u => cB D ct A (TW ct ad tl u)) A) args s 0 0 A) A D 7 (TW ct ad tl st) 0 0 171 [] [] := by
  unfold wX5_judge_171 at h
  refine j_iconst K (0 : Int32) dX5_judge_171 (by decide) ?_
  refine j_goto K 178 dX5_judge_172 (by decide) ?_
  exact kX5_judge_178 K hr hgl  (0 : Int32) st h
theorem kX5_judge_165 {p : Program} {l : Launch} {e : Env} {s : State} {m : MethodId} {args : Array Value} {below : List Frame} {meth : Method} {c : Code} {A : Nat → Prop} {D : va_G} {ct : Nat → ClassId} {ad : Nat → Nat} {tl : va_W} {G : gE} {t : Nat} {post : Int32 → MS → Prop} (K : CX p s m args meth c cX5_judge 7 RX5 A D ct G) (hr : meth.sig.returnType = (some .int)) (hgl : gHas G t)   (x2 : Int32) (x5 : Int32) (st : MS) (h : wX5_judge_165 post  x2 x5 st) : jJ p l e { frames := 4, cells := 0, slots := 0, locals := 98 } s m args below meth c (MQ below (va_Qi post (fun u => cB D ct A (TW ct ad tl u)) A) args s 0 0 A) A D 7 (TW ct ad tl st) 0 0 165 [(2, .int x2), (5, .int x5)] [] := by
  unfold wX5_judge_165 at h
  refine j_iload K 1 dX5_judge_165 rfl ?_
  refine j_iconst K (1 : Int32) dX5_judge_167 (by decide) ?_
  refine j_icmp_ne K 175 dX5_judge_168 (by decide) (fun hc => ?_) (fun hc => ?_)
  · refine j_lv K [0] (lv' := [(2, .int x2)]) rfl ?_
    exact kX5_judge_175 K hr hgl  x2 st (h.1 hc)
  · refine j_lv K [] (lv' := []) rfl ?_
    exact kX5_judge_171 K hr hgl  st (h.2 hc)
theorem kX5_judge_161 {p : Program} {l : Launch} {e : Env} {s : State} {m : MethodId} {args : Array Value} {below : List Frame} {meth : Method} {c : Code} {A : Nat → Prop} {D : va_G} {ct : Nat → ClassId} {ad : Nat → Nat} {tl : va_W} {G : gE} {t : Nat} {post : Int32 → MS → Prop} (K : CX p s m args meth c cX5_judge 7 RX5 A D ct G) (hr : meth.sig.returnType = (some .int)) (hgl : gHas G t)   (x2 : Int32) (st : MS) (h : wX5_judge_161 post  x2 st) : jJ p l e { frames := 4, cells := 0, slots := 0, locals := 98 } s m args below meth c (MQ below (va_Qi post (fun u => cB D ct A (TW ct ad tl u)) A) args s 0 0 A) A D 7 (TW ct ad tl st) 0 0 161 [(2, .int x2)] [] := by
  unfold wX5_judge_161 at h
  refine j_iload_n K 0 dX5_judge_161 rfl rfl ?_
  refine j_goto K 178 dX5_judge_162 (by decide) ?_
  refine j_lv K [] (lv' := []) rfl ?_
  exact kX5_judge_178 K hr hgl  x2 st h
theorem kX5_judge_155 {p : Program} {l : Launch} {e : Env} {s : State} {m : MethodId} {args : Array Value} {below : List Frame} {meth : Method} {c : Code} {A : Nat → Prop} {D : va_G} {ct : Nat → ClassId} {ad : Nat → Nat} {tl : va_W} {G : gE} {t : Nat} {post : Int32 → MS → Prop} (K : CX p s m args meth c cX5_judge 7 RX5 A D ct G) (hr : meth.sig.returnType = (some .int)) (hgl : gHas G t)   (x2 : Int32) (x5 : Int32) (st : MS) (h : wX5_judge_155 post  x2 x5 st) : jJ p l e { frames := 4, cells := 0, slots := 0, locals := 98 } s m args below meth c (MQ below (va_Qi post (fun u => cB D ct A (TW ct ad tl u)) A) args s 0 0 A) A D 7 (TW ct ad tl st) 0 0 155 [(2, .int x2), (5, .int x5)] [] := by
  unfold wX5_judge_155 at h
  refine j_iload K 1 dX5_judge_155 rfl ?_
  refine j_iconst K (2 : Int32) dX5_judge_157 (by decide) ?_
  refine j_icmp_ne K 165 dX5_judge_158 (by decide) (fun hc => ?_) (fun hc => ?_)
  · exact kX5_judge_165 K hr hgl  x2 x5 st (h.1 hc)
  · refine j_lv K [0] (lv' := [(2, .int x2)]) rfl ?_
    exact kX5_judge_161 K hr hgl  x2 st (h.2 hc)
theorem kX5_judge_147 {p : Program} {l : Launch} {e : Env} {s : State} {m : MethodId} {args : Array Value} {below : List Frame} {meth : Method} {c : Code} {A : Nat → Prop} {D : va_G} {ct : Nat → ClassId} {ad : Nat → Nat} {tl : va_W} {G : gE} {t : Nat} {post : Int32 → MS → Prop} (K : CX p s m args meth c cX5_judge 7 RX5 A D ct G) (hr : meth.sig.returnType = (some .int)) (hgl : gHas G t) (L112 : Int32 → Int32 → Int32 → Int32 → Int32 → MS → Prop) (hL112 : ∀ (x1 : Int32) (x2 : Int32) (x3 : Int32) (x5 : Int32) (x6 : Int32) (st : MS), L112 x1 x2 x3 x5 x6 st → jJ p l e { frames := 4, cells := 0, slots := 0, locals := 98 } s m args below meth c (MQ below (va_Qi post (fun u => cB D ct A (TW ct ad tl u)) A) args s 0 0 A) A D 7 (TW ct ad tl st) 0 0 112 [(0, .ref (ad 0)), (1, .int x1), (2, .int x2), (3, .int x3), (5, .int x5), (6, .int x6)] []) (x1 : Int32) (x2 : Int32) (x3 : Int32) (x6 : Int32) (s0 : Int32) (st : MS) (h : wX5_judge_147 post L112 x1 x2 x3 x6 s0 st) : jJ p l e { frames := 4, cells := 0, slots := 0, locals := 98 } s m args below meth c (MQ below (va_Qi post (fun u => cB D ct A (TW ct ad tl u)) A) args s 0 0 A) A D 7 (TW ct ad tl st) 0 0 147 [(0, .ref (ad 0)), (1, .int x1), (2, .int x2), (3, .int x3), (6, .int x6)] [.int s0] := by
  unfold wX5_judge_147 at h
  refine j_istore K [(5, .int s0), (0, .ref (ad 0)), (1, .int x1), (2, .int x2), (3, .int x3), (6, .int x6)] dX5_judge_147 (by decide) rfl ?_
  refine j_iinc K 5 (x6 + (1 : Int32)) [(6, .int (x6 + (1 : Int32))), (5, .int s0), (0, .ref (ad 0)), (1, .int x1), (2, .int x2), (3, .int x3)] dX5_judge_149 rfl rfl (by decide) rfl ?_
  refine j_goto K 112 dX5_judge_152 (by decide) ?_
  refine j_lv K [2, 3, 4, 5, 1, 0] (lv' := [(0, .ref (ad 0)), (1, .int x1), (2, .int x2), (3, .int x3), (5, .int s0), (6, .int (x6 + (1 : Int32)))]) rfl ?_
  exact hL112 x1 x2 x3 s0 (x6 + (1 : Int32)) st h
theorem kX5_judge_145 {p : Program} {l : Launch} {e : Env} {s : State} {m : MethodId} {args : Array Value} {below : List Frame} {meth : Method} {c : Code} {A : Nat → Prop} {D : va_G} {ct : Nat → ClassId} {ad : Nat → Nat} {tl : va_W} {G : gE} {t : Nat} {post : Int32 → MS → Prop} (K : CX p s m args meth c cX5_judge 7 RX5 A D ct G) (hr : meth.sig.returnType = (some .int)) (hgl : gHas G t) (L112 : Int32 → Int32 → Int32 → Int32 → Int32 → MS → Prop) (hL112 : ∀ (x1 : Int32) (x2 : Int32) (x3 : Int32) (x5 : Int32) (x6 : Int32) (st : MS), L112 x1 x2 x3 x5 x6 st → jJ p l e { frames := 4, cells := 0, slots := 0, locals := 98 } s m args below meth c (MQ below (va_Qi post (fun u => cB D ct A (TW ct ad tl u)) A) args s 0 0 A) A D 7 (TW ct ad tl st) 0 0 112 [(0, .ref (ad 0)), (1, .int x1), (2, .int x2), (3, .int x3), (5, .int x5), (6, .int x6)] []) (x1 : Int32) (x2 : Int32) (x3 : Int32) (x5 : Int32) (x6 : Int32) (st : MS) (h : wX5_judge_145 post L112 x1 x2 x3 x5 x6 st) : jJ p l e { frames := 4, cells := 0, slots := 0, locals := 98 } s m args below meth c (MQ below (va_Qi post (fun u => cB D ct A (TW ct ad tl u)) A) args s 0 0 A) A D 7 (TW ct ad tl st) 0 0 145 [(0, .ref (ad 0)), (1, .int x1), (2, .int x2), (3, .int x3), (5, .int x5), (6, .int x6)] [] := by
  unfold wX5_judge_145 at h
  refine j_iload K 4 dX5_judge_145 rfl ?_
  refine j_lv K [0, 1, 2, 3, 5] (lv' := [(0, .ref (ad 0)), (1, .int x1), (2, .int x2), (3, .int x3), (6, .int x6)]) rfl ?_
  exact kX5_judge_147 K hr hgl L112 hL112 x1 x2 x3 x6 x5 st h
theorem kX5_judge_129 {p : Program} {l : Launch} {e : Env} {s : State} {m : MethodId} {args : Array Value} {below : List Frame} {meth : Method} {c : Code} {A : Nat → Prop} {D : va_G} {ct : Nat → ClassId} {ad : Nat → Nat} {tl : va_W} {G : gE} {t : Nat} {post : Int32 → MS → Prop} (K : CX p s m args meth c cX5_judge 7 RX5 A D ct G) (hr : meth.sig.returnType = (some .int)) (hgl : gHas G t) (L112 : Int32 → Int32 → Int32 → Int32 → Int32 → MS → Prop) (hL112 : ∀ (x1 : Int32) (x2 : Int32) (x3 : Int32) (x5 : Int32) (x6 : Int32) (st : MS), L112 x1 x2 x3 x5 x6 st → jJ p l e { frames := 4, cells := 0, slots := 0, locals := 98 } s m args below meth c (MQ below (va_Qi post (fun u => cB D ct A (TW ct ad tl u)) A) args s 0 0 A) A D 7 (TW ct ad tl st) 0 0 112 [(0, .ref (ad 0)), (1, .int x1), (2, .int x2), (3, .int x3), (5, .int x5), (6, .int x6)] []) (x1 : Int32) (x2 : Int32) (x3 : Int32) (x5 : Int32) (x6 : Int32) (st : MS) (h : wX5_judge_129 post L112 x1 x2 x3 x5 x6 st) : jJ p l e { frames := 4, cells := 0, slots := 0, locals := 98 } s m args below meth c (MQ below (va_Qi post (fun u => cB D ct A (TW ct ad tl u)) A) args s 0 0 A) A D 7 (TW ct ad tl st) 0 0 129 [(0, .ref (ad 0)), (1, .int x1), (2, .int x2), (3, .int x3), (5, .int x5), (6, .int x6)] [] := by
  unfold wX5_judge_129 at h
  refine j_iload K 4 dX5_judge_129 rfl ?_
  refine j_aload_n K 0 dX5_judge_131 rfl rfl ?_
  refine j_iload_n K 1 dX5_judge_132 rfl rfl ?_
  refine j_iload K 5 dX5_judge_133 rfl ?_
  refine j_iload_n K 2 dX5_judge_135 rfl rfl ?_
  obtain ⟨hp, h⟩ := h
  refine j_callVi K (As := [.int x1, .int x6, .int x2]) (rest := [.int x5]) (ctX5_greatest (l := l) (D := D) (ct := ct) (ad := ad) (tl := tl) (G := G) (t := t) K.2.2.2.2.2.2.2.2.2 hgl x1 x6 x2 st hp) gw5_85 gd5_85 ⟨Nat.le_of_ble_eq_true rfl, Nat.le_of_ble_eq_true rfl⟩ 0 rfl rfl rfl rfl rfl (Nat.le_of_ble_eq_true rfl) dX5_judge_136 ⟨Nat.le_of_ble_eq_true rfl, Nat.le_of_ble_eq_true rfl⟩ (fun r_1 st_2 hq => ?_)
  obtain ⟨hq, rfl⟩ := hq
  replace h := h r_1 hq
  refine j_callSi K (As := [.int x5, .int r_1]) (rest := []) (ctJ4_max (l := l) (D := D) (ct := ct) (G := G) (ws := (TW ct ad tl st)) K.2.2.2.2.2.2.2.2.2 x5 r_1) (lw_S q504 q161 q76 q162) (n := 2) (by decide +kernel) ⟨Nat.le_of_ble_eq_true rfl, Nat.le_of_ble_eq_true rfl⟩ rfl rfl (Nat.le_of_ble_eq_true rfl) dX5_judge_139 ⟨Nat.le_of_ble_eq_true rfl, Nat.le_of_ble_eq_true rfl⟩ (fun r_3 _ hq => ?_)
  replace h := h r_3 hq
  refine j_goto K 147 dX5_judge_142 (by decide) ?_
  refine j_lv K [0, 1, 2, 3, 5] (lv' := [(0, .ref (ad 0)), (1, .int x1), (2, .int x2), (3, .int x3), (6, .int x6)]) rfl ?_
  exact kX5_judge_147 K hr hgl L112 hL112 x1 x2 x3 x6 r_3 st h
theorem kX5_judge_119 {p : Program} {l : Launch} {e : Env} {s : State} {m : MethodId} {args : Array Value} {below : List Frame} {meth : Method} {c : Code} {A : Nat → Prop} {D : va_G} {ct : Nat → ClassId} {ad : Nat → Nat} {tl : va_W} {G : gE} {t : Nat} {post : Int32 → MS → Prop} (K : CX p s m args meth c cX5_judge 7 RX5 A D ct G) (hr : meth.sig.returnType = (some .int)) (hgl : gHas G t) (L112 : Int32 → Int32 → Int32 → Int32 → Int32 → MS → Prop) (hL112 : ∀ (x1 : Int32) (x2 : Int32) (x3 : Int32) (x5 : Int32) (x6 : Int32) (st : MS), L112 x1 x2 x3 x5 x6 st → jJ p l e { frames := 4, cells := 0, slots := 0, locals := 98 } s m args below meth c (MQ below (va_Qi post (fun u => cB D ct A (TW ct ad tl u)) A) args s 0 0 A) A D 7 (TW ct ad tl st) 0 0 112 [(0, .ref (ad 0)), (1, .int x1), (2, .int x2), (3, .int x3), (5, .int x5), (6, .int x6)] []) (x1 : Int32) (x2 : Int32) (x3 : Int32) (x5 : Int32) (x6 : Int32) (st : MS) (h : wX5_judge_119 post L112 x1 x2 x3 x5 x6 st) : jJ p l e { frames := 4, cells := 0, slots := 0, locals := 98 } s m args below meth c (MQ below (va_Qi post (fun u => cB D ct A (TW ct ad tl u)) A) args s 0 0 A) A D 7 (TW ct ad tl st) 0 0 119 [(0, .ref (ad 0)), (1, .int x1), (2, .int x2), (3, .int x3), (5, .int x5), (6, .int x6)] [] := by
  unfold wX5_judge_119 at h
  refine j_iload_n K 3 dX5_judge_119 rfl rfl ?_
  refine j_iload K 5 dX5_judge_120 rfl ?_
  refine j_ishr K dX5_judge_122 ?_
  refine j_iconst K (1 : Int32) dX5_judge_123 (by decide) ?_
  refine j_iand K dX5_judge_124 ?_
  refine j_iconst K (1 : Int32) dX5_judge_125 (by decide) ?_
  refine j_icmp_ne K 145 dX5_judge_126 (by decide) (fun hc => ?_) (fun hc => ?_)
  · exact kX5_judge_145 K hr hgl L112 hL112 x1 x2 x3 x5 x6 st (h.1 hc)
  · exact kX5_judge_129 K hr hgl L112 hL112 x1 x2 x3 x5 x6 st (h.2 hc)
theorem kX5_judge_112_b {p : Program} {l : Launch} {e : Env} {s : State} {m : MethodId} {args : Array Value} {below : List Frame} {meth : Method} {c : Code} {A : Nat → Prop} {D : va_G} {ct : Nat → ClassId} {ad : Nat → Nat} {tl : va_W} {G : gE} {t : Nat} {post : Int32 → MS → Prop} (K : CX p s m args meth c cX5_judge 7 RX5 A D ct G) (hr : meth.sig.returnType = (some .int)) (hgl : gHas G t) (L112 : Int32 → Int32 → Int32 → Int32 → Int32 → MS → Prop) (hL112 : ∀ (x1 : Int32) (x2 : Int32) (x3 : Int32) (x5 : Int32) (x6 : Int32) (st : MS), L112 x1 x2 x3 x5 x6 st → jJ p l e { frames := 4, cells := 0, slots := 0, locals := 98 } s m args below meth c (MQ below (va_Qi post (fun u => cB D ct A (TW ct ad tl u)) A) args s 0 0 A) A D 7 (TW ct ad tl st) 0 0 112 [(0, .ref (ad 0)), (1, .int x1), (2, .int x2), (3, .int x3), (5, .int x5), (6, .int x6)] []) (x1 : Int32) (x2 : Int32) (x3 : Int32) (x5 : Int32) (x6 : Int32) (st : MS) (h : wX5_judge_112_b post L112 x1 x2 x3 x5 x6 st) : jJ p l e { frames := 4, cells := 0, slots := 0, locals := 98 } s m args below meth c (MQ below (va_Qi post (fun u => cB D ct A (TW ct ad tl u)) A) args s 0 0 A) A D 7 (TW ct ad tl st) 0 0 112 [(0, .ref (ad 0)), (1, .int x1), (2, .int x2), (3, .int x3), (5, .int x5), (6, .int x6)] [] := by
  unfold wX5_judge_112_b at h
  refine j_iload K 5 dX5_judge_112 rfl ?_
  refine j_bipush K (9 : Int32) dX5_judge_114 (by decide) ?_
  refine j_icmp_ge K 155 dX5_judge_116 (by decide) (fun hc => ?_) (fun hc => ?_)
  · refine j_lv K [2, 4] (lv' := [(2, .int x2), (5, .int x5)]) rfl ?_
    exact kX5_judge_155 K hr hgl  x2 x5 st (h.1 hc)
  · exact kX5_judge_119 K hr hgl L112 hL112 x1 x2 x3 x5 x6 st (h.2 hc)
theorem kX5_judge_112 {p : Program} {l : Launch} {e : Env} {s : State} {m : MethodId} {args : Array Value} {below : List Frame} {meth : Method} {c : Code} {A : Nat → Prop} {D : va_G} {ct : Nat → ClassId} {ad : Nat → Nat} {tl : va_W} {G : gE} {t : Nat} {post : Int32 → MS → Prop} (K : CX p s m args meth c cX5_judge 7 RX5 A D ct G) (hr : meth.sig.returnType = (some .int)) (hgl : gHas G t)   (x1 : Int32) (x2 : Int32) (x3 : Int32) (x5 : Int32) (x6 : Int32) (st : MS) (h : wX5_judge_112 post  x1 x2 x3 x5 x6 st) : jJ p l e { frames := 4, cells := 0, slots := 0, locals := 98 } s m args below meth c (MQ below (va_Qi post (fun u => cB D ct A (TW ct ad tl u)) A) args s 0 0 A) A D 7 (TW ct ad tl st) 0 0 112 [(0, .ref (ad 0)), (1, .int x1), (2, .int x2), (3, .int x3), (5, .int x5), (6, .int x6)] [] :=
  wloop_sound (V := Int32 × Int32 × Int32 × Int32 × Int32 × MS) (Wk := fun v => jJ p l e { frames := 4, cells := 0, slots := 0, locals := 98 } s m args below meth c (MQ below (va_Qi post (fun u => cB D ct A (TW ct ad tl u)) A) args s 0 0 A) A D 7 (TW ct ad tl v.2.2.2.2.2) 0 0 112 [(0, .ref (ad 0)), (1, .int v.1), (2, .int v.2.1), (3, .int v.2.2.1), (5, .int v.2.2.2.1), (6, .int v.2.2.2.2.1)] []) (fun L hL v hb => kX5_judge_112_b K hr hgl (fun x1 x2 x3 x5 x6 st => L (x1, x2, x3, x5, x6, st)) (fun x1 x2 x3 x5 x6 st hx => hL (x1, x2, x3, x5, x6, st) hx) v.1 v.2.1 v.2.2.1 v.2.2.2.1 v.2.2.2.2.1 v.2.2.2.2.2 hb) h
theorem kX5_judge_109 {p : Program} {l : Launch} {e : Env} {s : State} {m : MethodId} {args : Array Value} {below : List Frame} {meth : Method} {c : Code} {A : Nat → Prop} {D : va_G} {ct : Nat → ClassId} {ad : Nat → Nat} {tl : va_W} {G : gE} {t : Nat} {post : Int32 → MS → Prop} (K : CX p s m args meth c cX5_judge 7 RX5 A D ct G) (hr : meth.sig.returnType = (some .int)) (hgl : gHas G t)   (x1 : Int32) (x2 : Int32) (x3 : Int32) (x5 : Int32) (st : MS) (h : wX5_judge_109 post  x1 x2 x3 x5 st) : jJ p l e { frames := 4, cells := 0, slots := 0, locals := 98 } s m args below meth c (MQ below (va_Qi post (fun u => cB D ct A (TW ct ad tl u)) A) args s 0 0 A) A D 7 (TW ct ad tl st) 0 0 109 [(0, .ref (ad 0)), (1, .int x1), (2, .int x2), (3, .int x3), (5, .int x5)] [] := by
  unfold wX5_judge_109 at h
  refine j_iconst K (0 : Int32) dX5_judge_109 (by decide) ?_
  refine j_istore K [(6, .int (0 : Int32)), (0, .ref (ad 0)), (1, .int x1), (2, .int x2), (3, .int x3), (5, .int x5)] dX5_judge_110 (by decide) rfl ?_
  refine j_lv K [1, 2, 3, 4, 5, 0] (lv' := [(0, .ref (ad 0)), (1, .int x1), (2, .int x2), (3, .int x3), (5, .int x5), (6, .int (0 : Int32))]) rfl ?_
  exact kX5_judge_112 K hr hgl  x1 x2 x3 x5 (0 : Int32) st h
theorem kX5_judge_79 {p : Program} {l : Launch} {e : Env} {s : State} {m : MethodId} {args : Array Value} {below : List Frame} {meth : Method} {c : Code} {A : Nat → Prop} {D : va_G} {ct : Nat → ClassId} {ad : Nat → Nat} {tl : va_W} {G : gE} {t : Nat} {post : Int32 → MS → Prop} (K : CX p s m args meth c cX5_judge 7 RX5 A D ct G) (hr : meth.sig.returnType = (some .int)) (hgl : gHas G t)   (x1 : Int32) (x2 : Int32) (st : MS) (h : wX5_judge_79 post  x1 x2 st) : jJ p l e { frames := 4, cells := 0, slots := 0, locals := 98 } s m args below meth c (MQ below (va_Qi post (fun u => cB D ct A (TW ct ad tl u)) A) args s 0 0 A) A D 7 (TW ct ad tl st) 0 0 79 [(0, .ref (ad 0)), (1, .int x1), (2, .int x2)] [] := by
  unfold wX5_judge_79 at h
  refine j_aload_n K 0 dX5_judge_79 rfl rfl ?_
  refine j_aload_n K 0 dX5_judge_80 rfl rfl ?_
  refine j_iload_n K 1 dX5_judge_81 rfl rfl ?_
  obtain ⟨hp, h⟩ := h
  refine j_callVi K (As := [.int x1]) (rest := [.ref (ad 0)]) (ctX5_first (l := l) (D := D) (ct := ct) (ad := ad) (tl := tl) (G := G) (t := t) K.2.2.2.2.2.2.2.2.2 hgl x1 st hp) gw5_62 gd5_62 ⟨Nat.le_of_ble_eq_true rfl, Nat.le_of_ble_eq_true rfl⟩ 0 rfl rfl rfl rfl rfl (Nat.le_of_ble_eq_true rfl) dX5_judge_82 ⟨Nat.le_of_ble_eq_true rfl, Nat.le_of_ble_eq_true rfl⟩ (fun r_1 st_2 hq => ?_)
  obtain ⟨hq, rfl⟩ := hq
  replace h := h r_1 hq
  refine j_aload_n K 0 dX5_judge_85 rfl rfl ?_
  refine j_iload_n K 1 dX5_judge_86 rfl rfl ?_
  obtain ⟨hp, h⟩ := h
  refine j_callVi K (As := [.int x1]) (rest := [.int r_1, .ref (ad 0)]) (ctX5_second (l := l) (D := D) (ct := ct) (ad := ad) (tl := tl) (G := G) (t := t) K.2.2.2.2.2.2.2.2.2 hgl x1 st hp) gw5_65 gd5_65 ⟨Nat.le_of_ble_eq_true rfl, Nat.le_of_ble_eq_true rfl⟩ 0 rfl rfl rfl rfl rfl (Nat.le_of_ble_eq_true rfl) dX5_judge_87 ⟨Nat.le_of_ble_eq_true rfl, Nat.le_of_ble_eq_true rfl⟩ (fun r_3 st_4 hq => ?_)
  obtain ⟨hq, rfl⟩ := hq
  replace h := h r_3 hq
  refine j_aload_n K 0 dX5_judge_90 rfl rfl ?_
  refine j_iload_n K 1 dX5_judge_91 rfl rfl ?_
  obtain ⟨hp, h⟩ := h
  refine j_callVi K (As := [.int x1]) (rest := [.int r_3, .int r_1, .ref (ad 0)]) (ctX5_mover (l := l) (D := D) (ct := ct) (ad := ad) (tl := tl) (G := G) (t := t) K.2.2.2.2.2.2.2.2.2 hgl x1 st hp) gw5_71 gd5_71 ⟨Nat.le_of_ble_eq_true rfl, Nat.le_of_ble_eq_true rfl⟩ 0 rfl rfl rfl rfl rfl (Nat.le_of_ble_eq_true rfl) dX5_judge_92 ⟨Nat.le_of_ble_eq_true rfl, Nat.le_of_ble_eq_true rfl⟩ (fun r_5 st_6 hq => ?_)
  obtain ⟨hq, rfl⟩ := hq
  replace h := h r_5 hq
  refine j_bipush K (90 : Int32) dX5_judge_95 (by decide) ?_
  obtain ⟨hp, h⟩ := h
  refine j_callVi K (As := [.int r_1, .int r_3, .int r_5, .int (90 : Int32)]) (rest := []) (ctX5_behind (l := l) (D := D) (ct := ct) (ad := ad) (tl := tl) (G := G) (t := t) K.2.2.2.2.2.2.2.2.2 hgl r_1 r_3 r_5 (90 : Int32) st hp) gw5_74 gd5_74 ⟨Nat.le_of_ble_eq_true rfl, Nat.le_of_ble_eq_true rfl⟩ 0 rfl rfl rfl rfl rfl (Nat.le_of_ble_eq_true rfl) dX5_judge_97 ⟨Nat.le_of_ble_eq_true rfl, Nat.le_of_ble_eq_true rfl⟩ (fun r_7 st_8 hq => ?_)
  obtain ⟨hq, rfl⟩ := hq
  replace h := h r_7 hq
  refine j_iload_n K 2 dX5_judge_100 rfl rfl ?_
  refine j_callSi K (As := [.int r_7, .int x2]) (rest := []) (ctX5_rank (l := l) (D := D) (ct := ct) (G := G) (ws := (TW ct ad tl st)) K.2.2.2.2.2.2.2.2.2 r_7 x2) (lw_S q501 q502 q88 q503) (n := 2) (by decide +kernel) ⟨Nat.le_of_ble_eq_true rfl, Nat.le_of_ble_eq_true rfl⟩ rfl rfl (Nat.le_of_ble_eq_true rfl) dX5_judge_101 ⟨Nat.le_of_ble_eq_true rfl, Nat.le_of_ble_eq_true rfl⟩ (fun r_9 _ hq => ?_)
  replace h := h r_9 hq
  refine j_istore K [(5, .int r_9), (0, .ref (ad 0)), (1, .int x1), (2, .int x2)] dX5_judge_104 (by decide) rfl ?_
  refine j_goto K 155 dX5_judge_106 (by decide) ?_
  refine j_lv K [3, 0] (lv' := [(2, .int x2), (5, .int r_9)]) rfl ?_
  exact kX5_judge_155 K hr hgl  x2 r_9 st h
theorem kX5_judge_69 {p : Program} {l : Launch} {e : Env} {s : State} {m : MethodId} {args : Array Value} {below : List Frame} {meth : Method} {c : Code} {A : Nat → Prop} {D : va_G} {ct : Nat → ClassId} {ad : Nat → Nat} {tl : va_W} {G : gE} {t : Nat} {post : Int32 → MS → Prop} (K : CX p s m args meth c cX5_judge 7 RX5 A D ct G) (hr : meth.sig.returnType = (some .int)) (hgl : gHas G t)   (x1 : Int32) (x2 : Int32) (x3 : Int32) (x4 : Int32) (x5 : Int32) (st : MS) (h : wX5_judge_69 post  x1 x2 x3 x4 x5 st) : jJ p l e { frames := 4, cells := 0, slots := 0, locals := 98 } s m args below meth c (MQ below (va_Qi post (fun u => cB D ct A (TW ct ad tl u)) A) args s 0 0 A) A D 7 (TW ct ad tl st) 0 0 69 [(0, .ref (ad 0)), (1, .int x1), (2, .int x2), (3, .int x3), (4, .int x4), (5, .int x5)] [] := by
  unfold wX5_judge_69 at h
  refine j_aload_n K 0 dX5_judge_69 rfl rfl ?_
  refine j_iload_n K 3 dX5_judge_70 rfl rfl ?_
  refine j_iload K 4 dX5_judge_71 rfl ?_
  obtain ⟨hp, h⟩ := h
  refine j_callUi K (As := [.int x3, .int x4]) (rest := []) (ctX4_isLocked (l := l) (D := D) (ct := ct) (ad := ad) (tl := tl) (G := G) (t := t) K.2.2.2.2.2.2.2.2.2 hgl x3 x4 st hp) gwU5_88 rfl gdU5_88 ⟨Nat.le_of_ble_eq_true rfl, Nat.le_of_ble_eq_true rfl⟩ 0 rfl rfl rfl rfl rfl (Nat.le_of_ble_eq_true rfl) dX5_judge_73 ⟨Nat.le_of_ble_eq_true rfl, Nat.le_of_ble_eq_true rfl⟩ (fun r_1 st_2 hq => ?_)
  obtain ⟨hq, rfl⟩ := hq
  replace h := h r_1 hq
  refine j_if_eq K 109 dX5_judge_76 (by decide) (fun hc => ?_) (fun hc => ?_)
  · refine j_lv K [0, 1, 2, 3, 5] (lv' := [(0, .ref (ad 0)), (1, .int x1), (2, .int x2), (3, .int x3), (5, .int x5)]) rfl ?_
    exact kX5_judge_109 K hr hgl  x1 x2 x3 x5 st (h.1 hc)
  · refine j_lv K [0, 1, 2] (lv' := [(0, .ref (ad 0)), (1, .int x1), (2, .int x2)]) rfl ?_
    exact kX5_judge_79 K hr hgl  x1 x2 st (h.2 hc)
theorem kX5_judge_56 {p : Program} {l : Launch} {e : Env} {s : State} {m : MethodId} {args : Array Value} {below : List Frame} {meth : Method} {c : Code} {A : Nat → Prop} {D : va_G} {ct : Nat → ClassId} {ad : Nat → Nat} {tl : va_W} {G : gE} {t : Nat} {post : Int32 → MS → Prop} (K : CX p s m args meth c cX5_judge 7 RX5 A D ct G) (hr : meth.sig.returnType = (some .int)) (hgl : gHas G t)   (x1 : Int32) (x2 : Int32) (st : MS) (h : wX5_judge_56 post  x1 x2 st) : jJ p l e { frames := 4, cells := 0, slots := 0, locals := 98 } s m args below meth c (MQ below (va_Qi post (fun u => cB D ct A (TW ct ad tl u)) A) args s 0 0 A) A D 7 (TW ct ad tl st) 0 0 56 [(0, .ref (ad 0)), (1, .int x1), (2, .int x2)] [] := by
  unfold wX5_judge_56 at h
  refine j_aload_n K 0 dX5_judge_56 rfl rfl ?_
  refine j_iload_n K 1 dX5_judge_57 rfl rfl ?_
  refine j_bipush K (-6 : Int32) dX5_judge_58 (by decide) ?_
  refine j_iload_n K 2 dX5_judge_60 rfl rfl ?_
  obtain ⟨hp, h⟩ := h
  refine j_callVi K (As := [.int x1, .int (-6 : Int32), .int x2]) (rest := []) (ctX5_greatest (l := l) (D := D) (ct := ct) (ad := ad) (tl := tl) (G := G) (t := t) K.2.2.2.2.2.2.2.2.2 hgl x1 (-6 : Int32) x2 st hp) gw5_85 gd5_85 ⟨Nat.le_of_ble_eq_true rfl, Nat.le_of_ble_eq_true rfl⟩ 0 rfl rfl rfl rfl rfl (Nat.le_of_ble_eq_true rfl) dX5_judge_61 ⟨Nat.le_of_ble_eq_true rfl, Nat.le_of_ble_eq_true rfl⟩ (fun r_1 st_2 hq => ?_)
  obtain ⟨hq, rfl⟩ := hq
  replace h := h r_1 hq
  refine j_istore K [(5, .int r_1), (0, .ref (ad 0)), (1, .int x1), (2, .int x2)] dX5_judge_64 (by decide) rfl ?_
  refine j_goto K 155 dX5_judge_66 (by decide) ?_
  refine j_lv K [3, 0] (lv' := [(2, .int x2), (5, .int r_1)]) rfl ?_
  exact kX5_judge_155 K hr hgl  x2 r_1 st h
theorem kX5_judge_43 {p : Program} {l : Launch} {e : Env} {s : State} {m : MethodId} {args : Array Value} {below : List Frame} {meth : Method} {c : Code} {A : Nat → Prop} {D : va_G} {ct : Nat → ClassId} {ad : Nat → Nat} {tl : va_W} {G : gE} {t : Nat} {post : Int32 → MS → Prop} (K : CX p s m args meth c cX5_judge 7 RX5 A D ct G) (hr : meth.sig.returnType = (some .int)) (hgl : gHas G t)   (x1 : Int32) (x2 : Int32) (x3 : Int32) (s0 : Int32) (st : MS) (h : wX5_judge_43 post  x1 x2 x3 s0 st) : jJ p l e { frames := 4, cells := 0, slots := 0, locals := 98 } s m args below meth c (MQ below (va_Qi post (fun u => cB D ct A (TW ct ad tl u)) A) args s 0 0 A) A D 7 (TW ct ad tl st) 0 0 43 [(0, .ref (ad 0)), (1, .int x1), (2, .int x2), (3, .int x3)] [.int s0] := by
  unfold wX5_judge_43 at h
  refine j_istore K [(4, .int s0), (0, .ref (ad 0)), (1, .int x1), (2, .int x2), (3, .int x3)] dX5_judge_43 (by decide) rfl ?_
  refine j_iconst K (0 : Int32) dX5_judge_45 (by decide) ?_
  refine j_istore K [(5, .int (0 : Int32)), (4, .int s0), (0, .ref (ad 0)), (1, .int x1), (2, .int x2), (3, .int x3)] dX5_judge_46 (by decide) rfl ?_
  refine j_iload_n K 5 dX5_judge_48 rfl rfl ?_
  refine j_callSi K (As := [.int x3]) (rest := []) (ctJ12_bitCount (l := l) (D := D) (ct := ct) (G := G) (ws := (TW ct ad tl st)) K.2.2.2.2.2.2.2.2.2 x3) (lw_S q422 q423 q90 q424) (n := 1) (by decide +kernel) ⟨Nat.le_of_ble_eq_true rfl, Nat.le_of_ble_eq_true rfl⟩ rfl rfl (Nat.le_of_ble_eq_true rfl) dX5_judge_49 ⟨Nat.le_of_ble_eq_true rfl, Nat.le_of_ble_eq_true rfl⟩ (fun r_1 _ hq => ?_)
  replace h := h r_1 hq
  refine j_iconst K (3 : Int32) dX5_judge_52 (by decide) ?_
  refine j_icmp_ge K 69 dX5_judge_53 (by decide) (fun hc => ?_) (fun hc => ?_)
  · refine j_lv K [2, 3, 4, 5, 1, 0] (lv' := [(0, .ref (ad 0)), (1, .int x1), (2, .int x2), (3, .int x3), (4, .int s0), (5, .int (0 : Int32))]) rfl ?_
    exact kX5_judge_69 K hr hgl  x1 x2 x3 s0 (0 : Int32) st (h.1 hc)
  · refine j_lv K [2, 3, 4] (lv' := [(0, .ref (ad 0)), (1, .int x1), (2, .int x2)]) rfl ?_
    exact kX5_judge_56 K hr hgl  x1 x2 st (h.2 hc)
theorem kX5_judge_38 {p : Program} {l : Launch} {e : Env} {s : State} {m : MethodId} {args : Array Value} {below : List Frame} {meth : Method} {c : Code} {A : Nat → Prop} {D : va_G} {ct : Nat → ClassId} {ad : Nat → Nat} {tl : va_W} {G : gE} {t : Nat} {post : Int32 → MS → Prop} (K : CX p s m args meth c cX5_judge 7 RX5 A D ct G) (hr : meth.sig.returnType = (some .int)) (hgl : gHas G t)   (x1 : Int32) (x2 : Int32) (x3 : Int32) (st : MS) (h : wX5_judge_38 post  x1 x2 x3 st) : jJ p l e { frames := 4, cells := 0, slots := 0, locals := 98 } s m args below meth c (MQ below (va_Qi post (fun u => cB D ct A (TW ct ad tl u)) A) args s 0 0 A) A D 7 (TW ct ad tl st) 0 0 38 [(0, .ref (ad 0)), (1, .int x1), (2, .int x2), (3, .int x3)] [] := by
  unfold wX5_judge_38 at h
  refine j_aload_n K 0 dX5_judge_38 rfl rfl ?_
  refine j_iload_n K 1 dX5_judge_39 rfl rfl ?_
  obtain ⟨hp, h⟩ := h
  refine j_callVi K (As := [.int x1]) (rest := []) (ctX5_first (l := l) (D := D) (ct := ct) (ad := ad) (tl := tl) (G := G) (t := t) K.2.2.2.2.2.2.2.2.2 hgl x1 st hp) gw5_62 gd5_62 ⟨Nat.le_of_ble_eq_true rfl, Nat.le_of_ble_eq_true rfl⟩ 0 rfl rfl rfl rfl rfl (Nat.le_of_ble_eq_true rfl) dX5_judge_40 ⟨Nat.le_of_ble_eq_true rfl, Nat.le_of_ble_eq_true rfl⟩ (fun r_1 st_2 hq => ?_)
  obtain ⟨hq, rfl⟩ := hq
  replace h := h r_1 hq
  exact kX5_judge_43 K hr hgl  x1 x2 x3 r_1 st h
theorem kX5_judge_30 {p : Program} {l : Launch} {e : Env} {s : State} {m : MethodId} {args : Array Value} {below : List Frame} {meth : Method} {c : Code} {A : Nat → Prop} {D : va_G} {ct : Nat → ClassId} {ad : Nat → Nat} {tl : va_W} {G : gE} {t : Nat} {post : Int32 → MS → Prop} (K : CX p s m args meth c cX5_judge 7 RX5 A D ct G) (hr : meth.sig.returnType = (some .int)) (hgl : gHas G t)   (x1 : Int32) (x2 : Int32) (x3 : Int32) (st : MS) (h : wX5_judge_30 post  x1 x2 x3 st) : jJ p l e { frames := 4, cells := 0, slots := 0, locals := 98 } s m args below meth c (MQ below (va_Qi post (fun u => cB D ct A (TW ct ad tl u)) A) args s 0 0 A) A D 7 (TW ct ad tl st) 0 0 30 [(0, .ref (ad 0)), (1, .int x1), (2, .int x2), (3, .int x3)] [] := by
  unfold wX5_judge_30 at h
  refine j_aload_n K 0 dX5_judge_30 rfl rfl ?_
  refine j_iload_n K 1 dX5_judge_31 rfl rfl ?_
  obtain ⟨hp, h⟩ := h
  refine j_callVi K (As := [.int x1]) (rest := []) (ctX5_second (l := l) (D := D) (ct := ct) (ad := ad) (tl := tl) (G := G) (t := t) K.2.2.2.2.2.2.2.2.2 hgl x1 st hp) gw5_65 gd5_65 ⟨Nat.le_of_ble_eq_true rfl, Nat.le_of_ble_eq_true rfl⟩ 0 rfl rfl rfl rfl rfl (Nat.le_of_ble_eq_true rfl) dX5_judge_32 ⟨Nat.le_of_ble_eq_true rfl, Nat.le_of_ble_eq_true rfl⟩ (fun r_1 st_2 hq => ?_)
  obtain ⟨hq, rfl⟩ := hq
  replace h := h r_1 hq
  refine j_goto K 43 dX5_judge_35 (by decide) ?_
  exact kX5_judge_43 K hr hgl  x1 x2 x3 r_1 st h
theorem kX5_judge_21 {p : Program} {l : Launch} {e : Env} {s : State} {m : MethodId} {args : Array Value} {below : List Frame} {meth : Method} {c : Code} {A : Nat → Prop} {D : va_G} {ct : Nat → ClassId} {ad : Nat → Nat} {tl : va_W} {G : gE} {t : Nat} {post : Int32 → MS → Prop} (K : CX p s m args meth c cX5_judge 7 RX5 A D ct G) (hr : meth.sig.returnType = (some .int)) (hgl : gHas G t)   (x1 : Int32) (x2 : Int32) (s0 : Int32) (st : MS) (h : wX5_judge_21 post  x1 x2 s0 st) : jJ p l e { frames := 4, cells := 0, slots := 0, locals := 98 } s m args below meth c (MQ below (va_Qi post (fun u => cB D ct A (TW ct ad tl u)) A) args s 0 0 A) A D 7 (TW ct ad tl st) 0 0 21 [(0, .ref (ad 0)), (1, .int x1), (2, .int x2)] [.int s0] := by
  unfold wX5_judge_21 at h
  refine j_istore_n K [(3, .int s0), (0, .ref (ad 0)), (1, .int x1), (2, .int x2)] dX5_judge_21 rfl (by decide) rfl ?_
  refine j_aload_n K 1 dX5_judge_22 rfl rfl ?_
  refine j_iload_n K 2 dX5_judge_23 rfl rfl ?_
  obtain ⟨hp, h⟩ := h
  refine j_callVi K (As := [.int x1]) (rest := []) (ctX5_mover (l := l) (D := D) (ct := ct) (ad := ad) (tl := tl) (G := G) (t := t) K.2.2.2.2.2.2.2.2.2 hgl x1 st hp) gw5_71 gd5_71 ⟨Nat.le_of_ble_eq_true rfl, Nat.le_of_ble_eq_true rfl⟩ 0 rfl rfl rfl rfl rfl (Nat.le_of_ble_eq_true rfl) dX5_judge_24 ⟨Nat.le_of_ble_eq_true rfl, Nat.le_of_ble_eq_true rfl⟩ (fun r_1 st_2 hq => ?_)
  obtain ⟨hq, rfl⟩ := hq
  replace h := h r_1 hq
  refine j_if_ne K 38 dX5_judge_27 (by decide) (fun hc => ?_) (fun hc => ?_)
  · refine j_lv K [1, 2, 3, 0] (lv' := [(0, .ref (ad 0)), (1, .int x1), (2, .int x2), (3, .int s0)]) rfl ?_
    exact kX5_judge_38 K hr hgl  x1 x2 s0 st (h.1 hc)
  · refine j_lv K [1, 2, 3, 0] (lv' := [(0, .ref (ad 0)), (1, .int x1), (2, .int x2), (3, .int s0)]) rfl ?_
    exact kX5_judge_30 K hr hgl  x1 x2 s0 st (h.2 hc)
theorem kX5_judge_16 {p : Program} {l : Launch} {e : Env} {s : State} {m : MethodId} {args : Array Value} {below : List Frame} {meth : Method} {c : Code} {A : Nat → Prop} {D : va_G} {ct : Nat → ClassId} {ad : Nat → Nat} {tl : va_W} {G : gE} {t : Nat} {post : Int32 → MS → Prop} (K : CX p s m args meth c cX5_judge 7 RX5 A D ct G) (hr : meth.sig.returnType = (some .int)) (hgl : gHas G t)   (x1 : Int32) (x2 : Int32) (st : MS) (h : wX5_judge_16 post  x1 x2 st) : jJ p l e { frames := 4, cells := 0, slots := 0, locals := 98 } s m args below meth c (MQ below (va_Qi post (fun u => cB D ct A (TW ct ad tl u)) A) args s 0 0 A) A D 7 (TW ct ad tl st) 0 0 16 [(0, .ref (ad 0)), (1, .int x1), (2, .int x2)] [] := by
  unfold wX5_judge_16 at h
  refine j_aload_n K 0 dX5_judge_16 rfl rfl ?_
  refine j_iload_n K 1 dX5_judge_17 rfl rfl ?_
  obtain ⟨hp, h⟩ := h
  refine j_callVi K (As := [.int x1]) (rest := []) (ctX5_second (l := l) (D := D) (ct := ct) (ad := ad) (tl := tl) (G := G) (t := t) K.2.2.2.2.2.2.2.2.2 hgl x1 st hp) gw5_65 gd5_65 ⟨Nat.le_of_ble_eq_true rfl, Nat.le_of_ble_eq_true rfl⟩ 0 rfl rfl rfl rfl rfl (Nat.le_of_ble_eq_true rfl) dX5_judge_18 ⟨Nat.le_of_ble_eq_true rfl, Nat.le_of_ble_eq_true rfl⟩ (fun r_1 st_2 hq => ?_)
  obtain ⟨hq, rfl⟩ := hq
  replace h := h r_1 hq
  exact kX5_judge_21 K hr hgl  x1 x2 r_1 st h
theorem kX5_judge_8 {p : Program} {l : Launch} {e : Env} {s : State} {m : MethodId} {args : Array Value} {below : List Frame} {meth : Method} {c : Code} {A : Nat → Prop} {D : va_G} {ct : Nat → ClassId} {ad : Nat → Nat} {tl : va_W} {G : gE} {t : Nat} {post : Int32 → MS → Prop} (K : CX p s m args meth c cX5_judge 7 RX5 A D ct G) (hr : meth.sig.returnType = (some .int)) (hgl : gHas G t)   (x1 : Int32) (x2 : Int32) (st : MS) (h : wX5_judge_8 post  x1 x2 st) : jJ p l e { frames := 4, cells := 0, slots := 0, locals := 98 } s m args below meth c (MQ below (va_Qi post (fun u => cB D ct A (TW ct ad tl u)) A) args s 0 0 A) A D 7 (TW ct ad tl st) 0 0 8 [(0, .ref (ad 0)), (1, .int x1), (2, .int x2)] [] := by
  unfold wX5_judge_8 at h
  refine j_aload_n K 0 dX5_judge_8 rfl rfl ?_
  refine j_iload_n K 1 dX5_judge_9 rfl rfl ?_
  obtain ⟨hp, h⟩ := h
  refine j_callVi K (As := [.int x1]) (rest := []) (ctX5_first (l := l) (D := D) (ct := ct) (ad := ad) (tl := tl) (G := G) (t := t) K.2.2.2.2.2.2.2.2.2 hgl x1 st hp) gw5_62 gd5_62 ⟨Nat.le_of_ble_eq_true rfl, Nat.le_of_ble_eq_true rfl⟩ 0 rfl rfl rfl rfl rfl (Nat.le_of_ble_eq_true rfl) dX5_judge_10 ⟨Nat.le_of_ble_eq_true rfl, Nat.le_of_ble_eq_true rfl⟩ (fun r_1 st_2 hq => ?_)
  obtain ⟨hq, rfl⟩ := hq
  replace h := h r_1 hq
  refine j_goto K 21 dX5_judge_13 (by decide) ?_
  exact kX5_judge_21 K hr hgl  x1 x2 r_1 st h
theorem kX5_judge_0 {p : Program} {l : Launch} {e : Env} {s : State} {m : MethodId} {args : Array Value} {below : List Frame} {meth : Method} {c : Code} {A : Nat → Prop} {D : va_G} {ct : Nat → ClassId} {ad : Nat → Nat} {tl : va_W} {G : gE} {t : Nat} {post : Int32 → MS → Prop} (K : CX p s m args meth c cX5_judge 7 RX5 A D ct G) (hr : meth.sig.returnType = (some .int)) (hgl : gHas G t)   (x1 : Int32) (x2 : Int32) (st : MS) (h : wX5_judge_0 post  x1 x2 st) : jJ p l e { frames := 4, cells := 0, slots := 0, locals := 98 } s m args below meth c (MQ below (va_Qi post (fun u => cB D ct A (TW ct ad tl u)) A) args s 0 0 A) A D 7 (TW ct ad tl st) 0 0 0 [(0, .ref (ad 0)), (1, .int x1), (2, .int x2)] [] := by
  unfold wX5_judge_0 at h
  refine j_aload_n K 0 dX5_judge_0 rfl rfl ?_
  refine j_iload_n K 1 dX5_judge_1 rfl rfl ?_
  obtain ⟨hp, h⟩ := h
  refine j_callVi K (As := [.int x1]) (rest := []) (ctX5_mover (l := l) (D := D) (ct := ct) (ad := ad) (tl := tl) (G := G) (t := t) K.2.2.2.2.2.2.2.2.2 hgl x1 st hp) gw5_71 gd5_71 ⟨Nat.le_of_ble_eq_true rfl, Nat.le_of_ble_eq_true rfl⟩ 0 rfl rfl rfl rfl rfl (Nat.le_of_ble_eq_true rfl) dX5_judge_2 ⟨Nat.le_of_ble_eq_true rfl, Nat.le_of_ble_eq_true rfl⟩ (fun r_1 st_2 hq => ?_)
  obtain ⟨hq, rfl⟩ := hq
  replace h := h r_1 hq
  refine j_if_ne K 16 dX5_judge_5 (by decide) (fun hc => ?_) (fun hc => ?_)
  · exact kX5_judge_16 K hr hgl  x1 x2 st (h.1 hc)
  · exact kX5_judge_8 K hr hgl  x1 x2 st (h.2 hc)
theorem ctX5_judge {l : Launch} {D : va_G} {ct : Nat → ClassId} {ad : Nat → Nat} {tl : va_W} {G : gE} {t : Nat} (hG : gOK G) (hgl : gHas G t) (x1 : Int32) (x2 : Int32) (st : MS) (hp : pX5_judge x1 x2 st) : ∀ sz, Met l yX5_judge (ws_ yX5_judge cX5_judge 7 (some .int)) { frames := 4, cells := 0, slots := 0, locals := 98 } (va_Pc [.ref (ad 0), .int x1, .int x2] (cPre G D ct (TW ct ad tl st) sz)) (va_Qi (fun (r : Int32) (u : MS) => qX5_judge x1 x2 st r ∧ st = u) (fun u => cB D ct (va_A (TW ct ad tl st) sz) (TW ct ad tl u)) (va_A (TW ct ad tl st) sz)) 0 0 (va_A (TW ct ad tl st) sz) := fun sz =>
  j_met (Qc := fun A => va_Qi (fun (r : Int32) (u : MS) => qX5_judge x1 x2 st r ∧ st = u) (fun u => cB D ct A (TW ct ad tl u)) A) (by decide) hG (Nat.le_of_ble_eq_true rfl) (fun p e s m args below meth c A K hr _ _ => kX5_judge_0 K hr hgl x1 x2 st (vcX5_judge x1 x2 st hp))
