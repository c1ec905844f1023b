/-! WALKS and CONTRACTS of Rules and Table (R), printed by gen_table.py -/
theorem gwU4_44 : GoodIn lw_all (va_wsU RX4 44 RX5 RX4 ⟨RX4, "hasLine", "(I)Z"⟩ yX4_hasLine (ws_ yX4_hasLine cX4_hasLine 4 (some .boolean))) := lw_U q439 q441 q442 q440 q87 q443
theorem gdU4_44 : RX4 ≠ "java/lang/invoke/MethodHandle" ∧ RX4 ≠ "java/lang/invoke/VarHandle" ∧ (parseMethodDescriptor (⟨RX4, "hasLine", "(I)Z"⟩ : MethodName).desc).map (fun d => d.parameters.length) = some 1 := by decide +kernel
theorem gwU4_48 : GoodIn lw_all (va_wsU RX4 48 RX5 RX4 ⟨RX4, "isLocked", "(II)Z"⟩ yX4_isLocked (ws_ yX4_isLocked cX4_isLocked 5 (some .boolean))) := lw_U q450 q452 q453 q451 q87 q454
theorem gdU4_48 : RX4 ≠ "java/lang/invoke/MethodHandle" ∧ RX4 ≠ "java/lang/invoke/VarHandle" ∧ (parseMethodDescriptor (⟨RX4, "isLocked", "(II)Z"⟩ : MethodName).desc).map (fun d => d.parameters.length) = some 2 := by decide +kernel
theorem gwU4_51 : GoodIn lw_all (va_wsU RX4 51 RX5 RX4 ⟨RX4, "hasLost", "(II)Z"⟩ yX4_hasLost (ws_ yX4_hasLost cX4_hasLost 3 (some .boolean))) := lw_U q568 q1272 q1273 q448 q87 q449
theorem gdU4_51 : RX4 ≠ "java/lang/invoke/MethodHandle" ∧ RX4 ≠ "java/lang/invoke/VarHandle" ∧ (parseMethodDescriptor (⟨RX4, "hasLost", "(II)Z"⟩ : MethodName).desc).map (fun d => d.parameters.length) = some 2 := by decide +kernel
theorem gwU4_58 : GoodIn lw_all (va_wsU RX4 58 RX5 RX4 ⟨RX4, "isPlain", "(III)Z"⟩ yX4_isPlain (ws_ yX4_isPlain cX4_isPlain 7 (some .boolean))) := lw_U q570 q572 q573 q571 q87 q574
theorem gdU4_58 : RX4 ≠ "java/lang/invoke/MethodHandle" ∧ RX4 ≠ "java/lang/invoke/VarHandle" ∧ (parseMethodDescriptor (⟨RX4, "isPlain", "(III)Z"⟩ : MethodName).desc).map (fun d => d.parameters.length) = some 3 := by decide +kernel
-- X4_next
theorem kX4_next_0 {p : Program} {l : Launch} {e : Env} {s : State} {m : MethodId} {args : Array Value} {below : List Frame} {meth : Method} {c : Code} {A : Nat → Prop} {D : va_G} {ct : Nat → ClassId} {ad : Nat → Nat} {tl : va_W} {G : gE} {t : Nat} {post : Int32 → MS → Prop} (K : CX p s m args meth c cX4_next 2 RX4 A D ct G) (hr : meth.sig.returnType = (some .int)) (hgl : gHas G t)   (x1 : Int32) (st : MS) (h : wX4_next_0 post  x1 st) : jJ p l e { frames := 0, cells := 0, slots := 0, locals := 0 } s m args below meth c (MQ below (va_Qi post (fun u => cB D ct A (TW ct ad tl u)) A) args s 0 0 A) A D 2 (TW ct ad tl st) 0 0 0 [(0, .ref (ad 0)), (1, .int x1)] [] := by
  unfold wX4_next_0 at h
  refine j_aload_n K 0 dX4_next_0 rfl rfl ?_
  refine tg_next K dX4_next_1 ?_
  refine j_iload_n K 1 dX4_next_4 rfl rfl ?_
  obtain ⟨hc, h⟩ := h
  refine tl_next K hc dX4_next_5 ?_
  exact j_iret st K hr rfl h (Nat.le_of_ble_eq_true rfl) (Nat.le_of_ble_eq_true rfl) dX4_next_6
theorem ctX4_next {l : Launch} {D : va_G} {ct : Nat → ClassId} {ad : Nat → Nat} {tl : va_W} {G : gE} {t : Nat} (hG : gOK G) (hgl : gHas G t) (x1 : Int32) (st : MS) (hp : pX4_next x1 st) : ∀ sz, Met l yX4_next (ws_ yX4_next cX4_next 2 (some .int)) { frames := 0, cells := 0, slots := 0, locals := 0 } (va_Pc [.ref (ad 0), .int x1] (cPre G D ct (TW ct ad tl st) sz)) (va_Qi (fun (r : Int32) (u : MS) => qX4_next x1 st r ∧ st = u) (fun u => cB D ct (va_A (TW ct ad tl st) sz) (TW ct ad tl u)) (va_A (TW ct ad tl st) sz)) 0 0 (va_A (TW ct ad tl st) sz) := fun sz =>
  j_met (Qc := fun A => va_Qi (fun (r : Int32) (u : MS) => qX4_next x1 st r ∧ st = u) (fun u => cB D ct A (TW ct ad tl u)) A) (by decide) hG (Nat.le_of_ble_eq_true rfl) (fun p e s m args below meth c A K hr _ _ => kX4_next_0 K hr hgl x1 st (vcX4_next x1 st hp))
-- X4_hasLine
theorem kX4_hasLine_41 {p : Program} {l : Launch} {e : Env} {s : State} {m : MethodId} {args : Array Value} {below : List Frame} {meth : Method} {c : Code} {A : Nat → Prop} {D : va_G} {ct : Nat → ClassId} {ad : Nat → Nat} {tl : va_W} {G : gE} {t : Nat} {post : Int32 → MS → Prop} (K : CX p s m args meth c cX4_hasLine 4 RX4 A D ct G) (hr : meth.sig.returnType = (some .boolean)) (hgl : gHas G t)   (x2 : Int32) (st : MS) (h : wX4_hasLine_41 post  x2 st) : jJ p l e { frames := 0, cells := 0, slots := 0, locals := 0 } s m args below meth c (MQ below (va_Qi post (fun u => cB D ct A (TW ct ad tl u)) A) args s 0 0 A) A D 4 (TW ct ad tl st) 0 0 41 [(2, .int x2)] [] := by
  unfold wX4_hasLine_41 at h
  refine j_iload_n K 0 dX4_hasLine_41 rfl rfl ?_
  exact j_zret st K hr rfl h.2 h.1 (Nat.le_of_ble_eq_true rfl) (Nat.le_of_ble_eq_true rfl) dX4_hasLine_42
theorem kX4_hasLine_33 {p : Program} {l : Launch} {e : Env} {s : State} {m : MethodId} {args : Array Value} {below : List Frame} {meth : Method} {c : Code} {A : Nat → Prop} {D : va_G} {ct : Nat → ClassId} {ad : Nat → Nat} {tl : va_W} {G : gE} {t : Nat} {post : Int32 → MS → Prop} (K : CX p s m args meth c cX4_hasLine 4 RX4 A D ct G) (hr : meth.sig.returnType = (some .boolean)) (hgl : gHas G t) (L4 : Int32 → Int32 → Int32 → MS → Prop) (hL4 : ∀ (x1 : Int32) (x2 : Int32) (x3 : Int32) (st : MS), L4 x1 x2 x3 st → jJ p l e { frames := 0, cells := 0, slots := 0, locals := 0 } s m args below meth c (MQ below (va_Qi post (fun u => cB D ct A (TW ct ad tl u)) A) args s 0 0 A) A D 4 (TW ct ad tl st) 0 0 4 [(0, .ref (ad 0)), (1, .int x1), (2, .int x2), (3, .int x3)] []) (x1 : Int32) (x3 : Int32) (s0 : Int32) (s1 : Int32) (st : MS) (h : wX4_hasLine_33 post L4 x1 x3 s0 s1 st) : jJ p l e { frames := 0, cells := 0, slots := 0, locals := 0 } s m args below meth c (MQ below (va_Qi post (fun u => cB D ct A (TW ct ad tl u)) A) args s 0 0 A) A D 4 (TW ct ad tl st) 0 0 33 [(0, .ref (ad 0)), (1, .int x1), (3, .int x3)] [.int s1, .int s0] := by
  unfold wX4_hasLine_33 at h
  refine j_ior K dX4_hasLine_33 ?_
  refine j_istore_n K [(2, .int (s0 ||| s1)), (0, .ref (ad 0)), (1, .int x1), (3, .int x3)] dX4_hasLine_34 rfl (by decide) rfl ?_
  refine j_iinc K 3 (x3 + (1 : Int32)) [(3, .int (x3 + (1 : Int32))), (2, .int (s0 ||| s1)), (0, .ref (ad 0)), (1, .int x1)] dX4_hasLine_35 rfl rfl (by decide) rfl ?_
  refine j_goto K 4 dX4_hasLine_38 (by decide) ?_
  refine j_lv K [2, 3, 1, 0] (lv' := [(0, .ref (ad 0)), (1, .int x1), (2, .int (s0 ||| s1)), (3, .int (x3 + (1 : Int32)))]) rfl ?_
  exact hL4 x1 (s0 ||| s1) (x3 + (1 : Int32)) st h
theorem kX4_hasLine_32 {p : Program} {l : Launch} {e : Env} {s : State} {m : MethodId} {args : Array Value} {below : List Frame} {meth : Method} {c : Code} {A : Nat → Prop} {D : va_G} {ct : Nat → ClassId} {ad : Nat → Nat} {tl : va_W} {G : gE} {t : Nat} {post : Int32 → MS → Prop} (K : CX p s m args meth c cX4_hasLine 4 RX4 A D ct G) (hr : meth.sig.returnType = (some .boolean)) (hgl : gHas G t) (L4 : Int32 → Int32 → Int32 → MS → Prop) (hL4 : ∀ (x1 : Int32) (x2 : Int32) (x3 : Int32) (st : MS), L4 x1 x2 x3 st → jJ p l e { frames := 0, cells := 0, slots := 0, locals := 0 } s m args below meth c (MQ below (va_Qi post (fun u => cB D ct A (TW ct ad tl u)) A) args s 0 0 A) A D 4 (TW ct ad tl st) 0 0 4 [(0, .ref (ad 0)), (1, .int x1), (2, .int x2), (3, .int x3)] []) (x1 : Int32) (x3 : Int32) (s0 : Int32) (st : MS) (h : wX4_hasLine_32 post L4 x1 x3 s0 st) : jJ p l e { frames := 0, cells := 0, slots := 0, locals := 0 } s m args below meth c (MQ below (va_Qi post (fun u => cB D ct A (TW ct ad tl u)) A) args s 0 0 A) A D 4 (TW ct ad tl st) 0 0 32 [(0, .ref (ad 0)), (1, .int x1), (3, .int x3)] [.int s0] := by
  unfold wX4_hasLine_32 at h
  refine j_iconst K (0 : Int32) dX4_hasLine_32 (by decide) ?_
  exact kX4_hasLine_33 K hr hgl L4 hL4 x1 x3 s0 (0 : Int32) st h
theorem kX4_hasLine_28 {p : Program} {l : Launch} {e : Env} {s : State} {m : MethodId} {args : Array Value} {below : List Frame} {meth : Method} {c : Code} {A : Nat → Prop} {D : va_G} {ct : Nat → ClassId} {ad : Nat → Nat} {tl : va_W} {G : gE} {t : Nat} {post : Int32 → MS → Prop} (K : CX p s m args meth c cX4_hasLine 4 RX4 A D ct G) (hr : meth.sig.returnType = (some .boolean)) (hgl : gHas G t) (L4 : Int32 → Int32 → Int32 → MS → Prop) (hL4 : ∀ (x1 : Int32) (x2 : Int32) (x3 : Int32) (st : MS), L4 x1 x2 x3 st → jJ p l e { frames := 0, cells := 0, slots := 0, locals := 0 } s m args below meth c (MQ below (va_Qi post (fun u => cB D ct A (TW ct ad tl u)) A) args s 0 0 A) A D 4 (TW ct ad tl st) 0 0 4 [(0, .ref (ad 0)), (1, .int x1), (2, .int x2), (3, .int x3)] []) (x1 : Int32) (x3 : Int32) (s0 : Int32) (st : MS) (h : wX4_hasLine_28 post L4 x1 x3 s0 st) : jJ p l e { frames := 0, cells := 0, slots := 0, locals := 0 } s m args below meth c (MQ below (va_Qi post (fun u => cB D ct A (TW ct ad tl u)) A) args s 0 0 A) A D 4 (TW ct ad tl st) 0 0 28 [(0, .ref (ad 0)), (1, .int x1), (3, .int x3)] [.int s0] := by
  unfold wX4_hasLine_28 at h
  refine j_iconst K (1 : Int32) dX4_hasLine_28 (by decide) ?_
  refine j_goto K 33 dX4_hasLine_29 (by decide) ?_
  exact kX4_hasLine_33 K hr hgl L4 hL4 x1 x3 s0 (1 : Int32) st h
theorem kX4_hasLine_12 {p : Program} {l : Launch} {e : Env} {s : State} {m : MethodId} {args : Array Value} {below : List Frame} {meth : Method} {c : Code} {A : Nat → Prop} {D : va_G} {ct : Nat → ClassId} {ad : Nat → Nat} {tl : va_W} {G : gE} {t : Nat} {post : Int32 → MS → Prop} (K : CX p s m args meth c cX4_hasLine 4 RX4 A D ct G) (hr : meth.sig.returnType = (some .boolean)) (hgl : gHas G t) (L4 : Int32 → Int32 → Int32 → MS → Prop) (hL4 : ∀ (x1 : Int32) (x2 : Int32) (x3 : Int32) (st : MS), L4 x1 x2 x3 st → jJ p l e { frames := 0, cells := 0, slots := 0, locals := 0 } s m args below meth c (MQ below (va_Qi post (fun u => cB D ct A (TW ct ad tl u)) A) args s 0 0 A) A D 4 (TW ct ad tl st) 0 0 4 [(0, .ref (ad 0)), (1, .int x1), (2, .int x2), (3, .int x3)] []) (x1 : Int32) (x2 : Int32) (x3 : Int32) (st : MS) (h : wX4_hasLine_12 post L4 x1 x2 x3 st) : jJ p l e { frames := 0, cells := 0, slots := 0, locals := 0 } s m args below meth c (MQ below (va_Qi post (fun u => cB D ct A (TW ct ad tl u)) A) args s 0 0 A) A D 4 (TW ct ad tl st) 0 0 12 [(0, .ref (ad 0)), (1, .int x1), (2, .int x2), (3, .int x3)] [] := by
  unfold wX4_hasLine_12 at h
  refine j_iload_n K 2 dX4_hasLine_12 rfl rfl ?_
  refine j_iload_n K 1 dX4_hasLine_13 rfl rfl ?_
  refine j_lines K hgl dX4_hasLine_14 ?_
  refine j_iload_n K 3 dX4_hasLine_17 rfl rfl ?_
  obtain ⟨hc, h⟩ := h
  refine j_line K hgl hc dX4_hasLine_18 ?_
  refine j_iand K dX4_hasLine_19 ?_
  refine j_lines K hgl dX4_hasLine_20 ?_
  refine j_iload_n K 3 dX4_hasLine_23 rfl rfl ?_
  obtain ⟨hc, h⟩ := h
  refine j_line K hgl hc dX4_hasLine_24 ?_
  refine j_icmp_ne K 32 dX4_hasLine_25 (by decide) (fun hc => ?_) (fun hc => ?_)
  · refine j_lv K [0, 1, 3] (lv' := [(0, .ref (ad 0)), (1, .int x1), (3, .int x3)]) rfl ?_
    exact kX4_hasLine_32 K hr hgl L4 hL4 x1 x3 x2 st (h.1 hc)
  · refine j_lv K [0, 1, 3] (lv' := [(0, .ref (ad 0)), (1, .int x1), (3, .int x3)]) rfl ?_
    exact kX4_hasLine_28 K hr hgl L4 hL4 x1 x3 x2 st (h.2 hc)
theorem kX4_hasLine_4_b {p : Program} {l : Launch} {e : Env} {s : State} {m : MethodId} {args : Array Value} {below : List Frame} {meth : Method} {c : Code} {A : Nat → Prop} {D : va_G} {ct : Nat → ClassId} {ad : Nat → Nat} {tl : va_W} {G : gE} {t : Nat} {post : Int32 → MS → Prop} (K : CX p s m args meth c cX4_hasLine 4 RX4 A D ct G) (hr : meth.sig.returnType = (some .boolean)) (hgl : gHas G t) (L4 : Int32 → Int32 → Int32 → MS → Prop) (hL4 : ∀ (x1 : Int32) (x2 : Int32) (x3 : Int32) (st : MS), L4 x1 x2 x3 st → jJ p l e { frames := 0, cells := 0, slots := 0, locals := 0 } s m args below meth c (MQ below (va_Qi post (fun u => cB D ct A (TW ct ad tl u)) A) args s 0 0 A) A D 4 (TW ct ad tl st) 0 0 4 [(0, .ref (ad 0)), (1, .int x1), (2, .int x2), (3, .int x3)] []) (x1 : Int32) (x2 : Int32) (x3 : Int32) (st : MS) (h : wX4_hasLine_4_b post L4 x1 x2 x3 st) : jJ p l e { frames := 0, cells := 0, slots := 0, locals := 0 } s m args below meth c (MQ below (va_Qi post (fun u => cB D ct A (TW ct ad tl u)) A) args s 0 0 A) A D 4 (TW ct ad tl st) 0 0 4 [(0, .ref (ad 0)), (1, .int x1), (2, .int x2), (3, .int x3)] [] := by
  unfold wX4_hasLine_4_b at h
  refine j_iload_n K 3 dX4_hasLine_4 rfl rfl ?_
  refine j_aload_n K 0 dX4_hasLine_5 rfl rfl ?_
  refine tg_lines K dX4_hasLine_6 ?_
  refine j_icmp_ge K 41 dX4_hasLine_9 (by decide) (fun hc => ?_) (fun hc => ?_)
  · refine j_lv K [2] (lv' := [(2, .int x2)]) rfl ?_
    exact kX4_hasLine_41 K hr hgl  x2 st (h.1 hc)
  · exact kX4_hasLine_12 K hr hgl L4 hL4 x1 x2 x3 st (h.2 hc)
theorem kX4_hasLine_4 {p : Program} {l : Launch} {e : Env} {s : State} {m : MethodId} {args : Array Value} {below : List Frame} {meth : Method} {c : Code} {A : Nat → Prop} {D : va_G} {ct : Nat → ClassId} {ad : Nat → Nat} {tl : va_W} {G : gE} {t : Nat} {post : Int32 → MS → Prop} (K : CX p s m args meth c cX4_hasLine 4 RX4 A D ct G) (hr : meth.sig.returnType = (some .boolean)) (hgl : gHas G t)   (x1 : Int32) (x2 : Int32) (x3 : Int32) (st : MS) (h : wX4_hasLine_4 post  x1 x2 x3 st) : jJ p l e { frames := 0, cells := 0, slots := 0, locals := 0 } s m args below meth c (MQ below (va_Qi post (fun u => cB D ct A (TW ct ad tl u)) A) args s 0 0 A) A D 4 (TW ct ad tl st) 0 0 4 [(0, .ref (ad 0)), (1, .int x1), (2, .int x2), (3, .int x3)] [] :=
  wloop_sound (V := Int32 × Int32 × Int32 × MS) (Wk := fun v => jJ p l e { frames := 0, cells := 0, slots := 0, locals := 0 } s m args below meth c (MQ below (va_Qi post (fun u => cB D ct A (TW ct ad tl u)) A) args s 0 0 A) A D 4 (TW ct ad tl v.2.2.2) 0 0 4 [(0, .ref (ad 0)), (1, .int v.1), (2, .int v.2.1), (3, .int v.2.2.1)] []) (fun L hL v hb => kX4_hasLine_4_b K hr hgl (fun x1 x2 x3 st => L (x1, x2, x3, st)) (fun x1 x2 x3 st hx => hL (x1, x2, x3, st) hx) v.1 v.2.1 v.2.2.1 v.2.2.2 hb) h
theorem kX4_hasLine_0 {p : Program} {l : Launch} {e : Env} {s : State} {m : MethodId} {args : Array Value} {below : List Frame} {meth : Method} {c : Code} {A : Nat → Prop} {D : va_G} {ct : Nat → ClassId} {ad : Nat → Nat} {tl : va_W} {G : gE} {t : Nat} {post : Int32 → MS → Prop} (K : CX p s m args meth c cX4_hasLine 4 RX4 A D ct G) (hr : meth.sig.returnType = (some .boolean)) (hgl : gHas G t)   (x1 : Int32) (st : MS) (h : wX4_hasLine_0 post  x1 st) : jJ p l e { frames := 0, cells := 0, slots := 0, locals := 0 } s m args below meth c (MQ below (va_Qi post (fun u => cB D ct A (TW ct ad tl u)) A) args s 0 0 A) A D 4 (TW ct ad tl st) 0 0 0 [(0, .ref (ad 0)), (1, .int x1)] [] := by
  unfold wX4_hasLine_0 at h
  refine j_iconst K (0 : Int32) dX4_hasLine_0 (by decide) ?_
  refine j_istore_n K [(2, .int (0 : Int32)), (0, .ref (ad 0)), (1, .int x1)] dX4_hasLine_1 rfl (by decide) rfl ?_
  refine j_iconst K (0 : Int32) dX4_hasLine_2 (by decide) ?_
  refine j_istore_n K [(3, .int (0 : Int32)), (2, .int (0 : Int32)), (0, .ref (ad 0)), (1, .int x1)] dX4_hasLine_3 rfl (by decide) rfl ?_
  refine j_lv K [2, 3, 1, 0] (lv' := [(0, .ref (ad 0)), (1, .int x1), (2, .int (0 : Int32)), (3, .int (0 : Int32))]) rfl ?_
  exact kX4_hasLine_4 K hr hgl  x1 (0 : Int32) (0 : Int32) st h
theorem ctX4_hasLine {l : Launch} {D : va_G} {ct : Nat → ClassId} {ad : Nat → Nat} {tl : va_W} {G : gE} {t : Nat} (hG : gOK G) (hgl : gHas G t) (x1 : Int32) (st : MS) (hp : pX4_hasLine x1 st) : ∀ sz, Met l yX4_hasLine (ws_ yX4_hasLine cX4_hasLine 4 (some .boolean)) { frames := 0, cells := 0, slots := 0, locals := 0 } (va_Pc [.ref (ad 0), .int x1] (cPre G D ct (TW ct ad tl st) sz)) (va_Qi (fun (r : Int32) (u : MS) => qX4_hasLine x1 st r ∧ st = u) (fun u => cB D ct (va_A (TW ct ad tl st) sz) (TW ct ad tl u)) (va_A (TW ct ad tl st) sz)) 0 0 (va_A (TW ct ad tl st) sz) := fun sz =>
  j_met (Qc := fun A => va_Qi (fun (r : Int32) (u : MS) => qX4_hasLine x1 st r ∧ st = u) (fun u => cB D ct A (TW ct ad tl u)) A) (by decide) hG (Nat.le_of_ble_eq_true rfl) (fun p e s m args below meth c A K hr _ _ => kX4_hasLine_0 K hr hgl x1 st (vcX4_hasLine x1 st hp))
-- X4_isLocked
theorem kX4_isLocked_67 {p : Program} {l : Launch} {e : Env} {s : State} {m : MethodId} {args : Array Value} {below : List Frame} {meth : Method} {c : Code} {A : Nat → Prop} {D : va_G} {ct : Nat → ClassId} {ad : Nat → Nat} {tl : va_W} {G : gE} {t : Nat} {post : Int32 → MS → Prop} (K : CX p s m args meth c cX4_isLocked 5 RX4 A D ct G) (hr : meth.sig.returnType = (some .boolean)) (hgl : gHas G t)   (s0 : Int32) (st : MS) (h : wX4_isLocked_67 post  s0 st) : jJ p l e { frames := 1, cells := 0, slots := 0, locals := 20 } s m args below meth c (MQ below (va_Qi post (fun u => cB D ct A (TW ct ad tl u)) A) args s 0 0 A) A D 5 (TW ct ad tl st) 0 0 67 [] [.int s0] := by
  unfold wX4_isLocked_67 at h
  exact j_zret st K hr rfl h.2 h.1 (Nat.le_of_ble_eq_true rfl) (Nat.le_of_ble_eq_true rfl) dX4_isLocked_67
theorem kX4_isLocked_66 {p : Program} {l : Launch} {e : Env} {s : State} {m : MethodId} {args : Array Value} {below : List Frame} {meth : Method} {c : Code} {A : Nat → Prop} {D : va_G} {ct : Nat → ClassId} {ad : Nat → Nat} {tl : va_W} {G : gE} {t : Nat} {post : Int32 → MS → Prop} (K : CX p s m args meth c cX4_isLocked 5 RX4 A D ct G) (hr : meth.sig.returnType = (some .boolean)) (hgl : gHas G t)    (st : MS) (h : wX4_isLocked_66 post  st) : jJ p l e { frames := 1, cells := 0, slots := 0, locals := 20 } s m args below meth c (MQ below (va_Qi post (fun u => cB D ct A (TW ct ad tl u)) A) args s 0 0 A) A D 5 (TW ct ad tl st) 0 0 66 [] [] := by
  unfold wX4_isLocked_66 at h
  refine j_iconst K (0 : Int32) dX4_isLocked_66 (by decide) ?_
  exact kX4_isLocked_67 K hr hgl  (0 : Int32) st h
theorem kX4_isLocked_62 {p : Program} {l : Launch} {e : Env} {s : State} {m : MethodId} {args : Array Value} {below : List Frame} {meth : Method} {c : Code} {A : Nat → Prop} {D : va_G} {ct : Nat → ClassId} {ad : Nat → Nat} {tl : va_W} {G : gE} {t : Nat} {post : Int32 → MS → Prop} (K : CX p s m args meth c cX4_isLocked 5 RX4 A D ct G) (hr : meth.sig.returnType = (some .boolean)) (hgl : gHas G t)    (st : MS) (h : wX4_isLocked_62 post  st) : jJ p l e { frames := 1, cells := 0, slots := 0, locals := 20 } s m args below meth c (MQ below (va_Qi post (fun u => cB D ct A (TW ct ad tl u)) A) args s 0 0 A) A D 5 (TW ct ad tl st) 0 0 62 [] [] := by
  unfold wX4_isLocked_62 at h
  refine j_iconst K (1 : Int32) dX4_isLocked_62 (by decide) ?_
  refine j_goto K 67 dX4_isLocked_63 (by decide) ?_
  exact kX4_isLocked_67 K hr hgl  (1 : Int32) st h
theorem kX4_isLocked_50 {p : Program} {l : Launch} {e : Env} {s : State} {m : MethodId} {args : Array Value} {below : List Frame} {meth : Method} {c : Code} {A : Nat → Prop} {D : va_G} {ct : Nat → ClassId} {ad : Nat → Nat} {tl : va_W} {G : gE} {t : Nat} {post : Int32 → MS → Prop} (K : CX p s m args meth c cX4_isLocked 5 RX4 A D ct G) (hr : meth.sig.returnType = (some .boolean)) (hgl : gHas G t)   (x1 : Int32) (x2 : Int32) (x3 : Int32) (st : MS) (h : wX4_isLocked_50 post  x1 x2 x3 st) : jJ p l e { frames := 1, cells := 0, slots := 0, locals := 20 } s m args below meth c (MQ below (va_Qi post (fun u => cB D ct A (TW ct ad tl u)) A) args s 0 0 A) A D 5 (TW ct ad tl st) 0 0 50 [(1, .int x1), (2, .int x2), (3, .int x3)] [] := by
  unfold wX4_isLocked_50 at h
  refine j_iload_n K 2 dX4_isLocked_50 rfl rfl ?_
  refine j_iload_n K 0 dX4_isLocked_51 rfl rfl ?_
  refine j_iconst K (-1 : Int32) dX4_isLocked_52 (by decide) ?_
  refine j_ixor K dX4_isLocked_53 ?_
  refine j_iand K dX4_isLocked_54 ?_
  refine j_iload_n K 1 dX4_isLocked_55 rfl rfl ?_
  refine j_iconst K (-1 : Int32) dX4_isLocked_56 (by decide) ?_
  refine j_ixor K dX4_isLocked_57 ?_
  refine j_iand K dX4_isLocked_58 ?_
  refine j_if_ne K 66 dX4_isLocked_59 (by decide) (fun hc => ?_) (fun hc => ?_)
  · refine j_lv K [] (lv' := []) rfl ?_
    exact kX4_isLocked_66 K hr hgl  st (h.1 hc)
  · refine j_lv K [] (lv' := []) rfl ?_
    exact kX4_isLocked_62 K hr hgl  st (h.2 hc)
theorem kX4_isLocked_42 {p : Program} {l : Launch} {e : Env} {s : State} {m : MethodId} {args : Array Value} {below : List Frame} {meth : Method} {c : Code} {A : Nat → Prop} {D : va_G} {ct : Nat → ClassId} {ad : Nat → Nat} {tl : va_W} {G : gE} {t : Nat} {post : Int32 → MS → Prop} (K : CX p s m args meth c cX4_isLocked 5 RX4 A D ct G) (hr : meth.sig.returnType = (some .boolean)) (hgl : gHas G t)   (x1 : Int32) (x2 : Int32) (x3 : Int32) (st : MS) (h : wX4_isLocked_42 post  x1 x2 x3 st) : jJ p l e { frames := 1, cells := 0, slots := 0, locals := 20 } s m args below meth c (MQ below (va_Qi post (fun u => cB D ct A (TW ct ad tl u)) A) args s 0 0 A) A D 5 (TW ct ad tl st) 0 0 42 [(1, .int x1), (2, .int x2), (3, .int x3)] [] := by
  unfold wX4_isLocked_42 at h
  refine j_iload_n K 0 dX4_isLocked_42 rfl rfl ?_
  refine j_callSi K (As := [.int x1]) (rest := []) (ctJ12_bitCount (l := l) (D := D) (ct := ct) (G := G) (ws := (TW ct ad tl st)) K.2.2.2.2.2.2.2.2.2 x1) (lw_S q438 q423 q90 q424) (n := 1) (by decide +kernel) ⟨Nat.le_of_ble_eq_true rfl, Nat.le_of_ble_eq_true rfl⟩ rfl rfl (Nat.le_of_ble_eq_true rfl) dX4_isLocked_43 ⟨Nat.le_of_ble_eq_true rfl, Nat.le_of_ble_eq_true rfl⟩ (fun r_1 _ hq => ?_)
  replace h := h r_1 hq
  refine j_iconst K (3 : Int32) dX4_isLocked_46 (by decide) ?_
  refine j_icmp_ne K 66 dX4_isLocked_47 (by decide) (fun hc => ?_) (fun hc => ?_)
  · refine j_lv K [] (lv' := []) rfl ?_
    exact kX4_isLocked_66 K hr hgl  st (h.1 hc)
  · exact kX4_isLocked_50 K hr hgl  x1 x2 x3 st (h.2 hc)
theorem kX4_isLocked_34 {p : Program} {l : Launch} {e : Env} {s : State} {m : MethodId} {args : Array Value} {below : List Frame} {meth : Method} {c : Code} {A : Nat → Prop} {D : va_G} {ct : Nat → ClassId} {ad : Nat → Nat} {tl : va_W} {G : gE} {t : Nat} {post : Int32 → MS → Prop} (K : CX p s m args meth c cX4_isLocked 5 RX4 A D ct G) (hr : meth.sig.returnType = (some .boolean)) (hgl : gHas G t) (L5 : Int32 → Int32 → Int32 → Int32 → MS → Prop) (hL5 : ∀ (x1 : Int32) (x2 : Int32) (x3 : Int32) (x4 : Int32) (st : MS), L5 x1 x2 x3 x4 st → jJ p l e { frames := 1, cells := 0, slots := 0, locals := 20 } s m args below meth c (MQ below (va_Qi post (fun u => cB D ct A (TW ct ad tl u)) A) args s 0 0 A) A D 5 (TW ct ad tl st) 0 0 5 [(0, .ref (ad 0)), (1, .int x1), (2, .int x2), (3, .int x3), (4, .int x4)] []) (x1 : Int32) (x2 : Int32) (x4 : Int32) (s0 : Int32) (s1 : Int32) (st : MS) (h : wX4_isLocked_34 post L5 x1 x2 x4 s0 s1 st) : jJ p l e { frames := 1, cells := 0, slots := 0, locals := 20 } s m args below meth c (MQ below (va_Qi post (fun u => cB D ct A (TW ct ad tl u)) A) args s 0 0 A) A D 5 (TW ct ad tl st) 0 0 34 [(0, .ref (ad 0)), (1, .int x1), (2, .int x2), (4, .int x4)] [.int s1, .int s0] := by
  unfold wX4_isLocked_34 at h
  refine j_ior K dX4_isLocked_34 ?_
  refine j_istore_n K [(3, .int (s0 ||| s1)), (0, .ref (ad 0)), (1, .int x1), (2, .int x2), (4, .int x4)] dX4_isLocked_35 rfl (by decide) rfl ?_
  refine j_iinc K 4 (x4 + (1 : Int32)) [(4, .int (x4 + (1 : Int32))), (3, .int (s0 ||| s1)), (0, .ref (ad 0)), (1, .int x1), (2, .int x2)] dX4_isLocked_36 rfl rfl (by decide) rfl ?_
  refine j_goto K 5 dX4_isLocked_39 (by decide) ?_
  refine j_lv K [2, 3, 4, 1, 0] (lv' := [(0, .ref (ad 0)), (1, .int x1), (2, .int x2), (3, .int (s0 ||| s1)), (4, .int (x4 + (1 : Int32)))]) rfl ?_
  exact hL5 x1 x2 (s0 ||| s1) (x4 + (1 : Int32)) st h
theorem kX4_isLocked_33 {p : Program} {l : Launch} {e : Env} {s : State} {m : MethodId} {args : Array Value} {below : List Frame} {meth : Method} {c : Code} {A : Nat → Prop} {D : va_G} {ct : Nat → ClassId} {ad : Nat → Nat} {tl : va_W} {G : gE} {t : Nat} {post : Int32 → MS → Prop} (K : CX p s m args meth c cX4_isLocked 5 RX4 A D ct G) (hr : meth.sig.returnType = (some .boolean)) (hgl : gHas G t) (L5 : Int32 → Int32 → Int32 → Int32 → MS → Prop) (hL5 : ∀ (x1 : Int32) (x2 : Int32) (x3 : Int32) (x4 : Int32) (st : MS), L5 x1 x2 x3 x4 st → jJ p l e { frames := 1, cells := 0, slots := 0, locals := 20 } s m args below meth c (MQ below (va_Qi post (fun u => cB D ct A (TW ct ad tl u)) A) args s 0 0 A) A D 5 (TW ct ad tl st) 0 0 5 [(0, .ref (ad 0)), (1, .int x1), (2, .int x2), (3, .int x3), (4, .int x4)] []) (x1 : Int32) (x2 : Int32) (x4 : Int32) (s0 : Int32) (st : MS) (h : wX4_isLocked_33 post L5 x1 x2 x4 s0 st) : jJ p l e { frames := 1, cells := 0, slots := 0, locals := 20 } s m args below meth c (MQ below (va_Qi post (fun u => cB D ct A (TW ct ad tl u)) A) args s 0 0 A) A D 5 (TW ct ad tl st) 0 0 33 [(0, .ref (ad 0)), (1, .int x1), (2, .int x2), (4, .int x4)] [.int s0] := by
  unfold wX4_isLocked_33 at h
  refine j_iconst K (0 : Int32) dX4_isLocked_33 (by decide) ?_
  exact kX4_isLocked_34 K hr hgl L5 hL5 x1 x2 x4 s0 (0 : Int32) st h
theorem kX4_isLocked_23 {p : Program} {l : Launch} {e : Env} {s : State} {m : MethodId} {args : Array Value} {below : List Frame} {meth : Method} {c : Code} {A : Nat → Prop} {D : va_G} {ct : Nat → ClassId} {ad : Nat → Nat} {tl : va_W} {G : gE} {t : Nat} {post : Int32 → MS → Prop} (K : CX p s m args meth c cX4_isLocked 5 RX4 A D ct G) (hr : meth.sig.returnType = (some .boolean)) (hgl : gHas G t) (L5 : Int32 → Int32 → Int32 → Int32 → MS → Prop) (hL5 : ∀ (x1 : Int32) (x2 : Int32) (x3 : Int32) (x4 : Int32) (st : MS), L5 x1 x2 x3 x4 st → jJ p l e { frames := 1, cells := 0, slots := 0, locals := 20 } s m args below meth c (MQ below (va_Qi post (fun u => cB D ct A (TW ct ad tl u)) A) args s 0 0 A) A D 5 (TW ct ad tl st) 0 0 5 [(0, .ref (ad 0)), (1, .int x1), (2, .int x2), (3, .int x3), (4, .int x4)] []) (x1 : Int32) (x2 : Int32) (x4 : Int32) (s0 : Int32) (st : MS) (h : wX4_isLocked_23 post L5 x1 x2 x4 s0 st) : jJ p l e { frames := 1, cells := 0, slots := 0, locals := 20 } s m args below meth c (MQ below (va_Qi post (fun u => cB D ct A (TW ct ad tl u)) A) args s 0 0 A) A D 5 (TW ct ad tl st) 0 0 23 [(0, .ref (ad 0)), (1, .int x1), (2, .int x2), (4, .int x4)] [.int s0] := by
  unfold wX4_isLocked_23 at h
  refine j_aload_n K 0 dX4_isLocked_23 rfl rfl ?_
  refine tg_next K dX4_isLocked_24 ?_
  refine j_iload K 3 dX4_isLocked_27 rfl ?_
  obtain ⟨hc, h⟩ := h
  refine tl_next K hc dX4_isLocked_29 ?_
  refine j_goto K 34 dX4_isLocked_30 (by decide) ?_
  exact kX4_isLocked_34 K hr hgl L5 hL5 x1 x2 x4 s0 (st.1 0 (x4).toNatClampNeg) st h
theorem kX4_isLocked_12 {p : Program} {l : Launch} {e : Env} {s : State} {m : MethodId} {args : Array Value} {below : List Frame} {meth : Method} {c : Code} {A : Nat → Prop} {D : va_G} {ct : Nat → ClassId} {ad : Nat → Nat} {tl : va_W} {G : gE} {t : Nat} {post : Int32 → MS → Prop} (K : CX p s m args meth c cX4_isLocked 5 RX4 A D ct G) (hr : meth.sig.returnType = (some .boolean)) (hgl : gHas G t) (L5 : Int32 → Int32 → Int32 → Int32 → MS → Prop) (hL5 : ∀ (x1 : Int32) (x2 : Int32) (x3 : Int32) (x4 : Int32) (st : MS), L5 x1 x2 x3 x4 st → jJ p l e { frames := 1, cells := 0, slots := 0, locals := 20 } s m args below meth c (MQ below (va_Qi post (fun u => cB D ct A (TW ct ad tl u)) A) args s 0 0 A) A D 5 (TW ct ad tl st) 0 0 5 [(0, .ref (ad 0)), (1, .int x1), (2, .int x2), (3, .int x3), (4, .int x4)] []) (x1 : Int32) (x2 : Int32) (x3 : Int32) (x4 : Int32) (st : MS) (h : wX4_isLocked_12 post L5 x1 x2 x3 x4 st) : jJ p l e { frames := 1, cells := 0, slots := 0, locals := 20 } s m args below meth c (MQ below (va_Qi post (fun u => cB D ct A (TW ct ad tl u)) A) args s 0 0 A) A D 5 (TW ct ad tl st) 0 0 12 [(0, .ref (ad 0)), (1, .int x1), (2, .int x2), (3, .int x3), (4, .int x4)] [] := by
  unfold wX4_isLocked_12 at h
  refine j_iload_n K 3 dX4_isLocked_12 rfl rfl ?_
  refine j_iload_n K 1 dX4_isLocked_13 rfl rfl ?_
  refine j_iload K 4 dX4_isLocked_14 rfl ?_
  refine j_ishr K dX4_isLocked_16 ?_
  refine j_iconst K (1 : Int32) dX4_isLocked_17 (by decide) ?_
  refine j_iand K dX4_isLocked_18 ?_
  refine j_iconst K (1 : Int32) dX4_isLocked_19 (by decide) ?_
  refine j_icmp_ne K 33 dX4_isLocked_20 (by decide) (fun hc => ?_) (fun hc => ?_)
  · refine j_lv K [0, 1, 2, 4] (lv' := [(0, .ref (ad 0)), (1, .int x1), (2, .int x2), (4, .int x4)]) rfl ?_
    exact kX4_isLocked_33 K hr hgl L5 hL5 x1 x2 x4 x3 st (h.1 hc)
  · refine j_lv K [0, 1, 2, 4] (lv' := [(0, .ref (ad 0)), (1, .int x1), (2, .int x2), (4, .int x4)]) rfl ?_
    exact kX4_isLocked_23 K hr hgl L5 hL5 x1 x2 x4 x3 st (h.2 hc)
theorem kX4_isLocked_5_b {p : Program} {l : Launch} {e : Env} {s : State} {m : MethodId} {args : Array Value} {below : List Frame} {meth : Method} {c : Code} {A : Nat → Prop} {D : va_G} {ct : Nat → ClassId} {ad : Nat → Nat} {tl : va_W} {G : gE} {t : Nat} {post : Int32 → MS → Prop} (K : CX p s m args meth c cX4_isLocked 5 RX4 A D ct G) (hr : meth.sig.returnType = (some .boolean)) (hgl : gHas G t) (L5 : Int32 → Int32 → Int32 → Int32 → MS → Prop) (hL5 : ∀ (x1 : Int32) (x2 : Int32) (x3 : Int32) (x4 : Int32) (st : MS), L5 x1 x2 x3 x4 st → jJ p l e { frames := 1, cells := 0, slots := 0, locals := 20 } s m args below meth c (MQ below (va_Qi post (fun u => cB D ct A (TW ct ad tl u)) A) args s 0 0 A) A D 5 (TW ct ad tl st) 0 0 5 [(0, .ref (ad 0)), (1, .int x1), (2, .int x2), (3, .int x3), (4, .int x4)] []) (x1 : Int32) (x2 : Int32) (x3 : Int32) (x4 : Int32) (st : MS) (h : wX4_isLocked_5_b post L5 x1 x2 x3 x4 st) : jJ p l e { frames := 1, cells := 0, slots := 0, locals := 20 } s m args below meth c (MQ below (va_Qi post (fun u => cB D ct A (TW ct ad tl u)) A) args s 0 0 A) A D 5 (TW ct ad tl st) 0 0 5 [(0, .ref (ad 0)), (1, .int x1), (2, .int x2), (3, .int x3), (4, .int x4)] [] := by
  unfold wX4_isLocked_5_b at h
  refine j_iload K 4 dX4_isLocked_5 rfl ?_
  refine j_bipush K (9 : Int32) dX4_isLocked_7 (by decide) ?_
  refine j_icmp_ge K 42 dX4_isLocked_9 (by decide) (fun hc => ?_) (fun hc => ?_)
  · refine j_lv K [1, 2, 3] (lv' := [(1, .int x1), (2, .int x2), (3, .int x3)]) rfl ?_
    exact kX4_isLocked_42 K hr hgl  x1 x2 x3 st (h.1 hc)
  · exact kX4_isLocked_12 K hr hgl L5 hL5 x1 x2 x3 x4 st (h.2 hc)
theorem kX4_isLocked_5 {p : Program} {l : Launch} {e : Env} {s : State} {m : MethodId} {args : Array Value} {below : List Frame} {meth : Method} {c : Code} {A : Nat → Prop} {D : va_G} {ct : Nat → ClassId} {ad : Nat → Nat} {tl : va_W} {G : gE} {t : Nat} {post : Int32 → MS → Prop} (K : CX p s m args meth c cX4_isLocked 5 RX4 A D ct G) (hr : meth.sig.returnType = (some .boolean)) (hgl : gHas G t)   (x1 : Int32) (x2 : Int32) (x3 : Int32) (x4 : Int32) (st : MS) (h : wX4_isLocked_5 post  x1 x2 x3 x4 st) : jJ p l e { frames := 1, cells := 0, slots := 0, locals := 20 } s m args below meth c (MQ below (va_Qi post (fun u => cB D ct A (TW ct ad tl u)) A) args s 0 0 A) A D 5 (TW ct ad tl st) 0 0 5 [(0, .ref (ad 0)), (1, .int x1), (2, .int x2), (3, .int x3), (4, .int x4)] [] :=
  wloop_sound (V := Int32 × Int32 × Int32 × Int32 × MS) (Wk := fun v => jJ p l e { frames := 1, cells := 0, slots := 0, locals := 20 } s m args below meth c (MQ below (va_Qi post (fun u => cB D ct A (TW ct ad tl u)) A) args s 0 0 A) A D 5 (TW ct ad tl v.2.2.2.2) 0 0 5 [(0, .ref (ad 0)), (1, .int v.1), (2, .int v.2.1), (3, .int v.2.2.1), (4, .int v.2.2.2.1)] []) (fun L hL v hb => kX4_isLocked_5_b K hr hgl (fun x1 x2 x3 x4 st => L (x1, x2, x3, x4, st)) (fun x1 x2 x3 x4 st hx => hL (x1, x2, x3, x4, st) hx) v.1 v.2.1 v.2.2.1 v.2.2.2.1 v.2.2.2.2 hb) h
theorem kX4_isLocked_0 {p : Program} {l : Launch} {e : Env} {s : State} {m : MethodId} {args : Array Value} {below : List Frame} {meth : Method} {c : Code} {A : Nat → Prop} {D : va_G} {ct : Nat → ClassId} {ad : Nat → Nat} {tl : va_W} {G : gE} {t : Nat} {post : Int32 → MS → Prop} (K : CX p s m args meth c cX4_isLocked 5 RX4 A D ct G) (hr : meth.sig.returnType = (some .boolean)) (hgl : gHas G t)   (x1 : Int32) (x2 : Int32) (st : MS) (h : wX4_isLocked_0 post  x1 x2 st) : jJ p l e { frames := 1, cells := 0, slots := 0, locals := 20 } s m args below meth c (MQ below (va_Qi post (fun u => cB D ct A (TW ct ad tl u)) A) args s 0 0 A) A D 5 (TW ct ad tl st) 0 0 0 [(0, .ref (ad 0)), (1, .int x1), (2, .int x2)] [] := by
  unfold wX4_isLocked_0 at h
  refine j_iconst K (0 : Int32) dX4_isLocked_0 (by decide) ?_
  refine j_istore_n K [(3, .int (0 : Int32)), (0, .ref (ad 0)), (1, .int x1), (2, .int x2)] dX4_isLocked_1 rfl (by decide) rfl ?_
  refine j_iconst K (0 : Int32) dX4_isLocked_2 (by decide) ?_
  refine j_istore K [(4, .int (0 : Int32)), (3, .int (0 : Int32)), (0, .ref (ad 0)), (1, .int x1), (2, .int x2)] dX4_isLocked_3 (by decide) rfl ?_
  refine j_lv K [2, 3, 4, 1, 0] (lv' := [(0, .ref (ad 0)), (1, .int x1), (2, .int x2), (3, .int (0 : Int32)), (4, .int (0 : Int32))]) rfl ?_
  exact kX4_isLocked_5 K hr hgl  x1 x2 (0 : Int32) (0 : Int32) st h
theorem ctX4_isLocked {l : Launch} {D : va_G} {ct : Nat → ClassId} {ad : Nat → Nat} {tl : va_W} {G : gE} {t : Nat} (hG : gOK G) (hgl : gHas G t) (x1 : Int32) (x2 : Int32) (st : MS) (hp : pX4_isLocked x1 x2 st) : ∀ sz, Met l yX4_isLocked (ws_ yX4_isLocked cX4_isLocked 5 (some .boolean)) { frames := 1, cells := 0, slots := 0, locals := 20 } (va_Pc [.ref (ad 0), .int x1, .int x2] (cPre G D ct (TW ct ad tl st) sz)) (va_Qi (fun (r : Int32) (u : MS) => qX4_isLocked x1 x2 st r ∧ st = u) (fun u => cB D ct (va_A (TW ct ad tl st) sz) (TW ct ad tl u)) (va_A (TW ct ad tl st) sz)) 0 0 (va_A (TW ct ad tl st) sz) := fun sz =>
  j_met (Qc := fun A => va_Qi (fun (r : Int32) (u : MS) => qX4_isLocked x1 x2 st r ∧ st = u) (fun u => cB D ct A (TW ct ad tl u)) A) (by decide) hG (Nat.le_of_ble_eq_true rfl) (fun p e s m args below meth c A K hr _ _ => kX4_isLocked_0 K hr hgl x1 x2 st (vcX4_isLocked x1 x2 st hp))
-- X4_isPlain
theorem kX4_isPlain_109 {p : Program} {l : Launch} {e : Env} {s : State} {m : MethodId} {args : Array Value} {below : List Frame} {meth : Method} {c : Code} {A : Nat → Prop} {D : va_G} {ct : Nat → ClassId} {ad : Nat → Nat} {tl : va_W} {G : gE} {t : Nat} {post : Int32 → MS → Prop} (K : CX p s m args meth c cX4_isPlain 7 RX4 A D ct G) (hr : meth.sig.returnType = (some .boolean)) (hgl : gHas G t)   (s0 : Int32) (st : MS) (h : wX4_isPlain_109 post  s0 st) : jJ p l e { frames := 1, cells := 0, slots := 0, locals := 20 } s m args below meth c (MQ below (va_Qi post (fun u => cB D ct A (TW ct ad tl u)) A) args s 0 0 A) A D 7 (TW ct ad tl st) 0 0 109 [] [.int s0] := by
  unfold wX4_isPlain_109 at h
  exact j_zret st K hr rfl h.2 h.1 (Nat.le_of_ble_eq_true rfl) (Nat.le_of_ble_eq_true rfl) dX4_isPlain_109
theorem kX4_isPlain_108 {p : Program} {l : Launch} {e : Env} {s : State} {m : MethodId} {args : Array Value} {below : List Frame} {meth : Method} {c : Code} {A : Nat → Prop} {D : va_G} {ct : Nat → ClassId} {ad : Nat → Nat} {tl : va_W} {G : gE} {t : Nat} {post : Int32 → MS → Prop} (K : CX p s m args meth c cX4_isPlain 7 RX4 A D ct G) (hr : meth.sig.returnType = (some .boolean)) (hgl : gHas G t)    (st : MS) (h : wX4_isPlain_108 post  st) : jJ p l e { frames := 1, cells := 0, slots := 0, locals := 20 } s m args below meth c (MQ below (va_Qi post (fun u => cB D ct A (TW ct ad tl u)) A) args s 0 0 A) A D 7 (TW ct ad tl st) 0 0 108 [] [] := by
  unfold wX4_isPlain_108 at h
  refine j_iconst K (0 : Int32) dX4_isPlain_108 (by decide) ?_
  exact kX4_isPlain_109 K hr hgl  (0 : Int32) st h
theorem kX4_isPlain_104 {p : Program} {l : Launch} {e : Env} {s : State} {m : MethodId} {args : Array Value} {below : List Frame} {meth : Method} {c : Code} {A : Nat → Prop} {D : va_G} {ct : Nat → ClassId} {ad : Nat → Nat} {tl : va_W} {G : gE} {t : Nat} {post : Int32 → MS → Prop} (K : CX p s m args meth c cX4_isPlain 7 RX4 A D ct G) (hr : meth.sig.returnType = (some .boolean)) (hgl : gHas G t)    (st : MS) (h : wX4_isPlain_104 post  st) : jJ p l e { frames := 1, cells := 0, slots := 0, locals := 20 } s m args below meth c (MQ below (va_Qi post (fun u => cB D ct A (TW ct ad tl u)) A) args s 0 0 A) A D 7 (TW ct ad tl st) 0 0 104 [] [] := by
  unfold wX4_isPlain_104 at h
  refine j_iconst K (1 : Int32) dX4_isPlain_104 (by decide) ?_
  refine j_goto K 109 dX4_isPlain_105 (by decide) ?_
  exact kX4_isPlain_109 K hr hgl  (1 : Int32) st h
theorem kX4_isPlain_85 {p : Program} {l : Launch} {e : Env} {s : State} {m : MethodId} {args : Array Value} {below : List Frame} {meth : Method} {c : Code} {A : Nat → Prop} {D : va_G} {ct : Nat → ClassId} {ad : Nat → Nat} {tl : va_W} {G : gE} {t : Nat} {post : Int32 → MS → Prop} (K : CX p s m args meth c cX4_isPlain 7 RX4 A D ct G) (hr : meth.sig.returnType = (some .boolean)) (hgl : gHas G t)   (x4 : Int32) (x5 : Int32) (x6 : Int32) (st : MS) (h : wX4_isPlain_85 post  x4 x5 x6 st) : jJ p l e { frames := 1, cells := 0, slots := 0, locals := 20 } s m args below meth c (MQ below (va_Qi post (fun u => cB D ct A (TW ct ad tl u)) A) args s 0 0 A) A D 7 (TW ct ad tl st) 0 0 85 [(0, .ref (ad 0)), (4, .int x4), (5, .int x5), (6, .int x6)] [] := by
  unfold wX4_isPlain_85 at h
  refine j_aload_n K 0 dX4_isPlain_85 rfl rfl ?_
  refine tg_next K dX4_isPlain_86 ?_
  refine j_iload K 2 dX4_isPlain_89 rfl ?_
  obtain ⟨hc, h⟩ := h
  refine tl_next K hc dX4_isPlain_91 ?_
  refine j_iload K 1 dX4_isPlain_92 rfl ?_
  refine j_iand K dX4_isPlain_94 ?_
  refine j_iload K 3 dX4_isPlain_95 rfl ?_
  refine j_ishr K dX4_isPlain_97 ?_
  refine j_iconst K (1 : Int32) dX4_isPlain_98 (by decide) ?_
  refine j_iand K dX4_isPlain_99 ?_
  refine j_iconst K (1 : Int32) dX4_isPlain_100 (by decide) ?_
  refine j_icmp_ne K 108 dX4_isPlain_101 (by decide) (fun hc => ?_) (fun hc => ?_)
  · refine j_lv K [] (lv' := []) rfl ?_
    exact kX4_isPlain_108 K hr hgl  st (h.1 hc)
  · refine j_lv K [] (lv' := []) rfl ?_
    exact kX4_isPlain_104 K hr hgl  st (h.2 hc)
theorem kX4_isPlain_75 {p : Program} {l : Launch} {e : Env} {s : State} {m : MethodId} {args : Array Value} {below : List Frame} {meth : Method} {c : Code} {A : Nat → Prop} {D : va_G} {ct : Nat → ClassId} {ad : Nat → Nat} {tl : va_W} {G : gE} {t : Nat} {post : Int32 → MS → Prop} (K : CX p s m args meth c cX4_isPlain 7 RX4 A D ct G) (hr : meth.sig.returnType = (some .boolean)) (hgl : gHas G t)   (x1 : Int32) (x4 : Int32) (x5 : Int32) (x6 : Int32) (st : MS) (h : wX4_isPlain_75 post  x1 x4 x5 x6 st) : jJ p l e { frames := 1, cells := 0, slots := 0, locals := 20 } s m args below meth c (MQ below (va_Qi post (fun u => cB D ct A (TW ct ad tl u)) A) args s 0 0 A) A D 7 (TW ct ad tl st) 0 0 75 [(0, .ref (ad 0)), (1, .int x1), (4, .int x4), (5, .int x5), (6, .int x6)] [] := by
  unfold wX4_isPlain_75 at h
  refine j_iload_n K 1 dX4_isPlain_75 rfl rfl ?_
  refine j_iload K 3 dX4_isPlain_76 rfl ?_
  refine j_ishr K dX4_isPlain_78 ?_
  refine j_iconst K (1 : Int32) dX4_isPlain_79 (by decide) ?_
  refine j_iand K dX4_isPlain_80 ?_
  refine j_iconst K (1 : Int32) dX4_isPlain_81 (by decide) ?_
  refine j_icmp_ne K 108 dX4_isPlain_82 (by decide) (fun hc => ?_) (fun hc => ?_)
  · refine j_lv K [] (lv' := []) rfl ?_
    exact kX4_isPlain_108 K hr hgl  st (h.1 hc)
  · refine j_lv K [0, 2, 3, 4] (lv' := [(0, .ref (ad 0)), (4, .int x4), (5, .int x5), (6, .int x6)]) rfl ?_
    exact kX4_isPlain_85 K hr hgl  x4 x5 x6 st (h.2 hc)
theorem kX4_isPlain_67 {p : Program} {l : Launch} {e : Env} {s : State} {m : MethodId} {args : Array Value} {below : List Frame} {meth : Method} {c : Code} {A : Nat → Prop} {D : va_G} {ct : Nat → ClassId} {ad : Nat → Nat} {tl : va_W} {G : gE} {t : Nat} {post : Int32 → MS → Prop} (K : CX p s m args meth c cX4_isPlain 7 RX4 A D ct G) (hr : meth.sig.returnType = (some .boolean)) (hgl : gHas G t)   (x1 : Int32) (x4 : Int32) (x5 : Int32) (x6 : Int32) (st : MS) (h : wX4_isPlain_67 post  x1 x4 x5 x6 st) : jJ p l e { frames := 1, cells := 0, slots := 0, locals := 20 } s m args below meth c (MQ below (va_Qi post (fun u => cB D ct A (TW ct ad tl u)) A) args s 0 0 A) A D 7 (TW ct ad tl st) 0 0 67 [(0, .ref (ad 0)), (1, .int x1), (4, .int x4), (5, .int x5), (6, .int x6)] [] := by
  unfold wX4_isPlain_67 at h
  refine j_iload_n K 1 dX4_isPlain_67 rfl rfl ?_
  refine j_callSi K (As := [.int x1]) (rest := []) (ctJ12_bitCount (l := l) (D := D) (ct := ct) (G := G) (ws := (TW ct ad tl st)) K.2.2.2.2.2.2.2.2.2 x1) (lw_S q438 q423 q90 q424) (n := 1) (by decide +kernel) ⟨Nat.le_of_ble_eq_true rfl, Nat.le_of_ble_eq_true rfl⟩ rfl rfl (Nat.le_of_ble_eq_true rfl) dX4_isPlain_68 ⟨Nat.le_of_ble_eq_true rfl, Nat.le_of_ble_eq_true rfl⟩ (fun r_1 _ hq => ?_)
  replace h := h r_1 hq
  refine j_iconst K (3 : Int32) dX4_isPlain_71 (by decide) ?_
  refine j_icmp_ne K 108 dX4_isPlain_72 (by decide) (fun hc => ?_) (fun hc => ?_)
  · refine j_lv K [] (lv' := []) rfl ?_
    exact kX4_isPlain_108 K hr hgl  st (h.1 hc)
  · exact kX4_isPlain_75 K hr hgl  x1 x4 x5 x6 st (h.2 hc)
theorem kX4_isPlain_43 {p : Program} {l : Launch} {e : Env} {s : State} {m : MethodId} {args : Array Value} {below : List Frame} {meth : Method} {c : Code} {A : Nat → Prop} {D : va_G} {ct : Nat → ClassId} {ad : Nat → Nat} {tl : va_W} {G : gE} {t : Nat} {post : Int32 → MS → Prop} (K : CX p s m args meth c cX4_isPlain 7 RX4 A D ct G) (hr : meth.sig.returnType = (some .boolean)) (hgl : gHas G t)   (x1 : Int32) (x3 : Int32) (x4 : Int32) (st : MS) (h : wX4_isPlain_43 post  x1 x3 x4 st) : jJ p l e { frames := 1, cells := 0, slots := 0, locals := 20 } s m args below meth c (MQ below (va_Qi post (fun u => cB D ct A (TW ct ad tl u)) A) args s 0 0 A) A D 7 (TW ct ad tl st) 0 0 43 [(0, .ref (ad 0)), (1, .int x1), (3, .int x3), (4, .int x4)] [] := by
  unfold wX4_isPlain_43 at h
  refine j_iload_n K 2 dX4_isPlain_43 rfl rfl ?_
  refine j_bipush K (9 : Int32) dX4_isPlain_44 (by decide) ?_
  refine j_isub K dX4_isPlain_46 ?_
  refine j_bipush K (9 : Int32) dX4_isPlain_47 (by decide) ?_
  refine j_idiv K (by decide) dX4_isPlain_49 ?_
  refine j_istore K [(5, .int ((x3 - (9 : Int32)) / (9 : Int32))), (0, .ref (ad 0)), (1, .int x1), (3, .int x3), (4, .int x4)] dX4_isPlain_50 (by decide) rfl ?_
  refine j_iload_n K 3 dX4_isPlain_52 rfl rfl ?_
  refine j_bipush K (9 : Int32) dX4_isPlain_53 (by decide) ?_
  refine j_isub K dX4_isPlain_55 ?_
  refine j_bipush K (9 : Int32) dX4_isPlain_56 (by decide) ?_
  refine j_irem K (by decide) dX4_isPlain_58 ?_
  refine j_istore K [(6, .int (irm (x3 - (9 : Int32)) (9 : Int32))), (5, .int ((x3 - (9 : Int32)) / (9 : Int32))), (0, .ref (ad 0)), (1, .int x1), (3, .int x3), (4, .int x4)] dX4_isPlain_59 (by decide) rfl ?_
  refine j_iload_n K 4 dX4_isPlain_61 rfl rfl ?_
  refine j_bipush K (90 : Int32) dX4_isPlain_62 (by decide) ?_
  refine j_icmp_ge K 108 dX4_isPlain_64 (by decide) (fun hc => ?_) (fun hc => ?_)
  · refine j_lv K [] (lv' := []) rfl ?_
    exact kX4_isPlain_108 K hr hgl  st (h.1 hc)
  · refine j_lv K [2, 3, 5, 1, 0] (lv' := [(0, .ref (ad 0)), (1, .int x1), (4, .int x4), (5, .int ((x3 - (9 : Int32)) / (9 : Int32))), (6, .int (irm (x3 - (9 : Int32)) (9 : Int32)))]) rfl ?_
    exact kX4_isPlain_67 K hr hgl  x1 x4 ((x3 - (9 : Int32)) / (9 : Int32)) (irm (x3 - (9 : Int32)) (9 : Int32)) st (h.2 hc)
theorem kX4_isPlain_42 {p : Program} {l : Launch} {e : Env} {s : State} {m : MethodId} {args : Array Value} {below : List Frame} {meth : Method} {c : Code} {A : Nat → Prop} {D : va_G} {ct : Nat → ClassId} {ad : Nat → Nat} {tl : va_W} {G : gE} {t : Nat} {post : Int32 → MS → Prop} (K : CX p s m args meth c cX4_isPlain 7 RX4 A D ct G) (hr : meth.sig.returnType = (some .boolean)) (hgl : gHas G t)   (s0 : Int32) (st : MS) (h : wX4_isPlain_42 post  s0 st) : jJ p l e { frames := 1, cells := 0, slots := 0, locals := 20 } s m args below meth c (MQ below (va_Qi post (fun u => cB D ct A (TW ct ad tl u)) A) args s 0 0 A) A D 7 (TW ct ad tl st) 0 0 42 [] [.int s0] := by
  unfold wX4_isPlain_42 at h
  exact j_zret st K hr rfl h.2 h.1 (Nat.le_of_ble_eq_true rfl) (Nat.le_of_ble_eq_true rfl) dX4_isPlain_42
theorem kX4_isPlain_41 {p : Program} {l : Launch} {e : Env} {s : State} {m : MethodId} {args : Array Value} {below : List Frame} {meth : Method} {c : Code} {A : Nat → Prop} {D : va_G} {ct : Nat → ClassId} {ad : Nat → Nat} {tl : va_W} {G : gE} {t : Nat} {post : Int32 → MS → Prop} (K : CX p s m args meth c cX4_isPlain 7 RX4 A D ct G) (hr : meth.sig.returnType = (some .boolean)) (hgl : gHas G t)    (st : MS) (h : wX4_isPlain_41 post  st) : jJ p l e { frames := 1, cells := 0, slots := 0, locals := 20 } s m args below meth c (MQ below (va_Qi post (fun u => cB D ct A (TW ct ad tl u)) A) args s 0 0 A) A D 7 (TW ct ad tl st) 0 0 41 [] [] := by
  unfold wX4_isPlain_41 at h
  refine j_iconst K (0 : Int32) dX4_isPlain_41 (by decide) ?_
  exact kX4_isPlain_42 K hr hgl  (0 : Int32) st h
theorem kX4_isPlain_37 {p : Program} {l : Launch} {e : Env} {s : State} {m : MethodId} {args : Array Value} {below : List Frame} {meth : Method} {c : Code} {A : Nat → Prop} {D : va_G} {ct : Nat → ClassId} {ad : Nat → Nat} {tl : va_W} {G : gE} {t : Nat} {post : Int32 → MS → Prop} (K : CX p s m args meth c cX4_isPlain 7 RX4 A D ct G) (hr : meth.sig.returnType = (some .boolean)) (hgl : gHas G t)    (st : MS) (h : wX4_isPlain_37 post  st) : jJ p l e { frames := 1, cells := 0, slots := 0, locals := 20 } s m args below meth c (MQ below (va_Qi post (fun u => cB D ct A (TW ct ad tl u)) A) args s 0 0 A) A D 7 (TW ct ad tl st) 0 0 37 [] [] := by
  unfold wX4_isPlain_37 at h
  refine j_iconst K (1 : Int32) dX4_isPlain_37 (by decide) ?_
  refine j_goto K 42 dX4_isPlain_38 (by decide) ?_
  exact kX4_isPlain_42 K hr hgl  (1 : Int32) st h
theorem kX4_isPlain_27 {p : Program} {l : Launch} {e : Env} {s : State} {m : MethodId} {args : Array Value} {below : List Frame} {meth : Method} {c : Code} {A : Nat → Prop} {D : va_G} {ct : Nat → ClassId} {ad : Nat → Nat} {tl : va_W} {G : gE} {t : Nat} {post : Int32 → MS → Prop} (K : CX p s m args meth c cX4_isPlain 7 RX4 A D ct G) (hr : meth.sig.returnType = (some .boolean)) (hgl : gHas G t)   (x3 : Int32) (x4 : Int32) (st : MS) (h : wX4_isPlain_27 post  x3 x4 st) : jJ p l e { frames := 1, cells := 0, slots := 0, locals := 20 } s m args below meth c (MQ below (va_Qi post (fun u => cB D ct A (TW ct ad tl u)) A) args s 0 0 A) A D 7 (TW ct ad tl st) 0 0 27 [(3, .int x3), (4, .int x4)] [] := by
  unfold wX4_isPlain_27 at h
  refine j_iload K 1 dX4_isPlain_27 rfl ?_
  refine j_iload_n K 0 dX4_isPlain_29 rfl rfl ?_
  refine j_ishr K dX4_isPlain_30 ?_
  refine j_iconst K (1 : Int32) dX4_isPlain_31 (by decide) ?_
  refine j_iand K dX4_isPlain_32 ?_
  refine j_iconst K (1 : Int32) dX4_isPlain_33 (by decide) ?_
  refine j_icmp_ne K 41 dX4_isPlain_34 (by decide) (fun hc => ?_) (fun hc => ?_)
  · refine j_lv K [] (lv' := []) rfl ?_
    exact kX4_isPlain_41 K hr hgl  st (h.1 hc)
  · refine j_lv K [] (lv' := []) rfl ?_
    exact kX4_isPlain_37 K hr hgl  st (h.2 hc)
theorem kX4_isPlain_19 {p : Program} {l : Launch} {e : Env} {s : State} {m : MethodId} {args : Array Value} {below : List Frame} {meth : Method} {c : Code} {A : Nat → Prop} {D : va_G} {ct : Nat → ClassId} {ad : Nat → Nat} {tl : va_W} {G : gE} {t : Nat} {post : Int32 → MS → Prop} (K : CX p s m args meth c cX4_isPlain 7 RX4 A D ct G) (hr : meth.sig.returnType = (some .boolean)) (hgl : gHas G t)   (x1 : Int32) (x3 : Int32) (x4 : Int32) (st : MS) (h : wX4_isPlain_19 post  x1 x3 x4 st) : jJ p l e { frames := 1, cells := 0, slots := 0, locals := 20 } s m args below meth c (MQ below (va_Qi post (fun u => cB D ct A (TW ct ad tl u)) A) args s 0 0 A) A D 7 (TW ct ad tl st) 0 0 19 [(1, .int x1), (3, .int x3), (4, .int x4)] [] := by
  unfold wX4_isPlain_19 at h
  refine j_iload_n K 0 dX4_isPlain_19 rfl rfl ?_
  refine j_callSi K (As := [.int x1]) (rest := []) (ctJ12_bitCount (l := l) (D := D) (ct := ct) (G := G) (ws := (TW ct ad tl st)) K.2.2.2.2.2.2.2.2.2 x1) (lw_S q438 q423 q90 q424) (n := 1) (by decide +kernel) ⟨Nat.le_of_ble_eq_true rfl, Nat.le_of_ble_eq_true rfl⟩ rfl rfl (Nat.le_of_ble_eq_true rfl) dX4_isPlain_20 ⟨Nat.le_of_ble_eq_true rfl, Nat.le_of_ble_eq_true rfl⟩ (fun r_1 _ hq => ?_)
  replace h := h r_1 hq
  refine j_iconst K (3 : Int32) dX4_isPlain_23 (by decide) ?_
  refine j_icmp_ge K 41 dX4_isPlain_24 (by decide) (fun hc => ?_) (fun hc => ?_)
  · refine j_lv K [] (lv' := []) rfl ?_
    exact kX4_isPlain_41 K hr hgl  st (h.1 hc)
  · refine j_lv K [1, 2] (lv' := [(3, .int x3), (4, .int x4)]) rfl ?_
    exact kX4_isPlain_27 K hr hgl  x3 x4 st (h.2 hc)
theorem kX4_isPlain_0 {p : Program} {l : Launch} {e : Env} {s : State} {m : MethodId} {args : Array Value} {below : List Frame} {meth : Method} {c : Code} {A : Nat → Prop} {D : va_G} {ct : Nat → ClassId} {ad : Nat → Nat} {tl : va_W} {G : gE} {t : Nat} {post : Int32 → MS → Prop} (K : CX p s m args meth c cX4_isPlain 7 RX4 A D ct G) (hr : meth.sig.returnType = (some .boolean)) (hgl : gHas G t)   (x1 : Int32) (x2 : Int32) (x3 : Int32) (st : MS) (h : wX4_isPlain_0 post  x1 x2 x3 st) : jJ p l e { frames := 1, cells := 0, slots := 0, locals := 20 } s m args below meth c (MQ below (va_Qi post (fun u => cB D ct A (TW ct ad tl u)) A) args s 0 0 A) A D 7 (TW ct ad tl st) 0 0 0 [(0, .ref (ad 0)), (1, .int x1), (2, .int x2), (3, .int x3)] [] := by
  unfold wX4_isPlain_0 at h
  refine j_sipush K (511 : Int32) dX4_isPlain_0 (by decide) ?_
  refine j_iload_n K 1 dX4_isPlain_3 rfl rfl ?_
  refine j_iconst K (-1 : Int32) dX4_isPlain_4 (by decide) ?_
  refine j_ixor K dX4_isPlain_5 ?_
  refine j_iand K dX4_isPlain_6 ?_
  refine j_iload_n K 2 dX4_isPlain_7 rfl rfl ?_
  refine j_iconst K (-1 : Int32) dX4_isPlain_8 (by decide) ?_
  refine j_ixor K dX4_isPlain_9 ?_
  refine j_iand K dX4_isPlain_10 ?_
  refine j_istore K [(4, .int (((511 : Int32) &&& (x1 ^^^ (-1 : Int32))) &&& (x2 ^^^ (-1 : Int32)))), (0, .ref (ad 0)), (1, .int x1), (2, .int x2), (3, .int x3)] dX4_isPlain_11 (by decide) rfl ?_
  refine j_iload_n K 4 dX4_isPlain_13 rfl rfl ?_
  refine j_bipush K (9 : Int32) dX4_isPlain_14 (by decide) ?_
  refine j_icmp_ge K 43 dX4_isPlain_16 (by decide) (fun hc => ?_) (fun hc => ?_)
  · refine j_lv K [1, 2, 4, 0] (lv' := [(0, .ref (ad 0)), (1, .int x1), (3, .int x3), (4, .int (((511 : Int32) &&& (x1 ^^^ (-1 : Int32))) &&& (x2 ^^^ (-1 : Int32))))]) rfl ?_
    exact kX4_isPlain_43 K hr hgl  x1 x3 (((511 : Int32) &&& (x1 ^^^ (-1 : Int32))) &&& (x2 ^^^ (-1 : Int32))) st (h.1 hc)
  · refine j_lv K [2, 4, 0] (lv' := [(1, .int x1), (3, .int x3), (4, .int (((511 : Int32) &&& (x1 ^^^ (-1 : Int32))) &&& (x2 ^^^ (-1 : Int32))))]) rfl ?_
    exact kX4_isPlain_19 K hr hgl  x1 x3 (((511 : Int32) &&& (x1 ^^^ (-1 : Int32))) &&& (x2 ^^^ (-1 : Int32))) st (h.2 hc)
theorem ctX4_isPlain {l : Launch} {D : va_G} {ct : Nat → ClassId} {ad : Nat → Nat} {tl : va_W} {G : gE} {t : Nat} (hG : gOK G) (hgl : gHas G t) (x1 : Int32) (x2 : Int32) (x3 : Int32) (st : MS) (hp : pX4_isPlain x1 x2 x3 st) : ∀ sz, Met l yX4_isPlain (ws_ yX4_isPlain cX4_isPlain 7 (some .boolean)) { frames := 1, cells := 0, slots := 0, locals := 20 } (va_Pc [.ref (ad 0), .int x1, .int x2, .int x3] (cPre G D ct (TW ct ad tl st) sz)) (va_Qi (fun (r : Int32) (u : MS) => qX4_isPlain x1 x2 x3 st r ∧ st = u) (fun u => cB D ct (va_A (TW ct ad tl st) sz) (TW ct ad tl u)) (va_A (TW ct ad tl st) sz)) 0 0 (va_A (TW ct ad tl st) sz) := fun sz =>
  j_met (Qc := fun A => va_Qi (fun (r : Int32) (u : MS) => qX4_isPlain x1 x2 x3 st r ∧ st = u) (fun u => cB D ct A (TW ct ad tl u)) A) (by decide) hG (Nat.le_of_ble_eq_true rfl) (fun p e s m args below meth c A K hr _ _ => kX4_isPlain_0 K hr hgl x1 x2 x3 st (vcX4_isPlain x1 x2 x3 st hp))
-- X4_hasLost
theorem kX4_hasLost_29 {p : Program} {l : Launch} {e : Env} {s : State} {m : MethodId} {args : Array Value} {below : List Frame} {meth : Method} {c : Code} {A : Nat → Prop} {D : va_G} {ct : Nat → ClassId} {ad : Nat → Nat} {tl : va_W} {G : gE} {t : Nat} {post : Int32 → MS → Prop} (K : CX p s m args meth c cX4_hasLost 3 RX4 A D ct G) (hr : meth.sig.returnType = (some .boolean)) (hgl : gHas G t)   (s0 : Int32) (st : MS) (h : wX4_hasLost_29 post  s0 st) : jJ p l e { frames := 2, cells := 0, slots := 0, locals := 44 } s m args below meth c (MQ below (va_Qi post (fun u => cB D ct A (TW ct ad tl u)) A) args s 0 0 A) A D 3 (TW ct ad tl st) 0 0 29 [] [.int s0] := by
  unfold wX4_hasLost_29 at h
  exact j_zret st K hr rfl h.2 h.1 (Nat.le_of_ble_eq_true rfl) (Nat.le_of_ble_eq_true rfl) dX4_hasLost_29
theorem kX4_hasLost_24 {p : Program} {l : Launch} {e : Env} {s : State} {m : MethodId} {args : Array Value} {below : List Frame} {meth : Method} {c : Code} {A : Nat → Prop} {D : va_G} {ct : Nat → ClassId} {ad : Nat → Nat} {tl : va_W} {G : gE} {t : Nat} {post : Int32 → MS → Prop} (K : CX p s m args meth c cX4_hasLost 3 RX4 A D ct G) (hr : meth.sig.returnType = (some .boolean)) (hgl : gHas G t)    (st : MS) (h : wX4_hasLost_24 post  st) : jJ p l e { frames := 2, cells := 0, slots := 0, locals := 44 } s m args below meth c (MQ below (va_Qi post (fun u => cB D ct A (TW ct ad tl u)) A) args s 0 0 A) A D 3 (TW ct ad tl st) 0 0 24 [] [] := by
  unfold wX4_hasLost_24 at h
  refine j_iconst K (1 : Int32) dX4_hasLost_24 (by decide) ?_
  refine j_goto K 29 dX4_hasLost_25 (by decide) ?_
  exact kX4_hasLost_29 K hr hgl  (1 : Int32) st h
theorem kX4_hasLost_28 {p : Program} {l : Launch} {e : Env} {s : State} {m : MethodId} {args : Array Value} {below : List Frame} {meth : Method} {c : Code} {A : Nat → Prop} {D : va_G} {ct : Nat → ClassId} {ad : Nat → Nat} {tl : va_W} {G : gE} {t : Nat} {post : Int32 → MS → Prop} (K : CX p s m args meth c cX4_hasLost 3 RX4 A D ct G) (hr : meth.sig.returnType = (some .boolean)) (hgl : gHas G t)    (st : MS) (h : wX4_hasLost_28 post  st) : jJ p l e { frames := 2, cells := 0, slots := 0, locals := 44 } s m args below meth c (MQ below (va_Qi post (fun u => cB D ct A (TW ct ad tl u)) A) args s 0 0 A) A D 3 (TW ct ad tl st) 0 0 28 [] [] := by
  unfold wX4_hasLost_28 at h
  refine j_iconst K (0 : Int32) dX4_hasLost_28 (by decide) ?_
  exact kX4_hasLost_29 K hr hgl  (0 : Int32) st h
theorem kX4_hasLost_15 {p : Program} {l : Launch} {e : Env} {s : State} {m : MethodId} {args : Array Value} {below : List Frame} {meth : Method} {c : Code} {A : Nat → Prop} {D : va_G} {ct : Nat → ClassId} {ad : Nat → Nat} {tl : va_W} {G : gE} {t : Nat} {post : Int32 → MS → Prop} (K : CX p s m args meth c cX4_hasLost 3 RX4 A D ct G) (hr : meth.sig.returnType = (some .boolean)) (hgl : gHas G t)   (x1 : Int32) (x2 : Int32) (st : MS) (h : wX4_hasLost_15 post  x1 x2 st) : jJ p l e { frames := 2, cells := 0, slots := 0, locals := 44 } s m args below meth c (MQ below (va_Qi post (fun u => cB D ct A (TW ct ad tl u)) A) args s 0 0 A) A D 3 (TW ct ad tl st) 0 0 15 [(0, .ref (ad 0)), (1, .int x1), (2, .int x2)] [] := by
  unfold wX4_hasLost_15 at h
  refine j_aload_n K 0 dX4_hasLost_15 rfl rfl ?_
  refine j_iload_n K 1 dX4_hasLost_16 rfl rfl ?_
  refine j_iload_n K 2 dX4_hasLost_17 rfl rfl ?_
  obtain ⟨hp, h⟩ := h
  refine j_callUi K (As := [.int x1, .int x2]) (rest := []) (ctX4_isLocked (l := l) (D := D) (ct := ct) (ad := ad) (tl := tl) (G := G) (t := t) K.2.2.2.2.2.2.2.2.2 hgl x1 x2 st hp) gwU4_48 rfl gdU4_48 ⟨Nat.le_of_ble_eq_true rfl, Nat.le_of_ble_eq_true rfl⟩ 0 rfl rfl rfl rfl rfl (Nat.le_of_ble_eq_true rfl) dX4_hasLost_18 ⟨Nat.le_of_ble_eq_true rfl, Nat.le_of_ble_eq_true rfl⟩ (fun r_1 st_2 hq => ?_)
  obtain ⟨hq, rfl⟩ := hq
  replace h := h r_1 hq
  refine j_if_eq K 28 dX4_hasLost_21 (by decide) (fun hc => ?_) (fun hc => ?_)
  · refine j_lv K [] (lv' := []) rfl ?_
    exact kX4_hasLost_28 K hr hgl  st (h.1 hc)
  · refine j_lv K [] (lv' := []) rfl ?_
    exact kX4_hasLost_24 K hr hgl  st (h.2 hc)
theorem kX4_hasLost_8 {p : Program} {l : Launch} {e : Env} {s : State} {m : MethodId} {args : Array Value} {below : List Frame} {meth : Method} {c : Code} {A : Nat → Prop} {D : va_G} {ct : Nat → ClassId} {ad : Nat → Nat} {tl : va_W} {G : gE} {t : Nat} {post : Int32 → MS → Prop} (K : CX p s m args meth c cX4_hasLost 3 RX4 A D ct G) (hr : meth.sig.returnType = (some .boolean)) (hgl : gHas G t)   (x1 : Int32) (x2 : Int32) (st : MS) (h : wX4_hasLost_8 post  x1 x2 st) : jJ p l e { frames := 2, cells := 0, slots := 0, locals := 44 } s m args below meth c (MQ below (va_Qi post (fun u => cB D ct A (TW ct ad tl u)) A) args s 0 0 A) A D 3 (TW ct ad tl st) 0 0 8 [(0, .ref (ad 0)), (1, .int x1), (2, .int x2)] [] := by
  unfold wX4_hasLost_8 at h
  refine j_aload_n K 0 dX4_hasLost_8 rfl rfl ?_
  refine tg_lockLoses K dX4_hasLost_9 ?_
  refine j_if_eq K 28 dX4_hasLost_12 (by decide) (fun hc => ?_) (fun hc => ?_)
  · refine j_lv K [] (lv' := []) rfl ?_
    exact kX4_hasLost_28 K hr hgl  st (h.1 hc)
  · exact kX4_hasLost_15 K hr hgl  x1 x2 st (h.2 hc)
theorem kX4_hasLost_0 {p : Program} {l : Launch} {e : Env} {s : State} {m : MethodId} {args : Array Value} {below : List Frame} {meth : Method} {c : Code} {A : Nat → Prop} {D : va_G} {ct : Nat → ClassId} {ad : Nat → Nat} {tl : va_W} {G : gE} {t : Nat} {post : Int32 → MS → Prop} (K : CX p s m args meth c cX4_hasLost 3 RX4 A D ct G) (hr : meth.sig.returnType = (some .boolean)) (hgl : gHas G t)   (x1 : Int32) (x2 : Int32) (st : MS) (h : wX4_hasLost_0 post  x1 x2 st) : jJ p l e { frames := 2, cells := 0, slots := 0, locals := 44 } s m args below meth c (MQ below (va_Qi post (fun u => cB D ct A (TW ct ad tl u)) A) args s 0 0 A) A D 3 (TW ct ad tl st) 0 0 0 [(0, .ref (ad 0)), (1, .int x1), (2, .int x2)] [] := by
  unfold wX4_hasLost_0 at h
  refine j_aload_n K 0 dX4_hasLost_0 rfl rfl ?_
  refine j_iload_n K 2 dX4_hasLost_1 rfl rfl ?_
  obtain ⟨hp, h⟩ := h
  refine j_callUi K (As := [.int x2]) (rest := []) (ctX4_hasLine (l := l) (D := D) (ct := ct) (ad := ad) (tl := tl) (G := G) (t := t) K.2.2.2.2.2.2.2.2.2 hgl x2 st hp) gwU4_44 rfl gdU4_44 ⟨Nat.le_of_ble_eq_true rfl, Nat.le_of_ble_eq_true rfl⟩ 0 rfl rfl rfl rfl rfl (Nat.le_of_ble_eq_true rfl) dX4_hasLost_2 ⟨Nat.le_of_ble_eq_true rfl, Nat.le_of_ble_eq_true rfl⟩ (fun r_1 st_2 hq => ?_)
  obtain ⟨hq, rfl⟩ := hq
  replace h := h r_1 hq
  refine j_if_ne K 24 dX4_hasLost_5 (by decide) (fun hc => ?_) (fun hc => ?_)
  · refine j_lv K [] (lv' := []) rfl ?_
    exact kX4_hasLost_24 K hr hgl  st (h.1 hc)
  · exact kX4_hasLost_8 K hr hgl  x1 x2 st (h.2 hc)
theorem ctX4_hasLost {l : Launch} {D : va_G} {ct : Nat → ClassId} {ad : Nat → Nat} {tl : va_W} {G : gE} {t : Nat} (hG : gOK G) (hgl : gHas G t) (x1 : Int32) (x2 : Int32) (st : MS) (hp : pX4_hasLost x1 x2 st) : ∀ sz, Met l yX4_hasLost (ws_ yX4_hasLost cX4_hasLost 3 (some .boolean)) { frames := 2, cells := 0, slots := 0, locals := 44 } (va_Pc [.ref (ad 0), .int x1, .int x2] (cPre G D ct (TW ct ad tl st) sz)) (va_Qi (fun (r : Int32) (u : MS) => qX4_hasLost x1 x2 st r ∧ st = u) (fun u => cB D ct (va_A (TW ct ad tl st) sz) (TW ct ad tl u)) (va_A (TW ct ad tl st) sz)) 0 0 (va_A (TW ct ad tl st) sz) := fun sz =>
  j_met (Qc := fun A => va_Qi (fun (r : Int32) (u : MS) => qX4_hasLost x1 x2 st r ∧ st = u) (fun u => cB D ct A (TW ct ad tl u)) A) (by decide) hG (Nat.le_of_ble_eq_true rfl) (fun p e s m args below meth c A K hr _ _ => kX4_hasLost_0 K hr hgl x1 x2 st (vcX4_hasLost x1 x2 st hp))
-- X4_isMove
theorem kX4_isMove_19 {p : Program} {l : Launch} {e : Env} {s : State} {m : MethodId} {args : Array Value} {below : List Frame} {meth : Method} {c : Code} {A : Nat → Prop} {D : va_G} {ct : Nat → ClassId} {ad : Nat → Nat} {tl : va_W} {G : gE} {t : Nat} {post : Int32 → MS → Prop} (K : CX p s m args meth c cX4_isMove 4 RX4 A D ct G) (hr : meth.sig.returnType = (some .boolean)) (hgl : gHas G t)    (st : MS) (h : wX4_isMove_19 post  st) : jJ p l e { frames := 3, cells := 0, slots := 0, locals := 66 } s m args below meth c (MQ below (va_Qi post (fun u => cB D ct A (TW ct ad tl u)) A) args s 0 0 A) A D 4 (TW ct ad tl st) 0 0 19 [] [] := by
  unfold wX4_isMove_19 at h
  refine j_iconst K (0 : Int32) dX4_isMove_19 (by decide) ?_
  exact j_zret st K hr rfl h.2 h.1 (Nat.le_of_ble_eq_true rfl) (Nat.le_of_ble_eq_true rfl) dX4_isMove_20
theorem kX4_isMove_43 {p : Program} {l : Launch} {e : Env} {s : State} {m : MethodId} {args : Array Value} {below : List Frame} {meth : Method} {c : Code} {A : Nat → Prop} {D : va_G} {ct : Nat → ClassId} {ad : Nat → Nat} {tl : va_W} {G : gE} {t : Nat} {post : Int32 → MS → Prop} (K : CX p s m args meth c cX4_isMove 4 RX4 A D ct G) (hr : meth.sig.returnType = (some .boolean)) (hgl : gHas G t)   (s0 : Int32) (st : MS) (h : wX4_isMove_43 post  s0 st) : jJ p l e { frames := 3, cells := 0, slots := 0, locals := 66 } s m args below meth c (MQ below (va_Qi post (fun u => cB D ct A (TW ct ad tl u)) A) args s 0 0 A) A D 4 (TW ct ad tl st) 0 0 43 [] [.int s0] := by
  unfold wX4_isMove_43 at h
  exact j_zret st K hr rfl h.2 h.1 (Nat.le_of_ble_eq_true rfl) (Nat.le_of_ble_eq_true rfl) dX4_isMove_43
theorem kX4_isMove_36 {p : Program} {l : Launch} {e : Env} {s : State} {m : MethodId} {args : Array Value} {below : List Frame} {meth : Method} {c : Code} {A : Nat → Prop} {D : va_G} {ct : Nat → ClassId} {ad : Nat → Nat} {tl : va_W} {G : gE} {t : Nat} {post : Int32 → MS → Prop} (K : CX p s m args meth c cX4_isMove 4 RX4 A D ct G) (hr : meth.sig.returnType = (some .boolean)) (hgl : gHas G t)   (x1 : Int32) (x2 : Int32) (x3 : Int32) (st : MS) (h : wX4_isMove_36 post  x1 x2 x3 st) : jJ p l e { frames := 3, cells := 0, slots := 0, locals := 66 } s m args below meth c (MQ below (va_Qi post (fun u => cB D ct A (TW ct ad tl u)) A) args s 0 0 A) A D 4 (TW ct ad tl st) 0 0 36 [(0, .ref (ad 0)), (1, .int x1), (2, .int x2), (3, .int x3)] [] := by
  unfold wX4_isMove_36 at h
  refine j_aload_n K 0 dX4_isMove_36 rfl rfl ?_
  refine j_iload_n K 1 dX4_isMove_37 rfl rfl ?_
  refine j_iload_n K 2 dX4_isMove_38 rfl rfl ?_
  refine j_iload_n K 3 dX4_isMove_39 rfl rfl ?_
  obtain ⟨hp, h⟩ := h
  refine j_callUi K (As := [.int x1, .int x2, .int x3]) (rest := []) (ctX4_isPlain (l := l) (D := D) (ct := ct) (ad := ad) (tl := tl) (G := G) (t := t) K.2.2.2.2.2.2.2.2.2 hgl x1 x2 x3 st hp) gwU4_58 rfl gdU4_58 ⟨Nat.le_of_ble_eq_true rfl, Nat.le_of_ble_eq_true rfl⟩ 0 rfl rfl rfl rfl rfl (Nat.le_of_ble_eq_true rfl) dX4_isMove_40 ⟨Nat.le_of_ble_eq_true rfl, Nat.le_of_ble_eq_true rfl⟩ (fun r_1 st_2 hq => ?_)
  obtain ⟨hq, rfl⟩ := hq
  replace h := h r_1 hq
  refine j_lv K [] (lv' := []) rfl ?_
  exact kX4_isMove_43 K hr hgl  r_1 st h
theorem kX4_isMove_27 {p : Program} {l : Launch} {e : Env} {s : State} {m : MethodId} {args : Array Value} {below : List Frame} {meth : Method} {c : Code} {A : Nat → Prop} {D : va_G} {ct : Nat → ClassId} {ad : Nat → Nat} {tl : va_W} {G : gE} {t : Nat} {post : Int32 → MS → Prop} (K : CX p s m args meth c cX4_isMove 4 RX4 A D ct G) (hr : meth.sig.returnType = (some .boolean)) (hgl : gHas G t)   (x1 : Int32) (x2 : Int32) (st : MS) (h : wX4_isMove_27 post  x1 x2 st) : jJ p l e { frames := 3, cells := 0, slots := 0, locals := 66 } s m args below meth c (MQ below (va_Qi post (fun u => cB D ct A (TW ct ad tl u)) A) args s 0 0 A) A D 4 (TW ct ad tl st) 0 0 27 [(0, .ref (ad 0)), (1, .int x1), (2, .int x2)] [] := by
  unfold wX4_isMove_27 at h
  refine j_aload_n K 0 dX4_isMove_27 rfl rfl ?_
  refine j_iload_n K 1 dX4_isMove_28 rfl rfl ?_
  refine j_iload_n K 2 dX4_isMove_29 rfl rfl ?_
  obtain ⟨hp, h⟩ := h
  refine j_callUi K (As := [.int x1, .int x2]) (rest := []) (ctX4_isLocked (l := l) (D := D) (ct := ct) (ad := ad) (tl := tl) (G := G) (t := t) K.2.2.2.2.2.2.2.2.2 hgl x1 x2 st hp) gwU4_48 rfl gdU4_48 ⟨Nat.le_of_ble_eq_true rfl, Nat.le_of_ble_eq_true rfl⟩ 0 rfl rfl rfl rfl rfl (Nat.le_of_ble_eq_true rfl) dX4_isMove_30 ⟨Nat.le_of_ble_eq_true rfl, Nat.le_of_ble_eq_true rfl⟩ (fun r_1 st_2 hq => ?_)
  obtain ⟨hq, rfl⟩ := hq
  replace h := h r_1 hq
  refine j_goto K 43 dX4_isMove_33 (by decide) ?_
  refine j_lv K [] (lv' := []) rfl ?_
  exact kX4_isMove_43 K hr hgl  r_1 st h
theorem kX4_isMove_21 {p : Program} {l : Launch} {e : Env} {s : State} {m : MethodId} {args : Array Value} {below : List Frame} {meth : Method} {c : Code} {A : Nat → Prop} {D : va_G} {ct : Nat → ClassId} {ad : Nat → Nat} {tl : va_W} {G : gE} {t : Nat} {post : Int32 → MS → Prop} (K : CX p s m args meth c cX4_isMove 4 RX4 A D ct G) (hr : meth.sig.returnType = (some .boolean)) (hgl : gHas G t)   (x1 : Int32) (x2 : Int32) (x3 : Int32) (st : MS) (h : wX4_isMove_21 post  x1 x2 x3 st) : jJ p l e { frames := 3, cells := 0, slots := 0, locals := 66 } s m args below meth c (MQ below (va_Qi post (fun u => cB D ct A (TW ct ad tl u)) A) args s 0 0 A) A D 4 (TW ct ad tl st) 0 0 21 [(0, .ref (ad 0)), (1, .int x1), (2, .int x2), (3, .int x3)] [] := by
  unfold wX4_isMove_21 at h
  refine j_iload_n K 3 dX4_isMove_21 rfl rfl ?_
  refine j_bipush K (90 : Int32) dX4_isMove_22 (by decide) ?_
  refine j_icmp_ne K 36 dX4_isMove_24 (by decide) (fun hc => ?_) (fun hc => ?_)
  · exact kX4_isMove_36 K hr hgl  x1 x2 x3 st (h.1 hc)
  · refine j_lv K [0, 1, 2] (lv' := [(0, .ref (ad 0)), (1, .int x1), (2, .int x2)]) rfl ?_
    exact kX4_isMove_27 K hr hgl  x1 x2 st (h.2 hc)
theorem kX4_isMove_9 {p : Program} {l : Launch} {e : Env} {s : State} {m : MethodId} {args : Array Value} {below : List Frame} {meth : Method} {c : Code} {A : Nat → Prop} {D : va_G} {ct : Nat → ClassId} {ad : Nat → Nat} {tl : va_W} {G : gE} {t : Nat} {post : Int32 → MS → Prop} (K : CX p s m args meth c cX4_isMove 4 RX4 A D ct G) (hr : meth.sig.returnType = (some .boolean)) (hgl : gHas G t)   (x1 : Int32) (x2 : Int32) (x3 : Int32) (st : MS) (h : wX4_isMove_9 post  x1 x2 x3 st) : jJ p l e { frames := 3, cells := 0, slots := 0, locals := 66 } s m args below meth c (MQ below (va_Qi post (fun u => cB D ct A (TW ct ad tl u)) A) args s 0 0 A) A D 4 (TW ct ad tl st) 0 0 9 [(0, .ref (ad 0)), (1, .int x1), (2, .int x2), (3, .int x3)] [] := by
  unfold wX4_isMove_9 at h
  refine j_iload_n K 3 dX4_isMove_9 rfl rfl ?_
  refine j_iconst K (0 : Int32) dX4_isMove_10 (by decide) ?_
  refine j_bipush K (90 : Int32) dX4_isMove_11 (by decide) ?_
  refine j_callIsIn K hgl (As := [.int x3, .int (0 : Int32), .int (90 : Int32)]) (rest := []) (ctX0_isIn (l := l) (D := D) (ct := ct) (G := G) (ws := (TW ct ad tl st)) K.2.2.2.2.2.2.2.2.2 x3 (0 : Int32) (90 : Int32)) q285 q70 q284 ⟨Nat.le_of_ble_eq_true rfl, Nat.le_of_ble_eq_true rfl⟩ rfl rfl (Nat.le_of_ble_eq_true rfl) dX4_isMove_13 ⟨Nat.le_of_ble_eq_true rfl, Nat.le_of_ble_eq_true rfl⟩ (fun r_1 _ hq => ?_)
  replace h := h r_1 hq
  refine j_if_ne K 21 dX4_isMove_16 (by decide) (fun hc => ?_) (fun hc => ?_)
  · exact kX4_isMove_21 K hr hgl  x1 x2 x3 st (h.1 hc)
  · refine j_lv K [] (lv' := []) rfl ?_
    exact kX4_isMove_19 K hr hgl  st (h.2 hc)
theorem kX4_isMove_0 {p : Program} {l : Launch} {e : Env} {s : State} {m : MethodId} {args : Array Value} {below : List Frame} {meth : Method} {c : Code} {A : Nat → Prop} {D : va_G} {ct : Nat → ClassId} {ad : Nat → Nat} {tl : va_W} {G : gE} {t : Nat} {post : Int32 → MS → Prop} (K : CX p s m args meth c cX4_isMove 4 RX4 A D ct G) (hr : meth.sig.returnType = (some .boolean)) (hgl : gHas G t)   (x1 : Int32) (x2 : Int32) (x3 : Int32) (st : MS) (h : wX4_isMove_0 post  x1 x2 x3 st) : jJ p l e { frames := 3, cells := 0, slots := 0, locals := 66 } s m args below meth c (MQ below (va_Qi post (fun u => cB D ct A (TW ct ad tl u)) A) args s 0 0 A) A D 4 (TW ct ad tl st) 0 0 0 [(0, .ref (ad 0)), (1, .int x1), (2, .int x2), (3, .int x3)] [] := by
  unfold wX4_isMove_0 at h
  refine j_aload_n K 0 dX4_isMove_0 rfl rfl ?_
  refine j_iload_n K 1 dX4_isMove_1 rfl rfl ?_
  refine j_iload_n K 2 dX4_isMove_2 rfl rfl ?_
  obtain ⟨hp, h⟩ := h
  refine j_callUi K (As := [.int x1, .int x2]) (rest := []) (ctX4_hasLost (l := l) (D := D) (ct := ct) (ad := ad) (tl := tl) (G := G) (t := t) K.2.2.2.2.2.2.2.2.2 hgl x1 x2 st hp) gwU4_51 rfl gdU4_51 ⟨Nat.le_of_ble_eq_true rfl, Nat.le_of_ble_eq_true rfl⟩ 0 rfl rfl rfl rfl rfl (Nat.le_of_ble_eq_true rfl) dX4_isMove_3 ⟨Nat.le_of_ble_eq_true rfl, Nat.le_of_ble_eq_true rfl⟩ (fun r_1 st_2 hq => ?_)
  obtain ⟨hq, rfl⟩ := hq
  replace h := h r_1 hq
  refine j_if_ne K 19 dX4_isMove_6 (by decide) (fun hc => ?_) (fun hc => ?_)
  · refine j_lv K [] (lv' := []) rfl ?_
    exact kX4_isMove_19 K hr hgl  st (h.1 hc)
  · exact kX4_isMove_9 K hr hgl  x1 x2 x3 st (h.2 hc)
theorem ctX4_isMove {l : Launch} {D : va_G} {ct : Nat → ClassId} {ad : Nat → Nat} {tl : va_W} {G : gE} {t : Nat} (hG : gOK G) (hgl : gHas G t) (x1 : Int32) (x2 : Int32) (x3 : Int32) (st : MS) (hp : pX4_isMove x1 x2 x3 st) : ∀ sz, Met l yX4_isMove (ws_ yX4_isMove cX4_isMove 4 (some .boolean)) { frames := 3, cells := 0, slots := 0, locals := 66 } (va_Pc [.ref (ad 0), .int x1, .int x2, .int x3] (cPre G D ct (TW ct ad tl st) sz)) (va_Qi (fun (r : Int32) (u : MS) => qX4_isMove x1 x2 x3 st r ∧ st = u) (fun u => cB D ct (va_A (TW ct ad tl st) sz) (TW ct ad tl u)) (va_A (TW ct ad tl st) sz)) 0 0 (va_A (TW ct ad tl st) sz) := fun sz =>
  j_met (Qc := fun A => va_Qi (fun (r : Int32) (u : MS) => qX4_isMove x1 x2 x3 st r ∧ st = u) (fun u => cB D ct A (TW ct ad tl u)) A) (by decide) hG (Nat.le_of_ble_eq_true rfl) (fun p e s m args below meth c A K hr _ _ => kX4_isMove_0 K hr hgl x1 x2 x3 st (vcX4_isMove x1 x2 x3 st hp))
-- X4_isLegal
theorem kX4_isLegal_100 {p : Program} {l : Launch} {e : Env} {s : State} {m : MethodId} {args : Array Value} {below : List Frame} {meth : Method} {c : Code} {A : Nat → Prop} {D : va_G} {ct : Nat → ClassId} {ad : Nat → Nat} {tl : va_W} {G : gE} {t : Nat} {post : Int32 → MS → Prop} (K : CX p s m args meth c cX4_isLegal 7 RX4 A D ct G) (hr : meth.sig.returnType = (some .boolean)) (hgl : gHas G t)   (s0 : Int32) (st : MS) (h : wX4_isLegal_100 post  s0 st) : jJ p l e { frames := 1, cells := 0, slots := 0, locals := 23 } s m args below meth c (MQ below (va_Qi post (fun u => cB D ct A (TW ct ad tl u)) A) args s 0 0 A) A D 7 (TW ct ad tl st) 0 0 100 [] [.int s0] := by
  unfold wX4_isLegal_100 at h
  exact j_zret st K hr rfl h.2 h.1 (Nat.le_of_ble_eq_true rfl) (Nat.le_of_ble_eq_true rfl) dX4_isLegal_100
theorem kX4_isLegal_99 {p : Program} {l : Launch} {e : Env} {s : State} {m : MethodId} {args : Array Value} {below : List Frame} {meth : Method} {c : Code} {A : Nat → Prop} {D : va_G} {ct : Nat → ClassId} {ad : Nat → Nat} {tl : va_W} {G : gE} {t : Nat} {post : Int32 → MS → Prop} (K : CX p s m args meth c cX4_isLegal 7 RX4 A D ct G) (hr : meth.sig.returnType = (some .boolean)) (hgl : gHas G t)    (st : MS) (h : wX4_isLegal_99 post  st) : jJ p l e { frames := 1, cells := 0, slots := 0, locals := 23 } s m args below meth c (MQ below (va_Qi post (fun u => cB D ct A (TW ct ad tl u)) A) args s 0 0 A) A D 7 (TW ct ad tl st) 0 0 99 [] [] := by
  unfold wX4_isLegal_99 at h
  refine j_iconst K (0 : Int32) dX4_isLegal_99 (by decide) ?_
  exact kX4_isLegal_100 K hr hgl  (0 : Int32) st h
theorem kX4_isLegal_95 {p : Program} {l : Launch} {e : Env} {s : State} {m : MethodId} {args : Array Value} {below : List Frame} {meth : Method} {c : Code} {A : Nat → Prop} {D : va_G} {ct : Nat → ClassId} {ad : Nat → Nat} {tl : va_W} {G : gE} {t : Nat} {post : Int32 → MS → Prop} (K : CX p s m args meth c cX4_isLegal 7 RX4 A D ct G) (hr : meth.sig.returnType = (some .boolean)) (hgl : gHas G t)    (st : MS) (h : wX4_isLegal_95 post  st) : jJ p l e { frames := 1, cells := 0, slots := 0, locals := 23 } s m args below meth c (MQ below (va_Qi post (fun u => cB D ct A (TW ct ad tl u)) A) args s 0 0 A) A D 7 (TW ct ad tl st) 0 0 95 [] [] := by
  unfold wX4_isLegal_95 at h
  refine j_iconst K (1 : Int32) dX4_isLegal_95 (by decide) ?_
  refine j_goto K 100 dX4_isLegal_96 (by decide) ?_
  exact kX4_isLegal_100 K hr hgl  (1 : Int32) st h
theorem kX4_isLegal_89 {p : Program} {l : Launch} {e : Env} {s : State} {m : MethodId} {args : Array Value} {below : List Frame} {meth : Method} {c : Code} {A : Nat → Prop} {D : va_G} {ct : Nat → ClassId} {ad : Nat → Nat} {tl : va_W} {G : gE} {t : Nat} {post : Int32 → MS → Prop} (K : CX p s m args meth c cX4_isLegal 7 RX4 A D ct G) (hr : meth.sig.returnType = (some .boolean)) (hgl : gHas G t)   (s1 : Int32) (st : MS) (h : wX4_isLegal_89 post  s1 st) : jJ p l e { frames := 1, cells := 0, slots := 0, locals := 23 } s m args below meth c (MQ below (va_Qi post (fun u => cB D ct A (TW ct ad tl u)) A) args s 0 0 A) A D 7 (TW ct ad tl st) 0 0 89 [] [.int s1, .ref (ad 0)] := by
  unfold wX4_isLegal_89 at h
  obtain ⟨hp, h⟩ := h
  refine j_callUi K (As := [.int s1]) (rest := []) (ctX4_hasLine (l := l) (D := D) (ct := ct) (ad := ad) (tl := tl) (G := G) (t := t) K.2.2.2.2.2.2.2.2.2 hgl s1 st hp) gwU4_44 rfl gdU4_44 ⟨Nat.le_of_ble_eq_true rfl, Nat.le_of_ble_eq_true rfl⟩ 0 rfl rfl rfl rfl rfl (Nat.le_of_ble_eq_true rfl) dX4_isLegal_89 ⟨Nat.le_of_ble_eq_true rfl, Nat.le_of_ble_eq_true rfl⟩ (fun r_1 st_2 hq => ?_)
  obtain ⟨hq, rfl⟩ := hq
  replace h := h r_1 hq
  refine j_if_ne K 99 dX4_isLegal_92 (by decide) (fun hc => ?_) (fun hc => ?_)
  · exact kX4_isLegal_99 K hr hgl  st (h.1 hc)
  · exact kX4_isLegal_95 K hr hgl  st (h.2 hc)
theorem kX4_isLegal_88 {p : Program} {l : Launch} {e : Env} {s : State} {m : MethodId} {args : Array Value} {below : List Frame} {meth : Method} {c : Code} {A : Nat → Prop} {D : va_G} {ct : Nat → ClassId} {ad : Nat → Nat} {tl : va_W} {G : gE} {t : Nat} {post : Int32 → MS → Prop} (K : CX p s m args meth c cX4_isLegal 7 RX4 A D ct G) (hr : meth.sig.returnType = (some .boolean)) (hgl : gHas G t)   (x2 : Int32) (st : MS) (h : wX4_isLegal_88 post  x2 st) : jJ p l e { frames := 1, cells := 0, slots := 0, locals := 23 } s m args below meth c (MQ below (va_Qi post (fun u => cB D ct A (TW ct ad tl u)) A) args s 0 0 A) A D 7 (TW ct ad tl st) 0 0 88 [(2, .int x2)] [.ref (ad 0)] := by
  unfold wX4_isLegal_88 at h
  refine j_iload_n K 0 dX4_isLegal_88 rfl rfl ?_
  refine j_lv K [] (lv' := []) rfl ?_
  exact kX4_isLegal_89 K hr hgl  x2 st h
theorem kX4_isLegal_84 {p : Program} {l : Launch} {e : Env} {s : State} {m : MethodId} {args : Array Value} {below : List Frame} {meth : Method} {c : Code} {A : Nat → Prop} {D : va_G} {ct : Nat → ClassId} {ad : Nat → Nat} {tl : va_W} {G : gE} {t : Nat} {post : Int32 → MS → Prop} (K : CX p s m args meth c cX4_isLegal 7 RX4 A D ct G) (hr : meth.sig.returnType = (some .boolean)) (hgl : gHas G t)   (x1 : Int32) (st : MS) (h : wX4_isLegal_84 post  x1 st) : jJ p l e { frames := 1, cells := 0, slots := 0, locals := 23 } s m args below meth c (MQ below (va_Qi post (fun u => cB D ct A (TW ct ad tl u)) A) args s 0 0 A) A D 7 (TW ct ad tl st) 0 0 84 [(1, .int x1)] [.ref (ad 0)] := by
  unfold wX4_isLegal_84 at h
  refine j_iload_n K 0 dX4_isLegal_84 rfl rfl ?_
  refine j_goto K 89 dX4_isLegal_85 (by decide) ?_
  refine j_lv K [] (lv' := []) rfl ?_
  exact kX4_isLegal_89 K hr hgl  x1 st h
theorem kX4_isLegal_79 {p : Program} {l : Launch} {e : Env} {s : State} {m : MethodId} {args : Array Value} {below : List Frame} {meth : Method} {c : Code} {A : Nat → Prop} {D : va_G} {ct : Nat → ClassId} {ad : Nat → Nat} {tl : va_W} {G : gE} {t : Nat} {post : Int32 → MS → Prop} (K : CX p s m args meth c cX4_isLegal 7 RX4 A D ct G) (hr : meth.sig.returnType = (some .boolean)) (hgl : gHas G t)   (x1 : Int32) (x2 : Int32) (x3 : Int32) (st : MS) (h : wX4_isLegal_79 post  x1 x2 x3 st) : jJ p l e { frames := 1, cells := 0, slots := 0, locals := 23 } s m args below meth c (MQ below (va_Qi post (fun u => cB D ct A (TW ct ad tl u)) A) args s 0 0 A) A D 7 (TW ct ad tl st) 0 0 79 [(0, .ref (ad 0)), (1, .int x1), (2, .int x2), (3, .int x3)] [] := by
  unfold wX4_isLegal_79 at h
  refine j_aload_n K 0 dX4_isLegal_79 rfl rfl ?_
  refine j_iload_n K 3 dX4_isLegal_80 rfl rfl ?_
  refine j_if_ne K 88 dX4_isLegal_81 (by decide) (fun hc => ?_) (fun hc => ?_)
  · refine j_lv K [2] (lv' := [(2, .int x2)]) rfl ?_
    exact kX4_isLegal_88 K hr hgl  x2 st (h.1 hc)
  · refine j_lv K [1] (lv' := [(1, .int x1)]) rfl ?_
    exact kX4_isLegal_84 K hr hgl  x1 st (h.2 hc)
theorem kX4_isLegal_73 {p : Program} {l : Launch} {e : Env} {s : State} {m : MethodId} {args : Array Value} {below : List Frame} {meth : Method} {c : Code} {A : Nat → Prop} {D : va_G} {ct : Nat → ClassId} {ad : Nat → Nat} {tl : va_W} {G : gE} {t : Nat} {post : Int32 → MS → Prop} (K : CX p s m args meth c cX4_isLegal 7 RX4 A D ct G) (hr : meth.sig.returnType = (some .boolean)) (hgl : gHas G t)   (x1 : Int32) (x2 : Int32) (x3 : Int32) (st : MS) (h : wX4_isLegal_73 post  x1 x2 x3 st) : jJ p l e { frames := 1, cells := 0, slots := 0, locals := 23 } s m args below meth c (MQ below (va_Qi post (fun u => cB D ct A (TW ct ad tl u)) A) args s 0 0 A) A D 7 (TW ct ad tl st) 0 0 73 [(0, .ref (ad 0)), (1, .int x1), (2, .int x2), (3, .int x3)] [] := by
  unfold wX4_isLegal_73 at h
  refine j_iload_n K 1 dX4_isLegal_73 rfl rfl ?_
  refine j_iload_n K 2 dX4_isLegal_74 rfl rfl ?_
  refine j_iand K dX4_isLegal_75 ?_
  refine j_if_ne K 99 dX4_isLegal_76 (by decide) (fun hc => ?_) (fun hc => ?_)
  · refine j_lv K [] (lv' := []) rfl ?_
    exact kX4_isLegal_99 K hr hgl  st (h.1 hc)
  · exact kX4_isLegal_79 K hr hgl  x1 x2 x3 st (h.2 hc)
theorem kX4_isLegal_66 {p : Program} {l : Launch} {e : Env} {s : State} {m : MethodId} {args : Array Value} {below : List Frame} {meth : Method} {c : Code} {A : Nat → Prop} {D : va_G} {ct : Nat → ClassId} {ad : Nat → Nat} {tl : va_W} {G : gE} {t : Nat} {post : Int32 → MS → Prop} (K : CX p s m args meth c cX4_isLegal 7 RX4 A D ct G) (hr : meth.sig.returnType = (some .boolean)) (hgl : gHas G t)   (x1 : Int32) (x2 : Int32) (x3 : Int32) (s0 : Int32) (st : MS) (h : wX4_isLegal_66 post  x1 x2 x3 s0 st) : jJ p l e { frames := 1, cells := 0, slots := 0, locals := 23 } s m args below meth c (MQ below (va_Qi post (fun u => cB D ct A (TW ct ad tl u)) A) args s 0 0 A) A D 7 (TW ct ad tl st) 0 0 66 [(0, .ref (ad 0)), (1, .int x1), (2, .int x2), (3, .int x3)] [.int s0] := by
  unfold wX4_isLegal_66 at h
  refine j_istore K [(6, .int s0), (0, .ref (ad 0)), (1, .int x1), (2, .int x2), (3, .int x3)] dX4_isLegal_66 (by decide) rfl ?_
  refine j_iload K 0 dX4_isLegal_68 rfl ?_
  refine j_if_eq K 99 dX4_isLegal_70 (by decide) (fun hc => ?_) (fun hc => ?_)
  · refine j_lv K [] (lv' := []) rfl ?_
    exact kX4_isLegal_99 K hr hgl  st (h.1 hc)
  · refine j_lv K [1, 2, 3, 4] (lv' := [(0, .ref (ad 0)), (1, .int x1), (2, .int x2), (3, .int x3)]) rfl ?_
    exact kX4_isLegal_73 K hr hgl  x1 x2 x3 st (h.2 hc)
theorem kX4_isLegal_65 {p : Program} {l : Launch} {e : Env} {s : State} {m : MethodId} {args : Array Value} {below : List Frame} {meth : Method} {c : Code} {A : Nat → Prop} {D : va_G} {ct : Nat → ClassId} {ad : Nat → Nat} {tl : va_W} {G : gE} {t : Nat} {post : Int32 → MS → Prop} (K : CX p s m args meth c cX4_isLegal 7 RX4 A D ct G) (hr : meth.sig.returnType = (some .boolean)) (hgl : gHas G t)   (x1 : Int32) (x2 : Int32) (x3 : Int32) (st : MS) (h : wX4_isLegal_65 post  x1 x2 x3 st) : jJ p l e { frames := 1, cells := 0, slots := 0, locals := 23 } s m args below meth c (MQ below (va_Qi post (fun u => cB D ct A (TW ct ad tl u)) A) args s 0 0 A) A D 7 (TW ct ad tl st) 0 0 65 [(0, .ref (ad 0)), (1, .int x1), (2, .int x2), (3, .int x3)] [] := by
  unfold wX4_isLegal_65 at h
  refine j_iconst K (0 : Int32) dX4_isLegal_65 (by decide) ?_
  exact kX4_isLegal_66 K hr hgl  x1 x2 x3 (0 : Int32) st h
theorem kX4_isLegal_61 {p : Program} {l : Launch} {e : Env} {s : State} {m : MethodId} {args : Array Value} {below : List Frame} {meth : Method} {c : Code} {A : Nat → Prop} {D : va_G} {ct : Nat → ClassId} {ad : Nat → Nat} {tl : va_W} {G : gE} {t : Nat} {post : Int32 → MS → Prop} (K : CX p s m args meth c cX4_isLegal 7 RX4 A D ct G) (hr : meth.sig.returnType = (some .boolean)) (hgl : gHas G t)   (x1 : Int32) (x2 : Int32) (x3 : Int32) (st : MS) (h : wX4_isLegal_61 post  x1 x2 x3 st) : jJ p l e { frames := 1, cells := 0, slots := 0, locals := 23 } s m args below meth c (MQ below (va_Qi post (fun u => cB D ct A (TW ct ad tl u)) A) args s 0 0 A) A D 7 (TW ct ad tl st) 0 0 61 [(0, .ref (ad 0)), (1, .int x1), (2, .int x2), (3, .int x3)] [] := by
  unfold wX4_isLegal_61 at h
  refine j_iconst K (1 : Int32) dX4_isLegal_61 (by decide) ?_
  refine j_goto K 66 dX4_isLegal_62 (by decide) ?_
  exact kX4_isLegal_66 K hr hgl  x1 x2 x3 (1 : Int32) st h
theorem kX4_isLegal_55 {p : Program} {l : Launch} {e : Env} {s : State} {m : MethodId} {args : Array Value} {below : List Frame} {meth : Method} {c : Code} {A : Nat → Prop} {D : va_G} {ct : Nat → ClassId} {ad : Nat → Nat} {tl : va_W} {G : gE} {t : Nat} {post : Int32 → MS → Prop} (K : CX p s m args meth c cX4_isLegal 7 RX4 A D ct G) (hr : meth.sig.returnType = (some .boolean)) (hgl : gHas G t)   (x1 : Int32) (x2 : Int32) (x3 : Int32) (x5 : Int32) (st : MS) (h : wX4_isLegal_55 post  x1 x2 x3 x5 st) : jJ p l e { frames := 1, cells := 0, slots := 0, locals := 23 } s m args below meth c (MQ below (va_Qi post (fun u => cB D ct A (TW ct ad tl u)) A) args s 0 0 A) A D 7 (TW ct ad tl st) 0 0 55 [(0, .ref (ad 0)), (1, .int x1), (2, .int x2), (3, .int x3), (5, .int x5)] [] := by
  unfold wX4_isLegal_55 at h
  refine j_iload K 4 dX4_isLegal_55 rfl ?_
  refine j_iconst K (3 : Int32) dX4_isLegal_57 (by decide) ?_
  refine j_icmp_ne K 65 dX4_isLegal_58 (by decide) (fun hc => ?_) (fun hc => ?_)
  · refine j_lv K [0, 1, 2, 3] (lv' := [(0, .ref (ad 0)), (1, .int x1), (2, .int x2), (3, .int x3)]) rfl ?_
    exact kX4_isLegal_65 K hr hgl  x1 x2 x3 st (h.1 hc)
  · refine j_lv K [0, 1, 2, 3] (lv' := [(0, .ref (ad 0)), (1, .int x1), (2, .int x2), (3, .int x3)]) rfl ?_
    exact kX4_isLegal_61 K hr hgl  x1 x2 x3 st (h.2 hc)
theorem kX4_isLegal_49 {p : Program} {l : Launch} {e : Env} {s : State} {m : MethodId} {args : Array Value} {below : List Frame} {meth : Method} {c : Code} {A : Nat → Prop} {D : va_G} {ct : Nat → ClassId} {ad : Nat → Nat} {tl : va_W} {G : gE} {t : Nat} {post : Int32 → MS → Prop} (K : CX p s m args meth c cX4_isLegal 7 RX4 A D ct G) (hr : meth.sig.returnType = (some .boolean)) (hgl : gHas G t)   (x1 : Int32) (x2 : Int32) (x3 : Int32) (x4 : Int32) (x5 : Int32) (st : MS) (h : wX4_isLegal_49 post  x1 x2 x3 x4 x5 st) : jJ p l e { frames := 1, cells := 0, slots := 0, locals := 23 } s m args below meth c (MQ below (va_Qi post (fun u => cB D ct A (TW ct ad tl u)) A) args s 0 0 A) A D 7 (TW ct ad tl st) 0 0 49 [(0, .ref (ad 0)), (1, .int x1), (2, .int x2), (3, .int x3), (4, .int x4), (5, .int x5)] [] := by
  unfold wX4_isLegal_49 at h
  refine j_iload K 4 dX4_isLegal_49 rfl ?_
  refine j_iconst K (3 : Int32) dX4_isLegal_51 (by decide) ?_
  refine j_icmp_ne K 65 dX4_isLegal_52 (by decide) (fun hc => ?_) (fun hc => ?_)
  · refine j_lv K [0, 1, 2, 3] (lv' := [(0, .ref (ad 0)), (1, .int x1), (2, .int x2), (3, .int x3)]) rfl ?_
    exact kX4_isLegal_65 K hr hgl  x1 x2 x3 st (h.1 hc)
  · refine j_lv K [0, 1, 2, 3, 5] (lv' := [(0, .ref (ad 0)), (1, .int x1), (2, .int x2), (3, .int x3), (5, .int x5)]) rfl ?_
    exact kX4_isLegal_55 K hr hgl  x1 x2 x3 x5 st (h.2 hc)
theorem kX4_isLegal_44 {p : Program} {l : Launch} {e : Env} {s : State} {m : MethodId} {args : Array Value} {below : List Frame} {meth : Method} {c : Code} {A : Nat → Prop} {D : va_G} {ct : Nat → ClassId} {ad : Nat → Nat} {tl : va_W} {G : gE} {t : Nat} {post : Int32 → MS → Prop} (K : CX p s m args meth c cX4_isLegal 7 RX4 A D ct G) (hr : meth.sig.returnType = (some .boolean)) (hgl : gHas G t)   (x1 : Int32) (x2 : Int32) (x3 : Int32) (x4 : Int32) (x5 : Int32) (st : MS) (h : wX4_isLegal_44 post  x1 x2 x3 x4 x5 st) : jJ p l e { frames := 1, cells := 0, slots := 0, locals := 23 } s m args below meth c (MQ below (va_Qi post (fun u => cB D ct A (TW ct ad tl u)) A) args s 0 0 A) A D 7 (TW ct ad tl st) 0 0 44 [(0, .ref (ad 0)), (1, .int x1), (2, .int x2), (3, .int x3), (4, .int x4), (5, .int x5)] [] := by
  unfold wX4_isLegal_44 at h
  refine j_iload_n K 3 dX4_isLegal_44 rfl rfl ?_
  refine j_iconst K (1 : Int32) dX4_isLegal_45 (by decide) ?_
  refine j_icmp_eq K 61 dX4_isLegal_46 (by decide) (fun hc => ?_) (fun hc => ?_)
  · refine j_lv K [0, 1, 2, 3] (lv' := [(0, .ref (ad 0)), (1, .int x1), (2, .int x2), (3, .int x3)]) rfl ?_
    exact kX4_isLegal_61 K hr hgl  x1 x2 x3 st (h.1 hc)
  · exact kX4_isLegal_49 K hr hgl  x1 x2 x3 x4 x5 st (h.2 hc)
theorem kX4_isLegal_38 {p : Program} {l : Launch} {e : Env} {s : State} {m : MethodId} {args : Array Value} {below : List Frame} {meth : Method} {c : Code} {A : Nat → Prop} {D : va_G} {ct : Nat → ClassId} {ad : Nat → Nat} {tl : va_W} {G : gE} {t : Nat} {post : Int32 → MS → Prop} (K : CX p s m args meth c cX4_isLegal 7 RX4 A D ct G) (hr : meth.sig.returnType = (some .boolean)) (hgl : gHas G t)   (x1 : Int32) (x2 : Int32) (x3 : Int32) (x4 : Int32) (x5 : Int32) (st : MS) (h : wX4_isLegal_38 post  x1 x2 x3 x4 x5 st) : jJ p l e { frames := 1, cells := 0, slots := 0, locals := 23 } s m args below meth c (MQ below (va_Qi post (fun u => cB D ct A (TW ct ad tl u)) A) args s 0 0 A) A D 7 (TW ct ad tl st) 0 0 38 [(0, .ref (ad 0)), (1, .int x1), (2, .int x2), (3, .int x3), (4, .int x4), (5, .int x5)] [] := by
  unfold wX4_isLegal_38 at h
  refine j_iload K 4 dX4_isLegal_38 rfl ?_
  refine j_iconst K (3 : Int32) dX4_isLegal_40 (by decide) ?_
  refine j_icmp_gt K 49 dX4_isLegal_41 (by decide) (fun hc => ?_) (fun hc => ?_)
  · exact kX4_isLegal_49 K hr hgl  x1 x2 x3 x4 x5 st (h.1 hc)
  · exact kX4_isLegal_44 K hr hgl  x1 x2 x3 x4 x5 st (h.2 hc)
theorem kX4_isLegal_29 {p : Program} {l : Launch} {e : Env} {s : State} {m : MethodId} {args : Array Value} {below : List Frame} {meth : Method} {c : Code} {A : Nat → Prop} {D : va_G} {ct : Nat → ClassId} {ad : Nat → Nat} {tl : va_W} {G : gE} {t : Nat} {post : Int32 → MS → Prop} (K : CX p s m args meth c cX4_isLegal 7 RX4 A D ct G) (hr : meth.sig.returnType = (some .boolean)) (hgl : gHas G t)   (x1 : Int32) (x2 : Int32) (x3 : Int32) (x4 : Int32) (x5 : Int32) (st : MS) (h : wX4_isLegal_29 post  x1 x2 x3 x4 x5 st) : jJ p l e { frames := 1, cells := 0, slots := 0, locals := 23 } s m args below meth c (MQ below (va_Qi post (fun u => cB D ct A (TW ct ad tl u)) A) args s 0 0 A) A D 7 (TW ct ad tl st) 0 0 29 [(0, .ref (ad 0)), (1, .int x1), (2, .int x2), (3, .int x3), (4, .int x4), (5, .int x5)] [] := by
  unfold wX4_isLegal_29 at h
  refine j_iload K 4 dX4_isLegal_29 rfl ?_
  refine j_iload K 5 dX4_isLegal_31 rfl ?_
  refine j_iconst K (1 : Int32) dX4_isLegal_33 (by decide) ?_
  refine j_iadd K dX4_isLegal_34 ?_
  refine j_icmp_ne K 49 dX4_isLegal_35 (by decide) (fun hc => ?_) (fun hc => ?_)
  · exact kX4_isLegal_49 K hr hgl  x1 x2 x3 x4 x5 st (h.1 hc)
  · exact kX4_isLegal_38 K hr hgl  x1 x2 x3 x4 x5 st (h.2 hc)
theorem kX4_isLegal_25 {p : Program} {l : Launch} {e : Env} {s : State} {m : MethodId} {args : Array Value} {below : List Frame} {meth : Method} {c : Code} {A : Nat → Prop} {D : va_G} {ct : Nat → ClassId} {ad : Nat → Nat} {tl : va_W} {G : gE} {t : Nat} {post : Int32 → MS → Prop} (K : CX p s m args meth c cX4_isLegal 7 RX4 A D ct G) (hr : meth.sig.returnType = (some .boolean)) (hgl : gHas G t)   (x1 : Int32) (x2 : Int32) (x3 : Int32) (x4 : Int32) (x5 : Int32) (st : MS) (h : wX4_isLegal_25 post  x1 x2 x3 x4 x5 st) : jJ p l e { frames := 1, cells := 0, slots := 0, locals := 23 } s m args below meth c (MQ below (va_Qi post (fun u => cB D ct A (TW ct ad tl u)) A) args s 0 0 A) A D 7 (TW ct ad tl st) 0 0 25 [(0, .ref (ad 0)), (1, .int x1), (2, .int x2), (3, .int x3), (4, .int x4), (5, .int x5)] [] := by
  unfold wX4_isLegal_25 at h
  refine j_iload_n K 3 dX4_isLegal_25 rfl rfl ?_
  refine j_if_eq K 61 dX4_isLegal_26 (by decide) (fun hc => ?_) (fun hc => ?_)
  · refine j_lv K [0, 1, 2, 3] (lv' := [(0, .ref (ad 0)), (1, .int x1), (2, .int x2), (3, .int x3)]) rfl ?_
    exact kX4_isLegal_61 K hr hgl  x1 x2 x3 st (h.1 hc)
  · exact kX4_isLegal_29 K hr hgl  x1 x2 x3 x4 x5 st (h.2 hc)
theorem kX4_isLegal_19 {p : Program} {l : Launch} {e : Env} {s : State} {m : MethodId} {args : Array Value} {below : List Frame} {meth : Method} {c : Code} {A : Nat → Prop} {D : va_G} {ct : Nat → ClassId} {ad : Nat → Nat} {tl : va_W} {G : gE} {t : Nat} {post : Int32 → MS → Prop} (K : CX p s m args meth c cX4_isLegal 7 RX4 A D ct G) (hr : meth.sig.returnType = (some .boolean)) (hgl : gHas G t)   (x1 : Int32) (x2 : Int32) (x3 : Int32) (x4 : Int32) (x5 : Int32) (st : MS) (h : wX4_isLegal_19 post  x1 x2 x3 x4 x5 st) : jJ p l e { frames := 1, cells := 0, slots := 0, locals := 23 } s m args below meth c (MQ below (va_Qi post (fun u => cB D ct A (TW ct ad tl u)) A) args s 0 0 A) A D 7 (TW ct ad tl st) 0 0 19 [(0, .ref (ad 0)), (1, .int x1), (2, .int x2), (3, .int x3), (4, .int x4), (5, .int x5)] [] := by
  unfold wX4_isLegal_19 at h
  refine j_iload K 4 dX4_isLegal_19 rfl ?_
  refine j_iconst K (3 : Int32) dX4_isLegal_21 (by decide) ?_
  refine j_icmp_ge K 29 dX4_isLegal_22 (by decide) (fun hc => ?_) (fun hc => ?_)
  · exact kX4_isLegal_29 K hr hgl  x1 x2 x3 x4 x5 st (h.1 hc)
  · exact kX4_isLegal_25 K hr hgl  x1 x2 x3 x4 x5 st (h.2 hc)
theorem kX4_isLegal_0 {p : Program} {l : Launch} {e : Env} {s : State} {m : MethodId} {args : Array Value} {below : List Frame} {meth : Method} {c : Code} {A : Nat → Prop} {D : va_G} {ct : Nat → ClassId} {ad : Nat → Nat} {tl : va_W} {G : gE} {t : Nat} {post : Int32 → MS → Prop} (K : CX p s m args meth c cX4_isLegal 7 RX4 A D ct G) (hr : meth.sig.returnType = (some .boolean)) (hgl : gHas G t)   (x1 : Int32) (x2 : Int32) (x3 : Int32) (st : MS) (h : wX4_isLegal_0 post  x1 x2 x3 st) : jJ p l e { frames := 1, cells := 0, slots := 0, locals := 23 } s m args below meth c (MQ below (va_Qi post (fun u => cB D ct A (TW ct ad tl u)) A) args s 0 0 A) A D 7 (TW ct ad tl st) 0 0 0 [(0, .ref (ad 0)), (1, .int x1), (2, .int x2), (3, .int x3)] [] := by
  unfold wX4_isLegal_0 at h
  refine j_iload_n K 1 dX4_isLegal_0 rfl rfl ?_
  refine j_callSi K (As := [.int x1]) (rest := []) (ctJ12_bitCount (l := l) (D := D) (ct := ct) (G := G) (ws := (TW ct ad tl st)) K.2.2.2.2.2.2.2.2.2 x1) (lw_S q438 q423 q90 q424) (n := 1) (by decide +kernel) ⟨Nat.le_of_ble_eq_true rfl, Nat.le_of_ble_eq_true rfl⟩ rfl rfl (Nat.le_of_ble_eq_true rfl) dX4_isLegal_1 ⟨Nat.le_of_ble_eq_true rfl, Nat.le_of_ble_eq_true rfl⟩ (fun r_1 _ hq => ?_)
  replace h := h r_1 hq
  refine j_istore K [(4, .int r_1), (0, .ref (ad 0)), (1, .int x1), (2, .int x2), (3, .int x3)] dX4_isLegal_4 (by decide) rfl ?_
  refine j_iload_n K 3 dX4_isLegal_6 rfl rfl ?_
  refine j_callSi K (As := [.int x2]) (rest := []) (ctJ12_bitCount (l := l) (D := D) (ct := ct) (G := G) (ws := (TW ct ad tl st)) K.2.2.2.2.2.2.2.2.2 x2) (lw_S q438 q423 q90 q424) (n := 1) (by decide +kernel) ⟨Nat.le_of_ble_eq_true rfl, Nat.le_of_ble_eq_true rfl⟩ rfl rfl (Nat.le_of_ble_eq_true rfl) dX4_isLegal_7 ⟨Nat.le_of_ble_eq_true rfl, Nat.le_of_ble_eq_true rfl⟩ (fun r_2 _ hq => ?_)
  replace h := h r_2 hq
  refine j_istore K [(5, .int r_2), (4, .int r_1), (0, .ref (ad 0)), (1, .int x1), (2, .int x2), (3, .int x3)] dX4_isLegal_10 (by decide) rfl ?_
  refine j_iload K 1 dX4_isLegal_12 rfl ?_
  refine j_iload K 0 dX4_isLegal_14 rfl ?_
  refine j_icmp_ne K 29 dX4_isLegal_16 (by decide) (fun hc => ?_) (fun hc => ?_)
  · refine j_lv K [2, 3, 4, 5, 1, 0] (lv' := [(0, .ref (ad 0)), (1, .int x1), (2, .int x2), (3, .int x3), (4, .int r_1), (5, .int r_2)]) rfl ?_
    exact kX4_isLegal_29 K hr hgl  x1 x2 x3 r_1 r_2 st (h.1 hc)
  · refine j_lv K [2, 3, 4, 5, 1, 0] (lv' := [(0, .ref (ad 0)), (1, .int x1), (2, .int x2), (3, .int x3), (4, .int r_1), (5, .int r_2)]) rfl ?_
    exact kX4_isLegal_19 K hr hgl  x1 x2 x3 r_1 r_2 st (h.2 hc)
theorem ctX4_isLegal {l : Launch} {D : va_G} {ct : Nat → ClassId} {ad : Nat → Nat} {tl : va_W} {G : gE} {t : Nat} (hG : gOK G) (hgl : gHas G t) (x1 : Int32) (x2 : Int32) (x3 : Int32) (st : MS) (hp : pX4_isLegal x1 x2 x3 st) : ∀ sz, Met l yX4_isLegal (ws_ yX4_isLegal cX4_isLegal 7 (some .boolean)) { frames := 1, cells := 0, slots := 0, locals := 23 } (va_Pc [.ref (ad 0), .int x1, .int x2, .int x3] (cPre G D ct (TW ct ad tl st) sz)) (va_Qi (fun (r : Int32) (u : MS) => qX4_isLegal x1 x2 x3 st r ∧ st = u) (fun u => cB D ct (va_A (TW ct ad tl st) sz) (TW ct ad tl u)) (va_A (TW ct ad tl st) sz)) 0 0 (va_A (TW ct ad tl st) sz) := fun sz =>
  j_met (Qc := fun A => va_Qi (fun (r : Int32) (u : MS) => qX4_isLegal x1 x2 x3 st r ∧ st = u) (fun u => cB D ct A (TW ct ad tl u)) A) (by decide) hG (Nat.le_of_ble_eq_true rfl) (fun p e s m args below meth c A K hr _ _ => kX4_isLegal_0 K hr hgl x1 x2 x3 st (vcX4_isLegal x1 x2 x3 st hp))
