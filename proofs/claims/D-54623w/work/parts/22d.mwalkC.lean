/-! WALKS and CONTRACTS of the reference, printed by gen_model.py -/
-- X3_remember
theorem gwX3_remember : GoodIn lw_all (wsV RX3 55 RX3 yX3_remember (ws_ yX3_remember cX3_remember 2 none)) := lw_V q1049 q1051 qs36 q84 q1052
theorem gdX3_remember : yX3_remember.cls = RX3 ∧ yX3_remember.cls ≠ "java/lang/invoke/MethodHandle" ∧ yX3_remember.cls ≠ "java/lang/invoke/VarHandle" ∧ (parseMethodDescriptor yX3_remember.desc).map (fun d => d.parameters.length) = some 0 := by decide +kernel
theorem kX3_remember_27 {p : Program} {l : Launch} {e : Env} {s : State} {m : MethodId} {args : Array Value} {below : List Frame} {meth : Method} {c : Code} {A : Nat → Prop} {D : va_G} {ct : Nat → ClassId} {ad : Nat → Nat} {post : MS → Prop} (K : CX p s m args meth c cX3_remember 2 RX3 A D ct gT) (hr : meth.sig.returnType = none)    (st : MS) (h : wX3_remember_27 post  st) : jJ p l e { frames := 0, cells := 0, slots := 0, locals := 0 } s m args below meth c (MQ below (va_Qv post (fun u => cB D ct A (MW ct ad u)) A) args s 0 0 A) A D 2 (MW ct ad st) 0 0 27 [] [] := by
  unfold wX3_remember_27 at h
  exact j_vret st K hr rfl h (Nat.le_of_ble_eq_true rfl) (Nat.le_of_ble_eq_true rfl) dX3_remember_27
theorem kX3_remember_9 {p : Program} {l : Launch} {e : Env} {s : State} {m : MethodId} {args : Array Value} {below : List Frame} {meth : Method} {c : Code} {A : Nat → Prop} {D : va_G} {ct : Nat → ClassId} {ad : Nat → Nat} {post : MS → Prop} (K : CX p s m args meth c cX3_remember 2 RX3 A D ct gT) (hr : meth.sig.returnType = none) (L2 : Int32 → MS → Prop) (hL2 : ∀ (x1 : Int32) (st : MS), L2 x1 st → jJ p l e { frames := 0, cells := 0, slots := 0, locals := 0 } s m args below meth c (MQ below (va_Qv post (fun u => cB D ct A (MW ct ad u)) A) args s 0 0 A) A D 2 (MW ct ad st) 0 0 2 [(0, .ref (ad 0)), (1, .int x1)] []) (x1 : Int32) (st : MS) (h : wX3_remember_9 post L2 x1 st) : jJ p l e { frames := 0, cells := 0, slots := 0, locals := 0 } s m args below meth c (MQ below (va_Qv post (fun u => cB D ct A (MW ct ad u)) A) args s 0 0 A) A D 2 (MW ct ad st) 0 0 9 [(0, .ref (ad 0)), (1, .int x1)] [] := by
  unfold wX3_remember_9 at h
  refine j_aload_n K 0 dX3_remember_9 rfl rfl ?_
  refine mg_before K dX3_remember_10 ?_
  refine j_iload_n K 1 dX3_remember_13 rfl rfl ?_
  refine j_aload_n K 0 dX3_remember_14 rfl rfl ?_
  refine mg_row K dX3_remember_15 ?_
  refine j_iload_n K 1 dX3_remember_18 rfl rfl ?_
  obtain ⟨hc, h⟩ := h
  refine ml_row K hc dX3_remember_19 ?_
  obtain ⟨hc, h⟩ := h
  refine mt_before K hc dX3_remember_20 ?_
  refine j_iinc K 1 (x1 + (1 : Int32)) [(1, .int (x1 + (1 : Int32))), (0, .ref (ad 0))] dX3_remember_21 rfl rfl (by decide) rfl ?_
  refine j_goto K 2 dX3_remember_24 (by decide) ?_
  refine j_lv K [1, 0] (lv' := [(0, .ref (ad 0)), (1, .int (x1 + (1 : Int32)))]) rfl ?_
  exact hL2 (x1 + (1 : Int32)) (mA st 2 (x1).toNatClampNeg (st.1 0 (x1).toNatClampNeg)) h
theorem kX3_remember_2_b {p : Program} {l : Launch} {e : Env} {s : State} {m : MethodId} {args : Array Value} {below : List Frame} {meth : Method} {c : Code} {A : Nat → Prop} {D : va_G} {ct : Nat → ClassId} {ad : Nat → Nat} {post : MS → Prop} (K : CX p s m args meth c cX3_remember 2 RX3 A D ct gT) (hr : meth.sig.returnType = none) (L2 : Int32 → MS → Prop) (hL2 : ∀ (x1 : Int32) (st : MS), L2 x1 st → jJ p l e { frames := 0, cells := 0, slots := 0, locals := 0 } s m args below meth c (MQ below (va_Qv post (fun u => cB D ct A (MW ct ad u)) A) args s 0 0 A) A D 2 (MW ct ad st) 0 0 2 [(0, .ref (ad 0)), (1, .int x1)] []) (x1 : Int32) (st : MS) (h : wX3_remember_2_b post L2 x1 st) : jJ p l e { frames := 0, cells := 0, slots := 0, locals := 0 } s m args below meth c (MQ below (va_Qv post (fun u => cB D ct A (MW ct ad u)) A) args s 0 0 A) A D 2 (MW ct ad st) 0 0 2 [(0, .ref (ad 0)), (1, .int x1)] [] := by
  unfold wX3_remember_2_b at h
  refine j_iload_n K 1 dX3_remember_2 rfl rfl ?_
  refine j_sipush K (7003 : Int32) dX3_remember_3 (by decide) ?_
  refine j_icmp_ge K 27 dX3_remember_6 (by decide) (fun hc => ?_) (fun hc => ?_)
  · refine j_lv K [] (lv' := []) rfl ?_
    exact kX3_remember_27 K hr  st (h.1 hc)
  · exact kX3_remember_9 K hr L2 hL2 x1 st (h.2 hc)
theorem kX3_remember_2 {p : Program} {l : Launch} {e : Env} {s : State} {m : MethodId} {args : Array Value} {below : List Frame} {meth : Method} {c : Code} {A : Nat → Prop} {D : va_G} {ct : Nat → ClassId} {ad : Nat → Nat} {post : MS → Prop} (K : CX p s m args meth c cX3_remember 2 RX3 A D ct gT) (hr : meth.sig.returnType = none)   (x1 : Int32) (st : MS) (h : wX3_remember_2 post  x1 st) : jJ p l e { frames := 0, cells := 0, slots := 0, locals := 0 } s m args below meth c (MQ below (va_Qv post (fun u => cB D ct A (MW ct ad u)) A) args s 0 0 A) A D 2 (MW ct ad st) 0 0 2 [(0, .ref (ad 0)), (1, .int x1)] [] :=
  wloop_sound (V := Int32 × MS) (Wk := fun v => jJ p l e { frames := 0, cells := 0, slots := 0, locals := 0 } s m args below meth c (MQ below (va_Qv post (fun u => cB D ct A (MW ct ad u)) A) args s 0 0 A) A D 2 (MW ct ad v.2) 0 0 2 [(0, .ref (ad 0)), (1, .int v.1)] []) (fun L hL v hb => kX3_remember_2_b K hr (fun x1 st => L (x1, st)) (fun x1 st hx => hL (x1, st) hx) v.1 v.2 hb) h
theorem kX3_remember_0 {p : Program} {l : Launch} {e : Env} {s : State} {m : MethodId} {args : Array Value} {below : List Frame} {meth : Method} {c : Code} {A : Nat → Prop} {D : va_G} {ct : Nat → ClassId} {ad : Nat → Nat} {post : MS → Prop} (K : CX p s m args meth c cX3_remember 2 RX3 A D ct gT) (hr : meth.sig.returnType = none)    (st : MS) (h : wX3_remember_0 post  st) : jJ p l e { frames := 0, cells := 0, slots := 0, locals := 0 } s m args below meth c (MQ below (va_Qv post (fun u => cB D ct A (MW ct ad u)) A) args s 0 0 A) A D 2 (MW ct ad st) 0 0 0 [(0, .ref (ad 0))] [] := by
  unfold wX3_remember_0 at h
  refine j_iconst K (0 : Int32) dX3_remember_0 (by decide) ?_
  refine j_istore_n K [(1, .int (0 : Int32)), (0, .ref (ad 0))] dX3_remember_1 rfl (by decide) rfl ?_
  refine j_lv K [1, 0] (lv' := [(0, .ref (ad 0)), (1, .int (0 : Int32))]) rfl ?_
  exact kX3_remember_2 K hr  (0 : Int32) st h
theorem ctX3_remember {l : Launch} {D : va_G} {ct : Nat → ClassId} {ad : Nat → Nat}  (st : MS) (hp : pX3_remember  st) : ∀ sz, Met l yX3_remember (ws_ yX3_remember cX3_remember 2 none) { frames := 0, cells := 0, slots := 0, locals := 0 } (va_Pc [.ref (ad 0)] (cPre gT D ct (MW ct ad st) sz)) (va_Qv (qX3_remember  st) (fun u => cB D ct (va_A (MW ct ad st) sz) (MW ct ad u)) (va_A (MW ct ad st) sz)) 0 0 (va_A (MW ct ad st) sz) := fun sz =>
  j_met (Qc := fun A => va_Qv (qX3_remember  st) (fun u => cB D ct A (MW ct ad u)) A) (by decide) gT_ok (Nat.le_of_ble_eq_true rfl) (fun p e s m args below meth c A K hr _ _ => kX3_remember_0 K hr  st (vcX3_remember  st hp))
-- X3_record
theorem gwX3_record : GoodIn lw_all (wsV RX3 58 RX3 yX3_record (ws_ yX3_record cX3_record 3 (some .int))) := lw_V q1053 q1055 qs37 q84 q1056
theorem gdX3_record : yX3_record.cls = RX3 ∧ yX3_record.cls ≠ "java/lang/invoke/MethodHandle" ∧ yX3_record.cls ≠ "java/lang/invoke/VarHandle" ∧ (parseMethodDescriptor yX3_record.desc).map (fun d => d.parameters.length) = some 1 := by decide +kernel
theorem kX3_record_91 {p : Program} {l : Launch} {e : Env} {s : State} {m : MethodId} {args : Array Value} {below : List Frame} {meth : Method} {c : Code} {A : Nat → Prop} {D : va_G} {ct : Nat → ClassId} {ad : Nat → Nat} {post : Int32 → MS → Prop} (K : CX p s m args meth c cX3_record 3 RX3 A D ct gT) (hr : meth.sig.returnType = (some .int))   (x1 : Int32) (st : MS) (h : wX3_record_91 post  x1 st) : jJ p l e { frames := 0, cells := 0, slots := 0, locals := 0 } s m args below meth c (MQ below (va_Qi post (fun u => cB D ct A (MW ct ad u)) A) args s 0 0 A) A D 3 (MW ct ad st) 0 0 91 [(0, .ref (ad 0)), (1, .int x1)] [] := by
  unfold wX3_record_91 at h
  refine j_aload_n K 0 dX3_record_91 rfl rfl ?_
  refine j_dup K dX3_record_92 rfl ?_
  refine mg_states K dX3_record_93 ?_
  refine j_iconst K (1 : Int32) dX3_record_96 (by decide) ?_
  refine j_iadd K dX3_record_97 ?_
  refine mp_states K dX3_record_98 ?_
  refine j_iload_n K 1 dX3_record_101 rfl rfl ?_
  exact j_iret (mF st 0 ((st.2 0) + (1 : Int32))) K hr rfl h (Nat.le_of_ble_eq_true rfl) (Nat.le_of_ble_eq_true rfl) dX3_record_102
theorem kX3_record_64 {p : Program} {l : Launch} {e : Env} {s : State} {m : MethodId} {args : Array Value} {below : List Frame} {meth : Method} {c : Code} {A : Nat → Prop} {D : va_G} {ct : Nat → ClassId} {ad : Nat → Nat} {post : Int32 → MS → Prop} (K : CX p s m args meth c cX3_record 3 RX3 A D ct gT) (hr : meth.sig.returnType = (some .int)) (L57 : Int32 → Int32 → MS → Prop) (hL57 : ∀ (x1 : Int32) (x2 : Int32) (st : MS), L57 x1 x2 st → jJ p l e { frames := 0, cells := 0, slots := 0, locals := 0 } s m args below meth c (MQ below (va_Qi post (fun u => cB D ct A (MW ct ad u)) A) args s 0 0 A) A D 3 (MW ct ad st) 0 0 57 [(0, .ref (ad 0)), (1, .int x1), (2, .int x2)] []) (x1 : Int32) (x2 : Int32) (st : MS) (h : wX3_record_64 post L57 x1 x2 st) : jJ p l e { frames := 0, cells := 0, slots := 0, locals := 0 } s m args below meth c (MQ below (va_Qi post (fun u => cB D ct A (MW ct ad u)) A) args s 0 0 A) A D 3 (MW ct ad st) 0 0 64 [(0, .ref (ad 0)), (1, .int x1), (2, .int x2)] [] := by
  unfold wX3_record_64 at h
  refine j_aload_n K 0 dX3_record_64 rfl rfl ?_
  refine mg_past K dX3_record_65 ?_
  refine j_sipush K (7003 : Int32) dX3_record_68 (by decide) ?_
  refine j_aload_n K 0 dX3_record_71 rfl rfl ?_
  refine mg_states K dX3_record_72 ?_
  refine j_imul K dX3_record_75 ?_
  refine j_iload_n K 2 dX3_record_76 rfl rfl ?_
  refine j_iadd K dX3_record_77 ?_
  refine j_aload_n K 0 dX3_record_78 rfl rfl ?_
  refine mg_before K dX3_record_79 ?_
  refine j_iload_n K 2 dX3_record_82 rfl rfl ?_
  obtain ⟨hc, h⟩ := h
  refine ml_before K hc dX3_record_83 ?_
  obtain ⟨hc, h⟩ := h
  refine mt_past K hc dX3_record_84 ?_
  refine j_iinc K 2 (x2 + (1 : Int32)) [(2, .int (x2 + (1 : Int32))), (0, .ref (ad 0)), (1, .int x1)] dX3_record_85 rfl rfl (by decide) rfl ?_
  refine j_goto K 57 dX3_record_88 (by decide) ?_
  refine j_lv K [1, 2, 0] (lv' := [(0, .ref (ad 0)), (1, .int x1), (2, .int (x2 + (1 : Int32)))]) rfl ?_
  exact hL57 x1 (x2 + (1 : Int32)) (mA st 1 ((((7003 : Int32) * (st.2 0)) + x2)).toNatClampNeg (st.1 2 (x2).toNatClampNeg)) h
theorem kX3_record_57_b {p : Program} {l : Launch} {e : Env} {s : State} {m : MethodId} {args : Array Value} {below : List Frame} {meth : Method} {c : Code} {A : Nat → Prop} {D : va_G} {ct : Nat → ClassId} {ad : Nat → Nat} {post : Int32 → MS → Prop} (K : CX p s m args meth c cX3_record 3 RX3 A D ct gT) (hr : meth.sig.returnType = (some .int)) (L57 : Int32 → Int32 → MS → Prop) (hL57 : ∀ (x1 : Int32) (x2 : Int32) (st : MS), L57 x1 x2 st → jJ p l e { frames := 0, cells := 0, slots := 0, locals := 0 } s m args below meth c (MQ below (va_Qi post (fun u => cB D ct A (MW ct ad u)) A) args s 0 0 A) A D 3 (MW ct ad st) 0 0 57 [(0, .ref (ad 0)), (1, .int x1), (2, .int x2)] []) (x1 : Int32) (x2 : Int32) (st : MS) (h : wX3_record_57_b post L57 x1 x2 st) : jJ p l e { frames := 0, cells := 0, slots := 0, locals := 0 } s m args below meth c (MQ below (va_Qi post (fun u => cB D ct A (MW ct ad u)) A) args s 0 0 A) A D 3 (MW ct ad st) 0 0 57 [(0, .ref (ad 0)), (1, .int x1), (2, .int x2)] [] := by
  unfold wX3_record_57_b at h
  refine j_iload_n K 2 dX3_record_57 rfl rfl ?_
  refine j_sipush K (7003 : Int32) dX3_record_58 (by decide) ?_
  refine j_icmp_ge K 91 dX3_record_61 (by decide) (fun hc => ?_) (fun hc => ?_)
  · refine j_lv K [0, 1] (lv' := [(0, .ref (ad 0)), (1, .int x1)]) rfl ?_
    exact kX3_record_91 K hr  x1 st (h.1 hc)
  · exact kX3_record_64 K hr L57 hL57 x1 x2 st (h.2 hc)
theorem kX3_record_57 {p : Program} {l : Launch} {e : Env} {s : State} {m : MethodId} {args : Array Value} {below : List Frame} {meth : Method} {c : Code} {A : Nat → Prop} {D : va_G} {ct : Nat → ClassId} {ad : Nat → Nat} {post : Int32 → MS → Prop} (K : CX p s m args meth c cX3_record 3 RX3 A D ct gT) (hr : meth.sig.returnType = (some .int))   (x1 : Int32) (x2 : Int32) (st : MS) (h : wX3_record_57 post  x1 x2 st) : jJ p l e { frames := 0, cells := 0, slots := 0, locals := 0 } s m args below meth c (MQ below (va_Qi post (fun u => cB D ct A (MW ct ad u)) A) args s 0 0 A) A D 3 (MW ct ad st) 0 0 57 [(0, .ref (ad 0)), (1, .int x1), (2, .int x2)] [] :=
  wloop_sound (V := Int32 × Int32 × MS) (Wk := fun v => jJ p l e { frames := 0, cells := 0, slots := 0, locals := 0 } s m args below meth c (MQ below (va_Qi post (fun u => cB D ct A (MW ct ad u)) A) args s 0 0 A) A D 3 (MW ct ad v.2.2) 0 0 57 [(0, .ref (ad 0)), (1, .int v.1), (2, .int v.2.1)] []) (fun L hL v hb => kX3_record_57_b K hr (fun x1 x2 st => L (x1, x2, st)) (fun x1 x2 st hx => hL (x1, x2, st) hx) v.1 v.2.1 v.2.2 hb) h
theorem kX3_record_55 {p : Program} {l : Launch} {e : Env} {s : State} {m : MethodId} {args : Array Value} {below : List Frame} {meth : Method} {c : Code} {A : Nat → Prop} {D : va_G} {ct : Nat → ClassId} {ad : Nat → Nat} {post : Int32 → MS → Prop} (K : CX p s m args meth c cX3_record 3 RX3 A D ct gT) (hr : meth.sig.returnType = (some .int))   (x1 : Int32) (st : MS) (h : wX3_record_55 post  x1 st) : jJ p l e { frames := 0, cells := 0, slots := 0, locals := 0 } s m args below meth c (MQ below (va_Qi post (fun u => cB D ct A (MW ct ad u)) A) args s 0 0 A) A D 3 (MW ct ad st) 0 0 55 [(0, .ref (ad 0)), (1, .int x1)] [] := by
  unfold wX3_record_55 at h
  refine j_iconst K (0 : Int32) dX3_record_55 (by decide) ?_
  refine j_istore_n K [(2, .int (0 : Int32)), (0, .ref (ad 0)), (1, .int x1)] dX3_record_56 rfl (by decide) rfl ?_
  refine j_lv K [1, 2, 0] (lv' := [(0, .ref (ad 0)), (1, .int x1), (2, .int (0 : Int32))]) rfl ?_
  exact kX3_record_57 K hr  x1 (0 : Int32) st h
theorem kX3_record_45 {p : Program} {l : Launch} {e : Env} {s : State} {m : MethodId} {args : Array Value} {below : List Frame} {meth : Method} {c : Code} {A : Nat → Prop} {D : va_G} {ct : Nat → ClassId} {ad : Nat → Nat} {post : Int32 → MS → Prop} (K : CX p s m args meth c cX3_record 3 RX3 A D ct gT) (hr : meth.sig.returnType = (some .int))   (x1 : Int32) (st : MS) (h : wX3_record_45 post  x1 st) : jJ p l e { frames := 0, cells := 0, slots := 0, locals := 0 } s m args below meth c (MQ below (va_Qi post (fun u => cB D ct A (MW ct ad u)) A) args s 0 0 A) A D 3 (MW ct ad st) 0 0 45 [(0, .ref (ad 0)), (1, .int x1)] [] := by
  unfold wX3_record_45 at h
  refine j_aload_n K 0 dX3_record_45 rfl rfl ?_
  refine j_dup K dX3_record_46 rfl ?_
  refine mg_states K dX3_record_47 ?_
  refine j_iconst K (1 : Int32) dX3_record_50 (by decide) ?_
  refine j_isub K dX3_record_51 ?_
  refine mp_states K dX3_record_52 ?_
  exact kX3_record_55 K hr  x1 (mF st 0 ((st.2 0) - (1 : Int32))) h
theorem kX3_record_23 {p : Program} {l : Launch} {e : Env} {s : State} {m : MethodId} {args : Array Value} {below : List Frame} {meth : Method} {c : Code} {A : Nat → Prop} {D : va_G} {ct : Nat → ClassId} {ad : Nat → Nat} {post : Int32 → MS → Prop} (K : CX p s m args meth c cX3_record 3 RX3 A D ct gT) (hr : meth.sig.returnType = (some .int)) (L17 : Int32 → Int32 → MS → Prop) (hL17 : ∀ (x1 : Int32) (x2 : Int32) (st : MS), L17 x1 x2 st → jJ p l e { frames := 0, cells := 0, slots := 0, locals := 0 } s m args below meth c (MQ below (va_Qi post (fun u => cB D ct A (MW ct ad u)) A) args s 0 0 A) A D 3 (MW ct ad st) 0 0 17 [(0, .ref (ad 0)), (1, .int x1), (2, .int x2)] []) (x1 : Int32) (x2 : Int32) (st : MS) (h : wX3_record_23 post L17 x1 x2 st) : jJ p l e { frames := 0, cells := 0, slots := 0, locals := 0 } s m args below meth c (MQ below (va_Qi post (fun u => cB D ct A (MW ct ad u)) A) args s 0 0 A) A D 3 (MW ct ad st) 0 0 23 [(0, .ref (ad 0)), (1, .int x1), (2, .int x2)] [] := by
  unfold wX3_record_23 at h
  refine j_aload_n K 0 dX3_record_23 rfl rfl ?_
  refine mg_past K dX3_record_24 ?_
  refine j_iload_n K 2 dX3_record_27 rfl rfl ?_
  refine j_aload_n K 0 dX3_record_28 rfl rfl ?_
  refine mg_past K dX3_record_29 ?_
  refine j_sipush K (7003 : Int32) dX3_record_32 (by decide) ?_
  refine j_iload_n K 2 dX3_record_35 rfl rfl ?_
  refine j_iadd K dX3_record_36 ?_
  obtain ⟨hc, h⟩ := h
  refine ml_past K hc dX3_record_37 ?_
  obtain ⟨hc, h⟩ := h
  refine mt_past K hc dX3_record_38 ?_
  refine j_iinc K 2 (x2 + (1 : Int32)) [(2, .int (x2 + (1 : Int32))), (0, .ref (ad 0)), (1, .int x1)] dX3_record_39 rfl rfl (by decide) rfl ?_
  refine j_goto K 17 dX3_record_42 (by decide) ?_
  refine j_lv K [1, 2, 0] (lv' := [(0, .ref (ad 0)), (1, .int x1), (2, .int (x2 + (1 : Int32)))]) rfl ?_
  exact hL17 x1 (x2 + (1 : Int32)) (mA st 1 (x2).toNatClampNeg (st.1 1 (((7003 : Int32) + x2)).toNatClampNeg)) h
theorem kX3_record_17_b {p : Program} {l : Launch} {e : Env} {s : State} {m : MethodId} {args : Array Value} {below : List Frame} {meth : Method} {c : Code} {A : Nat → Prop} {D : va_G} {ct : Nat → ClassId} {ad : Nat → Nat} {post : Int32 → MS → Prop} (K : CX p s m args meth c cX3_record 3 RX3 A D ct gT) (hr : meth.sig.returnType = (some .int)) (L17 : Int32 → Int32 → MS → Prop) (hL17 : ∀ (x1 : Int32) (x2 : Int32) (st : MS), L17 x1 x2 st → jJ p l e { frames := 0, cells := 0, slots := 0, locals := 0 } s m args below meth c (MQ below (va_Qi post (fun u => cB D ct A (MW ct ad u)) A) args s 0 0 A) A D 3 (MW ct ad st) 0 0 17 [(0, .ref (ad 0)), (1, .int x1), (2, .int x2)] []) (x1 : Int32) (x2 : Int32) (st : MS) (h : wX3_record_17_b post L17 x1 x2 st) : jJ p l e { frames := 0, cells := 0, slots := 0, locals := 0 } s m args below meth c (MQ below (va_Qi post (fun u => cB D ct A (MW ct ad u)) A) args s 0 0 A) A D 3 (MW ct ad st) 0 0 17 [(0, .ref (ad 0)), (1, .int x1), (2, .int x2)] [] := by
  unfold wX3_record_17_b at h
  refine j_iload_n K 2 dX3_record_17 rfl rfl ?_
  refine j_ldc K q1057 dX3_record_18 ?_
  refine j_icmp_ge K 45 dX3_record_20 (by decide) (fun hc => ?_) (fun hc => ?_)
  · refine j_lv K [0, 1] (lv' := [(0, .ref (ad 0)), (1, .int x1)]) rfl ?_
    exact kX3_record_45 K hr  x1 st (h.1 hc)
  · exact kX3_record_23 K hr L17 hL17 x1 x2 st (h.2 hc)
theorem kX3_record_17 {p : Program} {l : Launch} {e : Env} {s : State} {m : MethodId} {args : Array Value} {below : List Frame} {meth : Method} {c : Code} {A : Nat → Prop} {D : va_G} {ct : Nat → ClassId} {ad : Nat → Nat} {post : Int32 → MS → Prop} (K : CX p s m args meth c cX3_record 3 RX3 A D ct gT) (hr : meth.sig.returnType = (some .int))   (x1 : Int32) (x2 : Int32) (st : MS) (h : wX3_record_17 post  x1 x2 st) : jJ p l e { frames := 0, cells := 0, slots := 0, locals := 0 } s m args below meth c (MQ below (va_Qi post (fun u => cB D ct A (MW ct ad u)) A) args s 0 0 A) A D 3 (MW ct ad st) 0 0 17 [(0, .ref (ad 0)), (1, .int x1), (2, .int x2)] [] :=
  wloop_sound (V := Int32 × Int32 × MS) (Wk := fun v => jJ p l e { frames := 0, cells := 0, slots := 0, locals := 0 } s m args below meth c (MQ below (va_Qi post (fun u => cB D ct A (MW ct ad u)) A) args s 0 0 A) A D 3 (MW ct ad v.2.2) 0 0 17 [(0, .ref (ad 0)), (1, .int v.1), (2, .int v.2.1)] []) (fun L hL v hb => kX3_record_17_b K hr (fun x1 x2 st => L (x1, x2, st)) (fun x1 x2 st hx => hL (x1, x2, st) hx) v.1 v.2.1 v.2.2 hb) h
theorem kX3_record_15 {p : Program} {l : Launch} {e : Env} {s : State} {m : MethodId} {args : Array Value} {below : List Frame} {meth : Method} {c : Code} {A : Nat → Prop} {D : va_G} {ct : Nat → ClassId} {ad : Nat → Nat} {post : Int32 → MS → Prop} (K : CX p s m args meth c cX3_record 3 RX3 A D ct gT) (hr : meth.sig.returnType = (some .int))   (x1 : Int32) (st : MS) (h : wX3_record_15 post  x1 st) : jJ p l e { frames := 0, cells := 0, slots := 0, locals := 0 } s m args below meth c (MQ below (va_Qi post (fun u => cB D ct A (MW ct ad u)) A) args s 0 0 A) A D 3 (MW ct ad st) 0 0 15 [(0, .ref (ad 0)), (1, .int x1)] [] := by
  unfold wX3_record_15 at h
  refine j_iconst K (0 : Int32) dX3_record_15 (by decide) ?_
  refine j_istore_n K [(2, .int (0 : Int32)), (0, .ref (ad 0)), (1, .int x1)] dX3_record_16 rfl (by decide) rfl ?_
  refine j_lv K [1, 2, 0] (lv' := [(0, .ref (ad 0)), (1, .int x1), (2, .int (0 : Int32))]) rfl ?_
  exact kX3_record_17 K hr  x1 (0 : Int32) st h
theorem kX3_record_6 {p : Program} {l : Launch} {e : Env} {s : State} {m : MethodId} {args : Array Value} {below : List Frame} {meth : Method} {c : Code} {A : Nat → Prop} {D : va_G} {ct : Nat → ClassId} {ad : Nat → Nat} {post : Int32 → MS → Prop} (K : CX p s m args meth c cX3_record 3 RX3 A D ct gT) (hr : meth.sig.returnType = (some .int))   (x1 : Int32) (st : MS) (h : wX3_record_6 post  x1 st) : jJ p l e { frames := 0, cells := 0, slots := 0, locals := 0 } s m args below meth c (MQ below (va_Qi post (fun u => cB D ct A (MW ct ad u)) A) args s 0 0 A) A D 3 (MW ct ad st) 0 0 6 [(0, .ref (ad 0)), (1, .int x1)] [] := by
  unfold wX3_record_6 at h
  refine j_aload_n K 0 dX3_record_6 rfl rfl ?_
  refine mg_states K dX3_record_7 ?_
  refine j_bipush K (6 : Int32) dX3_record_10 (by decide) ?_
  refine j_icmp_ne K 55 dX3_record_12 (by decide) (fun hc => ?_) (fun hc => ?_)
  · exact kX3_record_55 K hr  x1 st (h.1 hc)
  · exact kX3_record_15 K hr  x1 st (h.2 hc)
theorem kX3_record_4 {p : Program} {l : Launch} {e : Env} {s : State} {m : MethodId} {args : Array Value} {below : List Frame} {meth : Method} {c : Code} {A : Nat → Prop} {D : va_G} {ct : Nat → ClassId} {ad : Nat → Nat} {post : Int32 → MS → Prop} (K : CX p s m args meth c cX3_record 3 RX3 A D ct gT) (hr : meth.sig.returnType = (some .int))   (x1 : Int32) (st : MS) (h : wX3_record_4 post  x1 st) : jJ p l e { frames := 0, cells := 0, slots := 0, locals := 0 } s m args below meth c (MQ below (va_Qi post (fun u => cB D ct A (MW ct ad u)) A) args s 0 0 A) A D 3 (MW ct ad st) 0 0 4 [(1, .int x1)] [] := by
  unfold wX3_record_4 at h
  refine j_iload_n K 0 dX3_record_4 rfl rfl ?_
  exact j_iret st K hr rfl h (Nat.le_of_ble_eq_true rfl) (Nat.le_of_ble_eq_true rfl) dX3_record_5
theorem kX3_record_0 {p : Program} {l : Launch} {e : Env} {s : State} {m : MethodId} {args : Array Value} {below : List Frame} {meth : Method} {c : Code} {A : Nat → Prop} {D : va_G} {ct : Nat → ClassId} {ad : Nat → Nat} {post : Int32 → MS → Prop} (K : CX p s m args meth c cX3_record 3 RX3 A D ct gT) (hr : meth.sig.returnType = (some .int))   (x1 : Int32) (st : MS) (h : wX3_record_0 post  x1 st) : jJ p l e { frames := 0, cells := 0, slots := 0, locals := 0 } s m args below meth c (MQ below (va_Qi post (fun u => cB D ct A (MW ct ad u)) A) args s 0 0 A) A D 3 (MW ct ad st) 0 0 0 [(0, .ref (ad 0)), (1, .int x1)] [] := by
  unfold wX3_record_0 at h
  refine j_iload_n K 1 dX3_record_0 rfl rfl ?_
  refine j_if_ge K 6 dX3_record_1 (by decide) (fun hc => ?_) (fun hc => ?_)
  · exact kX3_record_6 K hr  x1 st (h.1 hc)
  · refine j_lv K [1] (lv' := [(1, .int x1)]) rfl ?_
    exact kX3_record_4 K hr  x1 st (h.2 hc)
theorem ctX3_record {l : Launch} {D : va_G} {ct : Nat → ClassId} {ad : Nat → Nat} (x1 : Int32) (st : MS) (hp : pX3_record x1 st) : ∀ sz, Met l yX3_record (ws_ yX3_record cX3_record 3 (some .int)) { frames := 0, cells := 0, slots := 0, locals := 0 } (va_Pc [.ref (ad 0), .int x1] (cPre gT D ct (MW ct ad st) sz)) (va_Qi (qX3_record x1 st) (fun u => cB D ct (va_A (MW ct ad st) sz) (MW ct ad u)) (va_A (MW ct ad st) sz)) 0 0 (va_A (MW ct ad st) sz) := fun sz =>
  j_met (Qc := fun A => va_Qi (qX3_record x1 st) (fun u => cB D ct A (MW ct ad u)) A) (by decide) gT_ok (Nat.le_of_ble_eq_true rfl) (fun p e s m args below meth c A K hr _ _ => kX3_record_0 K hr x1 st (vcX3_record x1 st hp))
-- X3_anew
theorem gwX3_anew : GoodIn lw_all (wsV RX3 143 RX3 yX3_anew (ws_ yX3_anew cX3_anew 2 none)) := lw_V q1062 q1064 qs38 q84 q1065
theorem gdX3_anew : yX3_anew.cls = RX3 ∧ yX3_anew.cls ≠ "java/lang/invoke/MethodHandle" ∧ yX3_anew.cls ≠ "java/lang/invoke/VarHandle" ∧ (parseMethodDescriptor yX3_anew.desc).map (fun d => d.parameters.length) = some 0 := by decide +kernel
theorem kX3_anew_22 {p : Program} {l : Launch} {e : Env} {s : State} {m : MethodId} {args : Array Value} {below : List Frame} {meth : Method} {c : Code} {A : Nat → Prop} {D : va_G} {ct : Nat → ClassId} {ad : Nat → Nat} {post : MS → Prop} (K : CX p s m args meth c cX3_anew 2 RX3 A D ct gT) (hr : meth.sig.returnType = none)    (st : MS) (h : wX3_anew_22 post  st) : jJ p l e { frames := 0, cells := 0, slots := 0, locals := 0 } s m args below meth c (MQ below (va_Qv post (fun u => cB D ct A (MW ct ad u)) A) args s 0 0 A) A D 2 (MW ct ad st) 0 0 22 [] [] := by
  unfold wX3_anew_22 at h
  exact j_vret st K hr rfl h (Nat.le_of_ble_eq_true rfl) (Nat.le_of_ble_eq_true rfl) dX3_anew_22
theorem kX3_anew_9 {p : Program} {l : Launch} {e : Env} {s : State} {m : MethodId} {args : Array Value} {below : List Frame} {meth : Method} {c : Code} {A : Nat → Prop} {D : va_G} {ct : Nat → ClassId} {ad : Nat → Nat} {post : MS → Prop} (K : CX p s m args meth c cX3_anew 2 RX3 A D ct gT) (hr : meth.sig.returnType = none) (L2 : Int32 → MS → Prop) (hL2 : ∀ (x1 : Int32) (st : MS), L2 x1 st → jJ p l e { frames := 0, cells := 0, slots := 0, locals := 0 } s m args below meth c (MQ below (va_Qv post (fun u => cB D ct A (MW ct ad u)) A) args s 0 0 A) A D 2 (MW ct ad st) 0 0 2 [(0, .ref (ad 0)), (1, .int x1)] []) (x1 : Int32) (st : MS) (h : wX3_anew_9 post L2 x1 st) : jJ p l e { frames := 0, cells := 0, slots := 0, locals := 0 } s m args below meth c (MQ below (va_Qv post (fun u => cB D ct A (MW ct ad u)) A) args s 0 0 A) A D 2 (MW ct ad st) 0 0 9 [(0, .ref (ad 0)), (1, .int x1)] [] := by
  unfold wX3_anew_9 at h
  refine j_aload_n K 0 dX3_anew_9 rfl rfl ?_
  refine mg_row K dX3_anew_10 ?_
  refine j_iload_n K 1 dX3_anew_13 rfl rfl ?_
  refine j_iconst K (0 : Int32) dX3_anew_14 (by decide) ?_
  obtain ⟨hc, h⟩ := h
  refine mt_row K hc dX3_anew_15 ?_
  refine j_iinc K 1 (x1 + (1 : Int32)) [(1, .int (x1 + (1 : Int32))), (0, .ref (ad 0))] dX3_anew_16 rfl rfl (by decide) rfl ?_
  refine j_goto K 2 dX3_anew_19 (by decide) ?_
  refine j_lv K [1, 0] (lv' := [(0, .ref (ad 0)), (1, .int (x1 + (1 : Int32)))]) rfl ?_
  exact hL2 (x1 + (1 : Int32)) (mA st 0 (x1).toNatClampNeg (0 : Int32)) h
theorem kX3_anew_2_b {p : Program} {l : Launch} {e : Env} {s : State} {m : MethodId} {args : Array Value} {below : List Frame} {meth : Method} {c : Code} {A : Nat → Prop} {D : va_G} {ct : Nat → ClassId} {ad : Nat → Nat} {post : MS → Prop} (K : CX p s m args meth c cX3_anew 2 RX3 A D ct gT) (hr : meth.sig.returnType = none) (L2 : Int32 → MS → Prop) (hL2 : ∀ (x1 : Int32) (st : MS), L2 x1 st → jJ p l e { frames := 0, cells := 0, slots := 0, locals := 0 } s m args below meth c (MQ below (va_Qv post (fun u => cB D ct A (MW ct ad u)) A) args s 0 0 A) A D 2 (MW ct ad st) 0 0 2 [(0, .ref (ad 0)), (1, .int x1)] []) (x1 : Int32) (st : MS) (h : wX3_anew_2_b post L2 x1 st) : jJ p l e { frames := 0, cells := 0, slots := 0, locals := 0 } s m args below meth c (MQ below (va_Qv post (fun u => cB D ct A (MW ct ad u)) A) args s 0 0 A) A D 2 (MW ct ad st) 0 0 2 [(0, .ref (ad 0)), (1, .int x1)] [] := by
  unfold wX3_anew_2_b at h
  refine j_iload_n K 1 dX3_anew_2 rfl rfl ?_
  refine j_sipush K (7003 : Int32) dX3_anew_3 (by decide) ?_
  refine j_icmp_ge K 22 dX3_anew_6 (by decide) (fun hc => ?_) (fun hc => ?_)
  · refine j_lv K [] (lv' := []) rfl ?_
    exact kX3_anew_22 K hr  st (h.1 hc)
  · exact kX3_anew_9 K hr L2 hL2 x1 st (h.2 hc)
theorem kX3_anew_2 {p : Program} {l : Launch} {e : Env} {s : State} {m : MethodId} {args : Array Value} {below : List Frame} {meth : Method} {c : Code} {A : Nat → Prop} {D : va_G} {ct : Nat → ClassId} {ad : Nat → Nat} {post : MS → Prop} (K : CX p s m args meth c cX3_anew 2 RX3 A D ct gT) (hr : meth.sig.returnType = none)   (x1 : Int32) (st : MS) (h : wX3_anew_2 post  x1 st) : jJ p l e { frames := 0, cells := 0, slots := 0, locals := 0 } s m args below meth c (MQ below (va_Qv post (fun u => cB D ct A (MW ct ad u)) A) args s 0 0 A) A D 2 (MW ct ad st) 0 0 2 [(0, .ref (ad 0)), (1, .int x1)] [] :=
  wloop_sound (V := Int32 × MS) (Wk := fun v => jJ p l e { frames := 0, cells := 0, slots := 0, locals := 0 } s m args below meth c (MQ below (va_Qv post (fun u => cB D ct A (MW ct ad u)) A) args s 0 0 A) A D 2 (MW ct ad v.2) 0 0 2 [(0, .ref (ad 0)), (1, .int v.1)] []) (fun L hL v hb => kX3_anew_2_b K hr (fun x1 st => L (x1, st)) (fun x1 st hx => hL (x1, st) hx) v.1 v.2 hb) h
theorem kX3_anew_0 {p : Program} {l : Launch} {e : Env} {s : State} {m : MethodId} {args : Array Value} {below : List Frame} {meth : Method} {c : Code} {A : Nat → Prop} {D : va_G} {ct : Nat → ClassId} {ad : Nat → Nat} {post : MS → Prop} (K : CX p s m args meth c cX3_anew 2 RX3 A D ct gT) (hr : meth.sig.returnType = none)    (st : MS) (h : wX3_anew_0 post  st) : jJ p l e { frames := 0, cells := 0, slots := 0, locals := 0 } s m args below meth c (MQ below (va_Qv post (fun u => cB D ct A (MW ct ad u)) A) args s 0 0 A) A D 2 (MW ct ad st) 0 0 0 [(0, .ref (ad 0))] [] := by
  unfold wX3_anew_0 at h
  refine j_iconst K (2 : Int32) dX3_anew_0 (by decide) ?_
  refine j_istore_n K [(1, .int (2 : Int32)), (0, .ref (ad 0))] dX3_anew_1 rfl (by decide) rfl ?_
  refine j_lv K [1, 0] (lv' := [(0, .ref (ad 0)), (1, .int (2 : Int32))]) rfl ?_
  exact kX3_anew_2 K hr  (2 : Int32) st h
theorem ctX3_anew {l : Launch} {D : va_G} {ct : Nat → ClassId} {ad : Nat → Nat}  (st : MS) (hp : pX3_anew  st) : ∀ sz, Met l yX3_anew (ws_ yX3_anew cX3_anew 2 none) { frames := 0, cells := 0, slots := 0, locals := 0 } (va_Pc [.ref (ad 0)] (cPre gT D ct (MW ct ad st) sz)) (va_Qv (qX3_anew  st) (fun u => cB D ct (va_A (MW ct ad st) sz) (MW ct ad u)) (va_A (MW ct ad st) sz)) 0 0 (va_A (MW ct ad st) sz) := fun sz =>
  j_met (Qc := fun A => va_Qv (qX3_anew  st) (fun u => cB D ct A (MW ct ad u)) A) (by decide) gT_ok (Nat.le_of_ble_eq_true rfl) (fun p e s m args below meth c A K hr _ _ => kX3_anew_0 K hr  st (vcX3_anew  st hp))
-- X3_hasLost
theorem gwX3_hasLost : GoodIn lw_all (wsV RX3 118 RX3 yX3_hasLost (ws_ yX3_hasLost cX3_hasLost 1 (some .boolean))) := lw_V q1094 q1096 qs44 q84 q1097
theorem gdX3_hasLost : yX3_hasLost.cls = RX3 ∧ yX3_hasLost.cls ≠ "java/lang/invoke/MethodHandle" ∧ yX3_hasLost.cls ≠ "java/lang/invoke/VarHandle" ∧ (parseMethodDescriptor yX3_hasLost.desc).map (fun d => d.parameters.length) = some 0 := by decide +kernel
theorem kX3_hasLost_24 {p : Program} {l : Launch} {e : Env} {s : State} {m : MethodId} {args : Array Value} {below : List Frame} {meth : Method} {c : Code} {A : Nat → Prop} {D : va_G} {ct : Nat → ClassId} {ad : Nat → Nat} {post : Int32 → MS → Prop} (K : CX p s m args meth c cX3_hasLost 1 RX3 A D ct gT) (hr : meth.sig.returnType = (some .boolean))   (s0 : Int32) (st : MS) (h : wX3_hasLost_24 post  s0 st) : jJ p l e { frames := 3, cells := 0, slots := 0, locals := 69 } s m args below meth c (MQ below (va_Qi post (fun u => cB D ct A (MW ct ad u)) A) args s 0 0 A) A D 1 (MW ct ad st) 0 0 24 [] [.int s0] := by
  unfold wX3_hasLost_24 at h
  exact j_zret st K hr rfl h.2 h.1 (Nat.le_of_ble_eq_true rfl) (Nat.le_of_ble_eq_true rfl) dX3_hasLost_24
theorem kX3_hasLost_23 {p : Program} {l : Launch} {e : Env} {s : State} {m : MethodId} {args : Array Value} {below : List Frame} {meth : Method} {c : Code} {A : Nat → Prop} {D : va_G} {ct : Nat → ClassId} {ad : Nat → Nat} {post : Int32 → MS → Prop} (K : CX p s m args meth c cX3_hasLost 1 RX3 A D ct gT) (hr : meth.sig.returnType = (some .boolean))    (st : MS) (h : wX3_hasLost_23 post  st) : jJ p l e { frames := 3, cells := 0, slots := 0, locals := 69 } s m args below meth c (MQ below (va_Qi post (fun u => cB D ct A (MW ct ad u)) A) args s 0 0 A) A D 1 (MW ct ad st) 0 0 23 [] [] := by
  unfold wX3_hasLost_23 at h
  refine j_iconst K (0 : Int32) dX3_hasLost_23 (by decide) ?_
  exact kX3_hasLost_24 K hr  (0 : Int32) st h
theorem kX3_hasLost_19 {p : Program} {l : Launch} {e : Env} {s : State} {m : MethodId} {args : Array Value} {below : List Frame} {meth : Method} {c : Code} {A : Nat → Prop} {D : va_G} {ct : Nat → ClassId} {ad : Nat → Nat} {post : Int32 → MS → Prop} (K : CX p s m args meth c cX3_hasLost 1 RX3 A D ct gT) (hr : meth.sig.returnType = (some .boolean))    (st : MS) (h : wX3_hasLost_19 post  st) : jJ p l e { frames := 3, cells := 0, slots := 0, locals := 69 } s m args below meth c (MQ below (va_Qi post (fun u => cB D ct A (MW ct ad u)) A) args s 0 0 A) A D 1 (MW ct ad st) 0 0 19 [] [] := by
  unfold wX3_hasLost_19 at h
  refine j_iconst K (1 : Int32) dX3_hasLost_19 (by decide) ?_
  refine j_goto K 24 dX3_hasLost_20 (by decide) ?_
  exact kX3_hasLost_24 K hr  (1 : Int32) st h
theorem kX3_hasLost_0 {p : Program} {l : Launch} {e : Env} {s : State} {m : MethodId} {args : Array Value} {below : List Frame} {meth : Method} {c : Code} {A : Nat → Prop} {D : va_G} {ct : Nat → ClassId} {ad : Nat → Nat} {post : Int32 → MS → Prop} (K : CX p s m args meth c cX3_hasLost 1 RX3 A D ct gT) (hr : meth.sig.returnType = (some .boolean))    (st : MS) (h : wX3_hasLost_0 post  st) : jJ p l e { frames := 3, cells := 0, slots := 0, locals := 69 } s m args below meth c (MQ below (va_Qi post (fun u => cB D ct A (MW ct ad u)) A) args s 0 0 A) A D 1 (MW ct ad st) 0 0 0 [(0, .ref (ad 0))] [] := by
  unfold wX3_hasLost_0 at h
  refine j_aload_n K 0 dX3_hasLost_0 rfl rfl ?_
  refine j_aload_n K 0 dX3_hasLost_1 rfl rfl ?_
  obtain ⟨hp, h⟩ := h
  refine j_callVi K (As := []) (rest := [.ref (ad 0)]) (ctX3_now (l := l) (D := D) (ct := ct) (ad := ad)  st hp) gwX3_now gdX3_now ⟨Nat.le_of_ble_eq_true rfl, Nat.le_of_ble_eq_true rfl⟩ 0 rfl rfl rfl rfl rfl (Nat.le_of_ble_eq_true rfl) dX3_hasLost_2 ⟨Nat.le_of_ble_eq_true rfl, Nat.le_of_ble_eq_true rfl⟩ (fun r_1 st_2 hq => ?_)
  obtain ⟨hq, rfl⟩ := hq
  replace h := h r_1 hq
  obtain ⟨hp, h⟩ := h
  refine j_callVv K (As := [.int r_1]) (rest := []) (ctX3_open (l := l) (D := D) (ct := ct) (ad := ad) r_1 st hp) gwX3_open gdX3_open ⟨Nat.le_of_ble_eq_true rfl, Nat.le_of_ble_eq_true rfl⟩ 0 rfl rfl rfl rfl rfl (Nat.le_of_ble_eq_true rfl) dX3_hasLost_5 ⟨Nat.le_of_ble_eq_true rfl, Nat.le_of_ble_eq_true rfl⟩ (fun st_3 hq => ?_)
  replace h := h st_3 hq
  refine j_aload_n K 0 dX3_hasLost_8 rfl rfl ?_
  obtain ⟨hp, h⟩ := h
  refine j_callVv K (As := []) (rest := []) (ctX3_look (l := l) (D := D) (ct := ct) (ad := ad)  st_3 hp) gwX3_look gdX3_look ⟨Nat.le_of_ble_eq_true rfl, Nat.le_of_ble_eq_true rfl⟩ 0 rfl rfl rfl rfl rfl (Nat.le_of_ble_eq_true rfl) dX3_hasLost_9 ⟨Nat.le_of_ble_eq_true rfl, Nat.le_of_ble_eq_true rfl⟩ (fun st_4 hq => ?_)
  replace h := h st_4 hq
  refine j_aload_n K 0 dX3_hasLost_12 rfl rfl ?_
  refine mg_many K dX3_hasLost_13 ?_
  refine j_if_ne K 23 dX3_hasLost_16 (by decide) (fun hc => ?_) (fun hc => ?_)
  · refine j_lv K [] (lv' := []) rfl ?_
    exact kX3_hasLost_23 K hr  st_4 (h.1 hc)
  · refine j_lv K [] (lv' := []) rfl ?_
    exact kX3_hasLost_19 K hr  st_4 (h.2 hc)
theorem ctX3_hasLost {l : Launch} {D : va_G} {ct : Nat → ClassId} {ad : Nat → Nat}  (st : MS) (hp : pX3_hasLost  st) : ∀ sz, Met l yX3_hasLost (ws_ yX3_hasLost cX3_hasLost 1 (some .boolean)) { frames := 3, cells := 0, slots := 0, locals := 69 } (va_Pc [.ref (ad 0)] (cPre gT D ct (MW ct ad st) sz)) (va_Qi (qX3_hasLost  st) (fun u => cB D ct (va_A (MW ct ad st) sz) (MW ct ad u)) (va_A (MW ct ad st) sz)) 0 0 (va_A (MW ct ad st) sz) := fun sz =>
  j_met (Qc := fun A => va_Qi (qX3_hasLost  st) (fun u => cB D ct A (MW ct ad u)) A) (by decide) gT_ok (Nat.le_of_ble_eq_true rfl) (fun p e s m args below meth c A K hr _ _ => kX3_hasLost_0 K hr  st (vcX3_hasLost  st hp))
-- X3_often
theorem gwX3_often : GoodIn lw_all (wsV RX3 115 RX3 yX3_often (ws_ yX3_often cX3_often 3 (some .int))) := lw_V q1126 q1128 qs52 q84 q1129
theorem gdX3_often : yX3_often.cls = RX3 ∧ yX3_often.cls ≠ "java/lang/invoke/MethodHandle" ∧ yX3_often.cls ≠ "java/lang/invoke/VarHandle" ∧ (parseMethodDescriptor yX3_often.desc).map (fun d => d.parameters.length) = some 0 := by decide +kernel
theorem kX3_often_43 {p : Program} {l : Launch} {e : Env} {s : State} {m : MethodId} {args : Array Value} {below : List Frame} {meth : Method} {c : Code} {A : Nat → Prop} {D : va_G} {ct : Nat → ClassId} {ad : Nat → Nat} {post : Int32 → MS → Prop} (K : CX p s m args meth c cX3_often 3 RX3 A D ct gT) (hr : meth.sig.returnType = (some .int))   (x1 : Int32) (st : MS) (h : wX3_often_43 post  x1 st) : jJ p l e { frames := 1, cells := 0, slots := 0, locals := 20 } s m args below meth c (MQ below (va_Qi post (fun u => cB D ct A (MW ct ad u)) A) args s 0 0 A) A D 3 (MW ct ad st) 0 0 43 [(1, .int x1)] [] := by
  unfold wX3_often_43 at h
  refine j_iload_n K 0 dX3_often_43 rfl rfl ?_
  exact j_iret st K hr rfl h (Nat.le_of_ble_eq_true rfl) (Nat.le_of_ble_eq_true rfl) dX3_often_44
theorem kX3_often_35 {p : Program} {l : Launch} {e : Env} {s : State} {m : MethodId} {args : Array Value} {below : List Frame} {meth : Method} {c : Code} {A : Nat → Prop} {D : va_G} {ct : Nat → ClassId} {ad : Nat → Nat} {post : Int32 → MS → Prop} (K : CX p s m args meth c cX3_often 3 RX3 A D ct gT) (hr : meth.sig.returnType = (some .int)) (L4 : Int32 → Int32 → MS → Prop) (hL4 : ∀ (x1 : Int32) (x2 : Int32) (st : MS), L4 x1 x2 st → jJ p l e { frames := 1, cells := 0, slots := 0, locals := 20 } s m args below meth c (MQ below (va_Qi post (fun u => cB D ct A (MW ct ad u)) A) args s 0 0 A) A D 3 (MW ct ad st) 0 0 4 [(0, .ref (ad 0)), (1, .int x1), (2, .int x2)] []) (x2 : Int32) (s0 : Int32) (s1 : Int32) (st : MS) (h : wX3_often_35 post L4 x2 s0 s1 st) : jJ p l e { frames := 1, cells := 0, slots := 0, locals := 20 } s m args below meth c (MQ below (va_Qi post (fun u => cB D ct A (MW ct ad u)) A) args s 0 0 A) A D 3 (MW ct ad st) 0 0 35 [(0, .ref (ad 0)), (2, .int x2)] [.int s1, .int s0] := by
  unfold wX3_often_35 at h
  refine j_iadd K dX3_often_35 ?_
  refine j_istore_n K [(1, .int (s0 + s1)), (0, .ref (ad 0)), (2, .int x2)] dX3_often_36 rfl (by decide) rfl ?_
  refine j_iinc K 2 (x2 + (1 : Int32)) [(2, .int (x2 + (1 : Int32))), (1, .int (s0 + s1)), (0, .ref (ad 0))] dX3_often_37 rfl rfl (by decide) rfl ?_
  refine j_goto K 4 dX3_often_40 (by decide) ?_
  refine j_lv K [2, 1, 0] (lv' := [(0, .ref (ad 0)), (1, .int (s0 + s1)), (2, .int (x2 + (1 : Int32)))]) rfl ?_
  exact hL4 (s0 + s1) (x2 + (1 : Int32)) st h
theorem kX3_often_34 {p : Program} {l : Launch} {e : Env} {s : State} {m : MethodId} {args : Array Value} {below : List Frame} {meth : Method} {c : Code} {A : Nat → Prop} {D : va_G} {ct : Nat → ClassId} {ad : Nat → Nat} {post : Int32 → MS → Prop} (K : CX p s m args meth c cX3_often 3 RX3 A D ct gT) (hr : meth.sig.returnType = (some .int)) (L4 : Int32 → Int32 → MS → Prop) (hL4 : ∀ (x1 : Int32) (x2 : Int32) (st : MS), L4 x1 x2 st → jJ p l e { frames := 1, cells := 0, slots := 0, locals := 20 } s m args below meth c (MQ below (va_Qi post (fun u => cB D ct A (MW ct ad u)) A) args s 0 0 A) A D 3 (MW ct ad st) 0 0 4 [(0, .ref (ad 0)), (1, .int x1), (2, .int x2)] []) (x2 : Int32) (s0 : Int32) (st : MS) (h : wX3_often_34 post L4 x2 s0 st) : jJ p l e { frames := 1, cells := 0, slots := 0, locals := 20 } s m args below meth c (MQ below (va_Qi post (fun u => cB D ct A (MW ct ad u)) A) args s 0 0 A) A D 3 (MW ct ad st) 0 0 34 [(0, .ref (ad 0)), (2, .int x2)] [.int s0] := by
  unfold wX3_often_34 at h
  refine j_iconst K (0 : Int32) dX3_often_34 (by decide) ?_
  exact kX3_often_35 K hr L4 hL4 x2 s0 (0 : Int32) st h
theorem kX3_often_30 {p : Program} {l : Launch} {e : Env} {s : State} {m : MethodId} {args : Array Value} {below : List Frame} {meth : Method} {c : Code} {A : Nat → Prop} {D : va_G} {ct : Nat → ClassId} {ad : Nat → Nat} {post : Int32 → MS → Prop} (K : CX p s m args meth c cX3_often 3 RX3 A D ct gT) (hr : meth.sig.returnType = (some .int)) (L4 : Int32 → Int32 → MS → Prop) (hL4 : ∀ (x1 : Int32) (x2 : Int32) (st : MS), L4 x1 x2 st → jJ p l e { frames := 1, cells := 0, slots := 0, locals := 20 } s m args below meth c (MQ below (va_Qi post (fun u => cB D ct A (MW ct ad u)) A) args s 0 0 A) A D 3 (MW ct ad st) 0 0 4 [(0, .ref (ad 0)), (1, .int x1), (2, .int x2)] []) (x2 : Int32) (s0 : Int32) (st : MS) (h : wX3_often_30 post L4 x2 s0 st) : jJ p l e { frames := 1, cells := 0, slots := 0, locals := 20 } s m args below meth c (MQ below (va_Qi post (fun u => cB D ct A (MW ct ad u)) A) args s 0 0 A) A D 3 (MW ct ad st) 0 0 30 [(0, .ref (ad 0)), (2, .int x2)] [.int s0] := by
  unfold wX3_often_30 at h
  refine j_iconst K (1 : Int32) dX3_often_30 (by decide) ?_
  refine j_goto K 35 dX3_often_31 (by decide) ?_
  exact kX3_often_35 K hr L4 hL4 x2 s0 (1 : Int32) st h
theorem kX3_often_14 {p : Program} {l : Launch} {e : Env} {s : State} {m : MethodId} {args : Array Value} {below : List Frame} {meth : Method} {c : Code} {A : Nat → Prop} {D : va_G} {ct : Nat → ClassId} {ad : Nat → Nat} {post : Int32 → MS → Prop} (K : CX p s m args meth c cX3_often 3 RX3 A D ct gT) (hr : meth.sig.returnType = (some .int)) (L4 : Int32 → Int32 → MS → Prop) (hL4 : ∀ (x1 : Int32) (x2 : Int32) (st : MS), L4 x1 x2 st → jJ p l e { frames := 1, cells := 0, slots := 0, locals := 20 } s m args below meth c (MQ below (va_Qi post (fun u => cB D ct A (MW ct ad u)) A) args s 0 0 A) A D 3 (MW ct ad st) 0 0 4 [(0, .ref (ad 0)), (1, .int x1), (2, .int x2)] []) (x1 : Int32) (x2 : Int32) (st : MS) (h : wX3_often_14 post L4 x1 x2 st) : jJ p l e { frames := 1, cells := 0, slots := 0, locals := 20 } s m args below meth c (MQ below (va_Qi post (fun u => cB D ct A (MW ct ad u)) A) args s 0 0 A) A D 3 (MW ct ad st) 0 0 14 [(0, .ref (ad 0)), (1, .int x1), (2, .int x2)] [] := by
  unfold wX3_often_14 at h
  refine j_iload_n K 1 dX3_often_14 rfl rfl ?_
  refine j_aload_n K 0 dX3_often_15 rfl rfl ?_
  refine mg_row K dX3_often_16 ?_
  refine j_iconst K (3 : Int32) dX3_often_19 (by decide) ?_
  refine j_iload_n K 2 dX3_often_20 rfl rfl ?_
  refine j_iadd K dX3_often_21 ?_
  obtain ⟨hc, h⟩ := h
  refine ml_row K hc dX3_often_22 ?_
  refine j_aload_n K 0 dX3_often_23 rfl rfl ?_
  obtain ⟨hp, h⟩ := h
  refine j_callVi K (As := []) (rest := [.int (st.1 0 (((3 : Int32) + x2)).toNatClampNeg), .int x1]) (ctX3_now (l := l) (D := D) (ct := ct) (ad := ad)  st hp) gwX3_now gdX3_now ⟨Nat.le_of_ble_eq_true rfl, Nat.le_of_ble_eq_true rfl⟩ 0 rfl rfl rfl rfl rfl (Nat.le_of_ble_eq_true rfl) dX3_often_24 ⟨Nat.le_of_ble_eq_true rfl, Nat.le_of_ble_eq_true rfl⟩ (fun r_1 st_2 hq => ?_)
  obtain ⟨hq, rfl⟩ := hq
  replace h := h r_1 hq
  refine j_icmp_ne K 34 dX3_often_27 (by decide) (fun hc => ?_) (fun hc => ?_)
  · refine j_lv K [0, 2] (lv' := [(0, .ref (ad 0)), (2, .int x2)]) rfl ?_
    exact kX3_often_34 K hr L4 hL4 x2 x1 st (h.1 hc)
  · refine j_lv K [0, 2] (lv' := [(0, .ref (ad 0)), (2, .int x2)]) rfl ?_
    exact kX3_often_30 K hr L4 hL4 x2 x1 st (h.2 hc)
theorem kX3_often_4_b {p : Program} {l : Launch} {e : Env} {s : State} {m : MethodId} {args : Array Value} {below : List Frame} {meth : Method} {c : Code} {A : Nat → Prop} {D : va_G} {ct : Nat → ClassId} {ad : Nat → Nat} {post : Int32 → MS → Prop} (K : CX p s m args meth c cX3_often 3 RX3 A D ct gT) (hr : meth.sig.returnType = (some .int)) (L4 : Int32 → Int32 → MS → Prop) (hL4 : ∀ (x1 : Int32) (x2 : Int32) (st : MS), L4 x1 x2 st → jJ p l e { frames := 1, cells := 0, slots := 0, locals := 20 } s m args below meth c (MQ below (va_Qi post (fun u => cB D ct A (MW ct ad u)) A) args s 0 0 A) A D 3 (MW ct ad st) 0 0 4 [(0, .ref (ad 0)), (1, .int x1), (2, .int x2)] []) (x1 : Int32) (x2 : Int32) (st : MS) (h : wX3_often_4_b post L4 x1 x2 st) : jJ p l e { frames := 1, cells := 0, slots := 0, locals := 20 } s m args below meth c (MQ below (va_Qi post (fun u => cB D ct A (MW ct ad u)) A) args s 0 0 A) A D 3 (MW ct ad st) 0 0 4 [(0, .ref (ad 0)), (1, .int x1), (2, .int x2)] [] := by
  unfold wX3_often_4_b at h
  refine j_iload_n K 2 dX3_often_4 rfl rfl ?_
  refine j_aload_n K 0 dX3_often_5 rfl rfl ?_
  refine mg_row K dX3_often_6 ?_
  refine j_iconst K (2 : Int32) dX3_often_9 (by decide) ?_
  obtain ⟨hc, h⟩ := h
  refine ml_row K hc dX3_often_10 ?_
  refine j_icmp_gt K 43 dX3_often_11 (by decide) (fun hc => ?_) (fun hc => ?_)
  · refine j_lv K [1] (lv' := [(1, .int x1)]) rfl ?_
    exact kX3_often_43 K hr  x1 st (h.1 hc)
  · exact kX3_often_14 K hr L4 hL4 x1 x2 st (h.2 hc)
theorem kX3_often_4 {p : Program} {l : Launch} {e : Env} {s : State} {m : MethodId} {args : Array Value} {below : List Frame} {meth : Method} {c : Code} {A : Nat → Prop} {D : va_G} {ct : Nat → ClassId} {ad : Nat → Nat} {post : Int32 → MS → Prop} (K : CX p s m args meth c cX3_often 3 RX3 A D ct gT) (hr : meth.sig.returnType = (some .int))   (x1 : Int32) (x2 : Int32) (st : MS) (h : wX3_often_4 post  x1 x2 st) : jJ p l e { frames := 1, cells := 0, slots := 0, locals := 20 } s m args below meth c (MQ below (va_Qi post (fun u => cB D ct A (MW ct ad u)) A) args s 0 0 A) A D 3 (MW ct ad st) 0 0 4 [(0, .ref (ad 0)), (1, .int x1), (2, .int x2)] [] :=
  wloop_sound (V := Int32 × Int32 × MS) (Wk := fun v => jJ p l e { frames := 1, cells := 0, slots := 0, locals := 20 } s m args below meth c (MQ below (va_Qi post (fun u => cB D ct A (MW ct ad u)) A) args s 0 0 A) A D 3 (MW ct ad v.2.2) 0 0 4 [(0, .ref (ad 0)), (1, .int v.1), (2, .int v.2.1)] []) (fun L hL v hb => kX3_often_4_b K hr (fun x1 x2 st => L (x1, x2, st)) (fun x1 x2 st hx => hL (x1, x2, st) hx) v.1 v.2.1 v.2.2 hb) h
theorem kX3_often_0 {p : Program} {l : Launch} {e : Env} {s : State} {m : MethodId} {args : Array Value} {below : List Frame} {meth : Method} {c : Code} {A : Nat → Prop} {D : va_G} {ct : Nat → ClassId} {ad : Nat → Nat} {post : Int32 → MS → Prop} (K : CX p s m args meth c cX3_often 3 RX3 A D ct gT) (hr : meth.sig.returnType = (some .int))    (st : MS) (h : wX3_often_0 post  st) : jJ p l e { frames := 1, cells := 0, slots := 0, locals := 20 } s m args below meth c (MQ below (va_Qi post (fun u => cB D ct A (MW ct ad u)) A) args s 0 0 A) A D 3 (MW ct ad st) 0 0 0 [(0, .ref (ad 0))] [] := by
  unfold wX3_often_0 at h
  refine j_iconst K (0 : Int32) dX3_often_0 (by decide) ?_
  refine j_istore_n K [(1, .int (0 : Int32)), (0, .ref (ad 0))] dX3_often_1 rfl (by decide) rfl ?_
  refine j_iconst K (0 : Int32) dX3_often_2 (by decide) ?_
  refine j_istore_n K [(2, .int (0 : Int32)), (1, .int (0 : Int32)), (0, .ref (ad 0))] dX3_often_3 rfl (by decide) rfl ?_
  refine j_lv K [2, 1, 0] (lv' := [(0, .ref (ad 0)), (1, .int (0 : Int32)), (2, .int (0 : Int32))]) rfl ?_
  exact kX3_often_4 K hr  (0 : Int32) (0 : Int32) st h
theorem ctX3_often {l : Launch} {D : va_G} {ct : Nat → ClassId} {ad : Nat → Nat}  (st : MS) (hp : pX3_often  st) : ∀ sz, Met l yX3_often (ws_ yX3_often cX3_often 3 (some .int)) { frames := 1, cells := 0, slots := 0, locals := 20 } (va_Pc [.ref (ad 0)] (cPre gT D ct (MW ct ad st) sz)) (va_Qi (fun (r : Int32) (u : MS) => qX3_often  st r ∧ st = u) (fun u => cB D ct (va_A (MW ct ad st) sz) (MW ct ad u)) (va_A (MW ct ad st) sz)) 0 0 (va_A (MW ct ad st) sz) := fun sz =>
  j_met (Qc := fun A => va_Qi (fun (r : Int32) (u : MS) => qX3_often  st r ∧ st = u) (fun u => cB D ct A (MW ct ad u)) A) (by decide) gT_ok (Nat.le_of_ble_eq_true rfl) (fun p e s m args below meth c A K hr _ _ => kX3_often_0 K hr  st (vcX3_often  st hp))
-- X3_isOver
theorem gwX3_isOver : GoodIn lw_all (wsV RX3 121 RX3 yX3_isOver (ws_ yX3_isOver cX3_isOver 1 (some .boolean))) := lw_V q1090 q1092 qs43 q84 q1093
theorem gdX3_isOver : yX3_isOver.cls = RX3 ∧ yX3_isOver.cls ≠ "java/lang/invoke/MethodHandle" ∧ yX3_isOver.cls ≠ "java/lang/invoke/VarHandle" ∧ (parseMethodDescriptor yX3_isOver.desc).map (fun d => d.parameters.length) = some 0 := by decide +kernel
theorem kX3_isOver_20 {p : Program} {l : Launch} {e : Env} {s : State} {m : MethodId} {args : Array Value} {below : List Frame} {meth : Method} {c : Code} {A : Nat → Prop} {D : va_G} {ct : Nat → ClassId} {ad : Nat → Nat} {post : Int32 → MS → Prop} (K : CX p s m args meth c cX3_isOver 1 RX3 A D ct gT) (hr : meth.sig.returnType = (some .boolean))   (s0 : Int32) (st : MS) (h : wX3_isOver_20 post  s0 st) : jJ p l e { frames := 4, cells := 0, slots := 0, locals := 89 } s m args below meth c (MQ below (va_Qi post (fun u => cB D ct A (MW ct ad u)) A) args s 0 0 A) A D 1 (MW ct ad st) 0 0 20 [] [.int s0] := by
  unfold wX3_isOver_20 at h
  exact j_zret st K hr rfl h.2 h.1 (Nat.le_of_ble_eq_true rfl) (Nat.le_of_ble_eq_true rfl) dX3_isOver_20
theorem kX3_isOver_15 {p : Program} {l : Launch} {e : Env} {s : State} {m : MethodId} {args : Array Value} {below : List Frame} {meth : Method} {c : Code} {A : Nat → Prop} {D : va_G} {ct : Nat → ClassId} {ad : Nat → Nat} {post : Int32 → MS → Prop} (K : CX p s m args meth c cX3_isOver 1 RX3 A D ct gT) (hr : meth.sig.returnType = (some .boolean))    (st : MS) (h : wX3_isOver_15 post  st) : jJ p l e { frames := 4, cells := 0, slots := 0, locals := 89 } s m args below meth c (MQ below (va_Qi post (fun u => cB D ct A (MW ct ad u)) A) args s 0 0 A) A D 1 (MW ct ad st) 0 0 15 [] [] := by
  unfold wX3_isOver_15 at h
  refine j_iconst K (1 : Int32) dX3_isOver_15 (by decide) ?_
  refine j_goto K 20 dX3_isOver_16 (by decide) ?_
  exact kX3_isOver_20 K hr  (1 : Int32) st h
theorem kX3_isOver_19 {p : Program} {l : Launch} {e : Env} {s : State} {m : MethodId} {args : Array Value} {below : List Frame} {meth : Method} {c : Code} {A : Nat → Prop} {D : va_G} {ct : Nat → ClassId} {ad : Nat → Nat} {post : Int32 → MS → Prop} (K : CX p s m args meth c cX3_isOver 1 RX3 A D ct gT) (hr : meth.sig.returnType = (some .boolean))    (st : MS) (h : wX3_isOver_19 post  st) : jJ p l e { frames := 4, cells := 0, slots := 0, locals := 89 } s m args below meth c (MQ below (va_Qi post (fun u => cB D ct A (MW ct ad u)) A) args s 0 0 A) A D 1 (MW ct ad st) 0 0 19 [] [] := by
  unfold wX3_isOver_19 at h
  refine j_iconst K (0 : Int32) dX3_isOver_19 (by decide) ?_
  exact kX3_isOver_20 K hr  (0 : Int32) st h
theorem kX3_isOver_7 {p : Program} {l : Launch} {e : Env} {s : State} {m : MethodId} {args : Array Value} {below : List Frame} {meth : Method} {c : Code} {A : Nat → Prop} {D : va_G} {ct : Nat → ClassId} {ad : Nat → Nat} {post : Int32 → MS → Prop} (K : CX p s m args meth c cX3_isOver 1 RX3 A D ct gT) (hr : meth.sig.returnType = (some .boolean))    (st : MS) (h : wX3_isOver_7 post  st) : jJ p l e { frames := 4, cells := 0, slots := 0, locals := 89 } s m args below meth c (MQ below (va_Qi post (fun u => cB D ct A (MW ct ad u)) A) args s 0 0 A) A D 1 (MW ct ad st) 0 0 7 [(0, .ref (ad 0))] [] := by
  unfold wX3_isOver_7 at h
  refine j_aload_n K 0 dX3_isOver_7 rfl rfl ?_
  obtain ⟨hp, h⟩ := h
  refine j_callVi K (As := []) (rest := []) (ctX3_often (l := l) (D := D) (ct := ct) (ad := ad)  st hp) gwX3_often gdX3_often ⟨Nat.le_of_ble_eq_true rfl, Nat.le_of_ble_eq_true rfl⟩ 0 rfl rfl rfl rfl rfl (Nat.le_of_ble_eq_true rfl) dX3_isOver_8 ⟨Nat.le_of_ble_eq_true rfl, Nat.le_of_ble_eq_true rfl⟩ (fun r_1 st_2 hq => ?_)
  obtain ⟨hq, rfl⟩ := hq
  replace h := h r_1 hq
  refine j_iconst K (3 : Int32) dX3_isOver_11 (by decide) ?_
  refine j_icmp_lt K 19 dX3_isOver_12 (by decide) (fun hc => ?_) (fun hc => ?_)
  · refine j_lv K [] (lv' := []) rfl ?_
    exact kX3_isOver_19 K hr  st (h.1 hc)
  · refine j_lv K [] (lv' := []) rfl ?_
    exact kX3_isOver_15 K hr  st (h.2 hc)
theorem kX3_isOver_0 {p : Program} {l : Launch} {e : Env} {s : State} {m : MethodId} {args : Array Value} {below : List Frame} {meth : Method} {c : Code} {A : Nat → Prop} {D : va_G} {ct : Nat → ClassId} {ad : Nat → Nat} {post : Int32 → MS → Prop} (K : CX p s m args meth c cX3_isOver 1 RX3 A D ct gT) (hr : meth.sig.returnType = (some .boolean))    (st : MS) (h : wX3_isOver_0 post  st) : jJ p l e { frames := 4, cells := 0, slots := 0, locals := 89 } s m args below meth c (MQ below (va_Qi post (fun u => cB D ct A (MW ct ad u)) A) args s 0 0 A) A D 1 (MW ct ad st) 0 0 0 [(0, .ref (ad 0))] [] := by
  unfold wX3_isOver_0 at h
  refine j_aload_n K 0 dX3_isOver_0 rfl rfl ?_
  obtain ⟨hp, h⟩ := h
  refine j_callVi K (As := []) (rest := []) (ctX3_hasLost (l := l) (D := D) (ct := ct) (ad := ad)  st hp) gwX3_hasLost gdX3_hasLost ⟨Nat.le_of_ble_eq_true rfl, Nat.le_of_ble_eq_true rfl⟩ 0 rfl rfl rfl rfl rfl (Nat.le_of_ble_eq_true rfl) dX3_isOver_1 ⟨Nat.le_of_ble_eq_true rfl, Nat.le_of_ble_eq_true rfl⟩ (fun r_1 st_2 hq => ?_)
  replace h := h r_1 st_2 hq
  refine j_if_ne K 15 dX3_isOver_4 (by decide) (fun hc => ?_) (fun hc => ?_)
  · refine j_lv K [] (lv' := []) rfl ?_
    exact kX3_isOver_15 K hr  st_2 (h.1 hc)
  · exact kX3_isOver_7 K hr  st_2 (h.2 hc)
theorem ctX3_isOver {l : Launch} {D : va_G} {ct : Nat → ClassId} {ad : Nat → Nat}  (st : MS) (hp : pX3_isOver  st) : ∀ sz, Met l yX3_isOver (ws_ yX3_isOver cX3_isOver 1 (some .boolean)) { frames := 4, cells := 0, slots := 0, locals := 89 } (va_Pc [.ref (ad 0)] (cPre gT D ct (MW ct ad st) sz)) (va_Qi (qX3_isOver  st) (fun u => cB D ct (va_A (MW ct ad st) sz) (MW ct ad u)) (va_A (MW ct ad st) sz)) 0 0 (va_A (MW ct ad st) sz) := fun sz =>
  j_met (Qc := fun A => va_Qi (qX3_isOver  st) (fun u => cB D ct A (MW ct ad u)) A) (by decide) gT_ok (Nat.le_of_ble_eq_true rfl) (fun p e s m args below meth c A K hr _ _ => kX3_isOver_0 K hr  st (vcX3_isOver  st hp))
-- X3_lookNow
theorem gwX3_lookNow : GoodIn lw_all (wsV RX3 124 RX3 yX3_lookNow (ws_ yX3_lookNow cX3_lookNow 2 none)) := lw_V q1086 q1088 qs42 q84 q1089
theorem gdX3_lookNow : yX3_lookNow.cls = RX3 ∧ yX3_lookNow.cls ≠ "java/lang/invoke/MethodHandle" ∧ yX3_lookNow.cls ≠ "java/lang/invoke/VarHandle" ∧ (parseMethodDescriptor yX3_lookNow.desc).map (fun d => d.parameters.length) = some 0 := by decide +kernel
theorem kX3_lookNow_30 {p : Program} {l : Launch} {e : Env} {s : State} {m : MethodId} {args : Array Value} {below : List Frame} {meth : Method} {c : Code} {A : Nat → Prop} {D : va_G} {ct : Nat → ClassId} {ad : Nat → Nat} {post : MS → Prop} (K : CX p s m args meth c cX3_lookNow 2 RX3 A D ct gT) (hr : meth.sig.returnType = none)   (s1 : Int32) (st : MS) (h : wX3_lookNow_30 post  s1 st) : jJ p l e { frames := 5, cells := 0, slots := 0, locals := 109 } s m args below meth c (MQ below (va_Qv post (fun u => cB D ct A (MW ct ad u)) A) args s 0 0 A) A D 2 (MW ct ad st) 0 0 30 [] [.int s1, .ref (ad 0)] := by
  unfold wX3_lookNow_30 at h
  refine mp_many K dX3_lookNow_30 ?_
  exact j_vret (mF st 4 s1) K hr rfl h (Nat.le_of_ble_eq_true rfl) (Nat.le_of_ble_eq_true rfl) dX3_lookNow_33
theorem kX3_lookNow_26 {p : Program} {l : Launch} {e : Env} {s : State} {m : MethodId} {args : Array Value} {below : List Frame} {meth : Method} {c : Code} {A : Nat → Prop} {D : va_G} {ct : Nat → ClassId} {ad : Nat → Nat} {post : MS → Prop} (K : CX p s m args meth c cX3_lookNow 2 RX3 A D ct gT) (hr : meth.sig.returnType = none)    (st : MS) (h : wX3_lookNow_26 post  st) : jJ p l e { frames := 5, cells := 0, slots := 0, locals := 109 } s m args below meth c (MQ below (va_Qv post (fun u => cB D ct A (MW ct ad u)) A) args s 0 0 A) A D 2 (MW ct ad st) 0 0 26 [(0, .ref (ad 0))] [.ref (ad 0)] := by
  unfold wX3_lookNow_26 at h
  refine j_aload_n K 0 dX3_lookNow_26 rfl rfl ?_
  refine mg_many K dX3_lookNow_27 ?_
  refine j_lv K [] (lv' := []) rfl ?_
  exact kX3_lookNow_30 K hr  (st.2 4) st h
theorem kX3_lookNow_22 {p : Program} {l : Launch} {e : Env} {s : State} {m : MethodId} {args : Array Value} {below : List Frame} {meth : Method} {c : Code} {A : Nat → Prop} {D : va_G} {ct : Nat → ClassId} {ad : Nat → Nat} {post : MS → Prop} (K : CX p s m args meth c cX3_lookNow 2 RX3 A D ct gT) (hr : meth.sig.returnType = none)    (st : MS) (h : wX3_lookNow_22 post  st) : jJ p l e { frames := 5, cells := 0, slots := 0, locals := 109 } s m args below meth c (MQ below (va_Qv post (fun u => cB D ct A (MW ct ad u)) A) args s 0 0 A) A D 2 (MW ct ad st) 0 0 22 [] [.ref (ad 0)] := by
  unfold wX3_lookNow_22 at h
  refine j_iconst K (0 : Int32) dX3_lookNow_22 (by decide) ?_
  refine j_goto K 30 dX3_lookNow_23 (by decide) ?_
  exact kX3_lookNow_30 K hr  (0 : Int32) st h
theorem kX3_lookNow_0 {p : Program} {l : Launch} {e : Env} {s : State} {m : MethodId} {args : Array Value} {below : List Frame} {meth : Method} {c : Code} {A : Nat → Prop} {D : va_G} {ct : Nat → ClassId} {ad : Nat → Nat} {post : MS → Prop} (K : CX p s m args meth c cX3_lookNow 2 RX3 A D ct gT) (hr : meth.sig.returnType = none)    (st : MS) (h : wX3_lookNow_0 post  st) : jJ p l e { frames := 5, cells := 0, slots := 0, locals := 109 } s m args below meth c (MQ below (va_Qv post (fun u => cB D ct A (MW ct ad u)) A) args s 0 0 A) A D 2 (MW ct ad st) 0 0 0 [(0, .ref (ad 0))] [] := by
  unfold wX3_lookNow_0 at h
  refine j_aload_n K 0 dX3_lookNow_0 rfl rfl ?_
  obtain ⟨hp, h⟩ := h
  refine j_callVi K (As := []) (rest := []) (ctX3_isOver (l := l) (D := D) (ct := ct) (ad := ad)  st hp) gwX3_isOver gdX3_isOver ⟨Nat.le_of_ble_eq_true rfl, Nat.le_of_ble_eq_true rfl⟩ 0 rfl rfl rfl rfl rfl (Nat.le_of_ble_eq_true rfl) dX3_lookNow_1 ⟨Nat.le_of_ble_eq_true rfl, Nat.le_of_ble_eq_true rfl⟩ (fun r_1 st_2 hq => ?_)
  replace h := h r_1 st_2 hq
  refine j_istore_n K [(1, .int r_1), (0, .ref (ad 0))] dX3_lookNow_4 rfl (by decide) rfl ?_
  refine j_aload_n K 1 dX3_lookNow_5 rfl rfl ?_
  refine j_aload_n K 1 dX3_lookNow_6 rfl rfl ?_
  obtain ⟨hp, h⟩ := h
  refine j_callVi K (As := []) (rest := [.ref (ad 0)]) (ctX3_now (l := l) (D := D) (ct := ct) (ad := ad)  st_2 hp) gwX3_now gdX3_now ⟨Nat.le_of_ble_eq_true rfl, Nat.le_of_ble_eq_true rfl⟩ 0 rfl rfl rfl rfl rfl (Nat.le_of_ble_eq_true rfl) dX3_lookNow_7 ⟨Nat.le_of_ble_eq_true rfl, Nat.le_of_ble_eq_true rfl⟩ (fun r_3 st_4 hq => ?_)
  obtain ⟨hq, rfl⟩ := hq
  replace h := h r_3 hq
  obtain ⟨hp, h⟩ := h
  refine j_callVv K (As := [.int r_3]) (rest := []) (ctX3_open (l := l) (D := D) (ct := ct) (ad := ad) r_3 st_2 hp) gwX3_open gdX3_open ⟨Nat.le_of_ble_eq_true rfl, Nat.le_of_ble_eq_true rfl⟩ 0 rfl rfl rfl rfl rfl (Nat.le_of_ble_eq_true rfl) dX3_lookNow_10 ⟨Nat.le_of_ble_eq_true rfl, Nat.le_of_ble_eq_true rfl⟩ (fun st_5 hq => ?_)
  replace h := h st_5 hq
  refine j_aload_n K 1 dX3_lookNow_13 rfl rfl ?_
  obtain ⟨hp, h⟩ := h
  refine j_callVv K (As := []) (rest := []) (ctX3_look (l := l) (D := D) (ct := ct) (ad := ad)  st_5 hp) gwX3_look gdX3_look ⟨Nat.le_of_ble_eq_true rfl, Nat.le_of_ble_eq_true rfl⟩ 0 rfl rfl rfl rfl rfl (Nat.le_of_ble_eq_true rfl) dX3_lookNow_14 ⟨Nat.le_of_ble_eq_true rfl, Nat.le_of_ble_eq_true rfl⟩ (fun st_6 hq => ?_)
  replace h := h st_6 hq
  refine j_aload_n K 1 dX3_lookNow_17 rfl rfl ?_
  refine j_iload_n K 0 dX3_lookNow_18 rfl rfl ?_
  refine j_if_eq K 26 dX3_lookNow_19 (by decide) (fun hc => ?_) (fun hc => ?_)
  · refine j_lv K [1] (lv' := [(0, .ref (ad 0))]) rfl ?_
    exact kX3_lookNow_26 K hr  st_6 (h.1 hc)
  · refine j_lv K [] (lv' := []) rfl ?_
    exact kX3_lookNow_22 K hr  st_6 (h.2 hc)
theorem ctX3_lookNow {l : Launch} {D : va_G} {ct : Nat → ClassId} {ad : Nat → Nat}  (st : MS) (hp : pX3_lookNow  st) : ∀ sz, Met l yX3_lookNow (ws_ yX3_lookNow cX3_lookNow 2 none) { frames := 5, cells := 0, slots := 0, locals := 109 } (va_Pc [.ref (ad 0)] (cPre gT D ct (MW ct ad st) sz)) (va_Qv (qX3_lookNow  st) (fun u => cB D ct (va_A (MW ct ad st) sz) (MW ct ad u)) (va_A (MW ct ad st) sz)) 0 0 (va_A (MW ct ad st) sz) := fun sz =>
  j_met (Qc := fun A => va_Qv (qX3_lookNow  st) (fun u => cB D ct A (MW ct ad u)) A) (by decide) gT_ok (Nat.le_of_ble_eq_true rfl) (fun p e s m args below meth c A K hr _ _ => kX3_lookNow_0 K hr  st (vcX3_lookNow  st hp))
-- X3_isMove
theorem gwX3_isMove : GoodIn lw_all (wsV RX3 130 RX3 yX3_isMove (ws_ yX3_isMove cX3_isMove 3 (some .boolean))) := lw_V q1082 q1084 qs41 q84 q1085
theorem gdX3_isMove : yX3_isMove.cls = RX3 ∧ yX3_isMove.cls ≠ "java/lang/invoke/MethodHandle" ∧ yX3_isMove.cls ≠ "java/lang/invoke/VarHandle" ∧ (parseMethodDescriptor yX3_isMove.desc).map (fun d => d.parameters.length) = some 1 := by decide +kernel
theorem kX3_isMove_32 {p : Program} {l : Launch} {e : Env} {s : State} {m : MethodId} {args : Array Value} {below : List Frame} {meth : Method} {c : Code} {A : Nat → Prop} {D : va_G} {ct : Nat → ClassId} {ad : Nat → Nat} {post : Int32 → MS → Prop} (K : CX p s m args meth c cX3_isMove 3 RX3 A D ct gT) (hr : meth.sig.returnType = (some .boolean))    (st : MS) (h : wX3_isMove_32 post  st) : jJ p l e { frames := 6, cells := 0, slots := 0, locals := 130 } s m args below meth c (MQ below (va_Qi post (fun u => cB D ct A (MW ct ad u)) A) args s 0 0 A) A D 3 (MW ct ad st) 0 0 32 [] [] := by
  unfold wX3_isMove_32 at h
  refine j_iconst K (0 : Int32) dX3_isMove_32 (by decide) ?_
  exact j_zret st K hr rfl h.2 h.1 (Nat.le_of_ble_eq_true rfl) (Nat.le_of_ble_eq_true rfl) dX3_isMove_33
theorem kX3_isMove_26 {p : Program} {l : Launch} {e : Env} {s : State} {m : MethodId} {args : Array Value} {below : List Frame} {meth : Method} {c : Code} {A : Nat → Prop} {D : va_G} {ct : Nat → ClassId} {ad : Nat → Nat} {post : Int32 → MS → Prop} (K : CX p s m args meth c cX3_isMove 3 RX3 A D ct gT) (hr : meth.sig.returnType = (some .boolean)) (L6 : Int32 → Int32 → MS → Prop) (hL6 : ∀ (x1 : Int32) (x2 : Int32) (st : MS), L6 x1 x2 st → jJ p l e { frames := 6, cells := 0, slots := 0, locals := 130 } s m args below meth c (MQ below (va_Qi post (fun u => cB D ct A (MW ct ad u)) A) args s 0 0 A) A D 3 (MW ct ad st) 0 0 6 [(0, .ref (ad 0)), (1, .int x1), (2, .int x2)] []) (x1 : Int32) (x2 : Int32) (st : MS) (h : wX3_isMove_26 post L6 x1 x2 st) : jJ p l e { frames := 6, cells := 0, slots := 0, locals := 130 } s m args below meth c (MQ below (va_Qi post (fun u => cB D ct A (MW ct ad u)) A) args s 0 0 A) A D 3 (MW ct ad st) 0 0 26 [(0, .ref (ad 0)), (1, .int x1), (2, .int x2)] [] := by
  unfold wX3_isMove_26 at h
  refine j_iinc K 2 (x2 + (1 : Int32)) [(2, .int (x2 + (1 : Int32))), (0, .ref (ad 0)), (1, .int x1)] dX3_isMove_26 rfl rfl (by decide) rfl ?_
  refine j_goto K 6 dX3_isMove_29 (by decide) ?_
  refine j_lv K [1, 2, 0] (lv' := [(0, .ref (ad 0)), (1, .int x1), (2, .int (x2 + (1 : Int32)))]) rfl ?_
  exact hL6 x1 (x2 + (1 : Int32)) st h
theorem kX3_isMove_24 {p : Program} {l : Launch} {e : Env} {s : State} {m : MethodId} {args : Array Value} {below : List Frame} {meth : Method} {c : Code} {A : Nat → Prop} {D : va_G} {ct : Nat → ClassId} {ad : Nat → Nat} {post : Int32 → MS → Prop} (K : CX p s m args meth c cX3_isMove 3 RX3 A D ct gT) (hr : meth.sig.returnType = (some .boolean))    (st : MS) (h : wX3_isMove_24 post  st) : jJ p l e { frames := 6, cells := 0, slots := 0, locals := 130 } s m args below meth c (MQ below (va_Qi post (fun u => cB D ct A (MW ct ad u)) A) args s 0 0 A) A D 3 (MW ct ad st) 0 0 24 [] [] := by
  unfold wX3_isMove_24 at h
  refine j_iconst K (1 : Int32) dX3_isMove_24 (by decide) ?_
  exact j_zret st K hr rfl h.2 h.1 (Nat.le_of_ble_eq_true rfl) (Nat.le_of_ble_eq_true rfl) dX3_isMove_25
theorem kX3_isMove_14 {p : Program} {l : Launch} {e : Env} {s : State} {m : MethodId} {args : Array Value} {below : List Frame} {meth : Method} {c : Code} {A : Nat → Prop} {D : va_G} {ct : Nat → ClassId} {ad : Nat → Nat} {post : Int32 → MS → Prop} (K : CX p s m args meth c cX3_isMove 3 RX3 A D ct gT) (hr : meth.sig.returnType = (some .boolean)) (L6 : Int32 → Int32 → MS → Prop) (hL6 : ∀ (x1 : Int32) (x2 : Int32) (st : MS), L6 x1 x2 st → jJ p l e { frames := 6, cells := 0, slots := 0, locals := 130 } s m args below meth c (MQ below (va_Qi post (fun u => cB D ct A (MW ct ad u)) A) args s 0 0 A) A D 3 (MW ct ad st) 0 0 6 [(0, .ref (ad 0)), (1, .int x1), (2, .int x2)] []) (x1 : Int32) (x2 : Int32) (st : MS) (h : wX3_isMove_14 post L6 x1 x2 st) : jJ p l e { frames := 6, cells := 0, slots := 0, locals := 130 } s m args below meth c (MQ below (va_Qi post (fun u => cB D ct A (MW ct ad u)) A) args s 0 0 A) A D 3 (MW ct ad st) 0 0 14 [(0, .ref (ad 0)), (1, .int x1), (2, .int x2)] [] := by
  unfold wX3_isMove_14 at h
  refine j_aload_n K 0 dX3_isMove_14 rfl rfl ?_
  refine mg_list K dX3_isMove_15 ?_
  refine j_iload_n K 2 dX3_isMove_18 rfl rfl ?_
  obtain ⟨hc, h⟩ := h
  refine ml_list K hc dX3_isMove_19 ?_
  refine j_iload_n K 1 dX3_isMove_20 rfl rfl ?_
  refine j_icmp_ne K 26 dX3_isMove_21 (by decide) (fun hc => ?_) (fun hc => ?_)
  · exact kX3_isMove_26 K hr L6 hL6 x1 x2 st (h.1 hc)
  · refine j_lv K [] (lv' := []) rfl ?_
    exact kX3_isMove_24 K hr  st (h.2 hc)
theorem kX3_isMove_6_b {p : Program} {l : Launch} {e : Env} {s : State} {m : MethodId} {args : Array Value} {below : List Frame} {meth : Method} {c : Code} {A : Nat → Prop} {D : va_G} {ct : Nat → ClassId} {ad : Nat → Nat} {post : Int32 → MS → Prop} (K : CX p s m args meth c cX3_isMove 3 RX3 A D ct gT) (hr : meth.sig.returnType = (some .boolean)) (L6 : Int32 → Int32 → MS → Prop) (hL6 : ∀ (x1 : Int32) (x2 : Int32) (st : MS), L6 x1 x2 st → jJ p l e { frames := 6, cells := 0, slots := 0, locals := 130 } s m args below meth c (MQ below (va_Qi post (fun u => cB D ct A (MW ct ad u)) A) args s 0 0 A) A D 3 (MW ct ad st) 0 0 6 [(0, .ref (ad 0)), (1, .int x1), (2, .int x2)] []) (x1 : Int32) (x2 : Int32) (st : MS) (h : wX3_isMove_6_b post L6 x1 x2 st) : jJ p l e { frames := 6, cells := 0, slots := 0, locals := 130 } s m args below meth c (MQ below (va_Qi post (fun u => cB D ct A (MW ct ad u)) A) args s 0 0 A) A D 3 (MW ct ad st) 0 0 6 [(0, .ref (ad 0)), (1, .int x1), (2, .int x2)] [] := by
  unfold wX3_isMove_6_b at h
  refine j_iload_n K 2 dX3_isMove_6 rfl rfl ?_
  refine j_aload_n K 0 dX3_isMove_7 rfl rfl ?_
  refine mg_many K dX3_isMove_8 ?_
  refine j_icmp_ge K 32 dX3_isMove_11 (by decide) (fun hc => ?_) (fun hc => ?_)
  · refine j_lv K [] (lv' := []) rfl ?_
    exact kX3_isMove_32 K hr  st (h.1 hc)
  · exact kX3_isMove_14 K hr L6 hL6 x1 x2 st (h.2 hc)
theorem kX3_isMove_6 {p : Program} {l : Launch} {e : Env} {s : State} {m : MethodId} {args : Array Value} {below : List Frame} {meth : Method} {c : Code} {A : Nat → Prop} {D : va_G} {ct : Nat → ClassId} {ad : Nat → Nat} {post : Int32 → MS → Prop} (K : CX p s m args meth c cX3_isMove 3 RX3 A D ct gT) (hr : meth.sig.returnType = (some .boolean))   (x1 : Int32) (x2 : Int32) (st : MS) (h : wX3_isMove_6 post  x1 x2 st) : jJ p l e { frames := 6, cells := 0, slots := 0, locals := 130 } s m args below meth c (MQ below (va_Qi post (fun u => cB D ct A (MW ct ad u)) A) args s 0 0 A) A D 3 (MW ct ad st) 0 0 6 [(0, .ref (ad 0)), (1, .int x1), (2, .int x2)] [] :=
  wloop_sound (V := Int32 × Int32 × MS) (Wk := fun v => jJ p l e { frames := 6, cells := 0, slots := 0, locals := 130 } s m args below meth c (MQ below (va_Qi post (fun u => cB D ct A (MW ct ad u)) A) args s 0 0 A) A D 3 (MW ct ad v.2.2) 0 0 6 [(0, .ref (ad 0)), (1, .int v.1), (2, .int v.2.1)] []) (fun L hL v hb => kX3_isMove_6_b K hr (fun x1 x2 st => L (x1, x2, st)) (fun x1 x2 st hx => hL (x1, x2, st) hx) v.1 v.2.1 v.2.2 hb) h
theorem kX3_isMove_0 {p : Program} {l : Launch} {e : Env} {s : State} {m : MethodId} {args : Array Value} {below : List Frame} {meth : Method} {c : Code} {A : Nat → Prop} {D : va_G} {ct : Nat → ClassId} {ad : Nat → Nat} {post : Int32 → MS → Prop} (K : CX p s m args meth c cX3_isMove 3 RX3 A D ct gT) (hr : meth.sig.returnType = (some .boolean))   (x1 : Int32) (st : MS) (h : wX3_isMove_0 post  x1 st) : jJ p l e { frames := 6, cells := 0, slots := 0, locals := 130 } s m args below meth c (MQ below (va_Qi post (fun u => cB D ct A (MW ct ad u)) A) args s 0 0 A) A D 3 (MW ct ad st) 0 0 0 [(0, .ref (ad 0)), (1, .int x1)] [] := by
  unfold wX3_isMove_0 at h
  refine j_aload_n K 0 dX3_isMove_0 rfl rfl ?_
  obtain ⟨hp, h⟩ := h
  refine j_callVv K (As := []) (rest := []) (ctX3_lookNow (l := l) (D := D) (ct := ct) (ad := ad)  st hp) gwX3_lookNow gdX3_lookNow ⟨Nat.le_of_ble_eq_true rfl, Nat.le_of_ble_eq_true rfl⟩ 0 rfl rfl rfl rfl rfl (Nat.le_of_ble_eq_true rfl) dX3_isMove_1 ⟨Nat.le_of_ble_eq_true rfl, Nat.le_of_ble_eq_true rfl⟩ (fun st_1 hq => ?_)
  replace h := h st_1 hq
  refine j_iconst K (0 : Int32) dX3_isMove_4 (by decide) ?_
  refine j_istore_n K [(2, .int (0 : Int32)), (0, .ref (ad 0)), (1, .int x1)] dX3_isMove_5 rfl (by decide) rfl ?_
  refine j_lv K [1, 2, 0] (lv' := [(0, .ref (ad 0)), (1, .int x1), (2, .int (0 : Int32))]) rfl ?_
  exact kX3_isMove_6 K hr  x1 (0 : Int32) st_1 h
theorem ctX3_isMove {l : Launch} {D : va_G} {ct : Nat → ClassId} {ad : Nat → Nat} (x1 : Int32) (st : MS) (hp : pX3_isMove x1 st) : ∀ sz, Met l yX3_isMove (ws_ yX3_isMove cX3_isMove 3 (some .boolean)) { frames := 6, cells := 0, slots := 0, locals := 130 } (va_Pc [.ref (ad 0), .int x1] (cPre gT D ct (MW ct ad st) sz)) (va_Qi (qX3_isMove x1 st) (fun u => cB D ct (va_A (MW ct ad st) sz) (MW ct ad u)) (va_A (MW ct ad st) sz)) 0 0 (va_A (MW ct ad st) sz) := fun sz =>
  j_met (Qc := fun A => va_Qi (qX3_isMove x1 st) (fun u => cB D ct A (MW ct ad u)) A) (by decide) gT_ok (Nat.le_of_ble_eq_true rfl) (fun p e s m args below meth c A K hr _ _ => kX3_isMove_0 K hr x1 st (vcX3_isMove x1 st hp))
-- X3_goes
theorem gwX3_goes : GoodIn lw_all (wsV RX3 133 RX3 yX3_goes (ws_ yX3_goes cX3_goes 3 none)) := lw_V q1130 q1132 qs53 q84 q1133
theorem gdX3_goes : yX3_goes.cls = RX3 ∧ yX3_goes.cls ≠ "java/lang/invoke/MethodHandle" ∧ yX3_goes.cls ≠ "java/lang/invoke/VarHandle" ∧ (parseMethodDescriptor yX3_goes.desc).map (fun d => d.parameters.length) = some 1 := by decide +kernel
theorem kX3_goes_0 {p : Program} {l : Launch} {e : Env} {s : State} {m : MethodId} {args : Array Value} {below : List Frame} {meth : Method} {c : Code} {A : Nat → Prop} {D : va_G} {ct : Nat → ClassId} {ad : Nat → Nat} {post : MS → Prop} (K : CX p s m args meth c cX3_goes 3 RX3 A D ct gT) (hr : meth.sig.returnType = none)   (x1 : Int32) (st : MS) (h : wX3_goes_0 post  x1 st) : jJ p l e { frames := 2, cells := 0, slots := 0, locals := 46 } s m args below meth c (MQ below (va_Qv post (fun u => cB D ct A (MW ct ad u)) A) args s 0 0 A) A D 3 (MW ct ad st) 0 0 0 [(0, .ref (ad 0)), (1, .int x1)] [] := by
  unfold wX3_goes_0 at h
  refine j_aload_n K 0 dX3_goes_0 rfl rfl ?_
  refine j_aload_n K 0 dX3_goes_1 rfl rfl ?_
  obtain ⟨hp, h⟩ := h
  refine j_callVi K (As := []) (rest := [.ref (ad 0)]) (ctX3_now (l := l) (D := D) (ct := ct) (ad := ad)  st hp) gwX3_now gdX3_now ⟨Nat.le_of_ble_eq_true rfl, Nat.le_of_ble_eq_true rfl⟩ 0 rfl rfl rfl rfl rfl (Nat.le_of_ble_eq_true rfl) dX3_goes_2 ⟨Nat.le_of_ble_eq_true rfl, Nat.le_of_ble_eq_true rfl⟩ (fun r_1 st_2 hq => ?_)
  obtain ⟨hq, rfl⟩ := hq
  replace h := h r_1 hq
  obtain ⟨hp, h⟩ := h
  refine j_callVv K (As := [.int r_1]) (rest := []) (ctX3_open (l := l) (D := D) (ct := ct) (ad := ad) r_1 st hp) gwX3_open gdX3_open ⟨Nat.le_of_ble_eq_true rfl, Nat.le_of_ble_eq_true rfl⟩ 0 rfl rfl rfl rfl rfl (Nat.le_of_ble_eq_true rfl) dX3_goes_5 ⟨Nat.le_of_ble_eq_true rfl, Nat.le_of_ble_eq_true rfl⟩ (fun st_3 hq => ?_)
  replace h := h st_3 hq
  refine j_aload_n K 0 dX3_goes_8 rfl rfl ?_
  refine j_iload_n K 1 dX3_goes_9 rfl rfl ?_
  obtain ⟨hp, h⟩ := h
  refine j_callVi K (As := [.int x1]) (rest := []) (ctX3_next (l := l) (D := D) (ct := ct) (ad := ad) x1 st_3 hp) gwX3_next gdX3_next ⟨Nat.le_of_ble_eq_true rfl, Nat.le_of_ble_eq_true rfl⟩ 0 rfl rfl rfl rfl rfl (Nat.le_of_ble_eq_true rfl) dX3_goes_10 ⟨Nat.le_of_ble_eq_true rfl, Nat.le_of_ble_eq_true rfl⟩ (fun r_4 st_5 hq => ?_)
  replace h := h r_4 st_5 hq
  refine j_istore_n K [(2, .int r_4), (0, .ref (ad 0)), (1, .int x1)] dX3_goes_13 rfl (by decide) rfl ?_
  refine j_aload_n K 1 dX3_goes_14 rfl rfl ?_
  refine mg_row K dX3_goes_15 ?_
  refine j_iconst K (2 : Int32) dX3_goes_18 (by decide) ?_
  refine j_dup2 K dX3_goes_19 rfl rfl ?_
  obtain ⟨hc, h⟩ := h
  refine ml_row K hc dX3_goes_20 ?_
  refine j_iconst K (1 : Int32) dX3_goes_21 (by decide) ?_
  refine j_iadd K dX3_goes_22 ?_
  obtain ⟨hc, h⟩ := h
  refine mt_row K hc dX3_goes_23 ?_
  refine j_aload_n K 1 dX3_goes_24 rfl rfl ?_
  refine mg_row K dX3_goes_25 ?_
  refine j_iconst K (3 : Int32) dX3_goes_28 (by decide) ?_
  refine j_aload_n K 1 dX3_goes_29 rfl rfl ?_
  refine mg_row K dX3_goes_30 ?_
  refine j_iconst K (2 : Int32) dX3_goes_33 (by decide) ?_
  obtain ⟨hc, h⟩ := h
  refine ml_row K hc dX3_goes_34 ?_
  refine j_iadd K dX3_goes_35 ?_
  refine j_iload_n K 0 dX3_goes_36 rfl rfl ?_
  obtain ⟨hc, h⟩ := h
  refine mt_row K hc dX3_goes_37 ?_
  exact j_vret (mA (mA st_5 0 ((2 : Int32)).toNatClampNeg ((st_5.1 0 ((2 : Int32)).toNatClampNeg) + (1 : Int32))) 0 (((3 : Int32) + ((mA st_5 0 ((2 : Int32)).toNatClampNeg ((st_5.1 0 ((2 : Int32)).toNatClampNeg) + (1 : Int32))).1 0 ((2 : Int32)).toNatClampNeg))).toNatClampNeg r_4) K hr rfl h (Nat.le_of_ble_eq_true rfl) (Nat.le_of_ble_eq_true rfl) dX3_goes_38
theorem ctX3_goes {l : Launch} {D : va_G} {ct : Nat → ClassId} {ad : Nat → Nat} (x1 : Int32) (st : MS) (hp : pX3_goes x1 st) : ∀ sz, Met l yX3_goes (ws_ yX3_goes cX3_goes 3 none) { frames := 2, cells := 0, slots := 0, locals := 46 } (va_Pc [.ref (ad 0), .int x1] (cPre gT D ct (MW ct ad st) sz)) (va_Qv (qX3_goes x1 st) (fun u => cB D ct (va_A (MW ct ad st) sz) (MW ct ad u)) (va_A (MW ct ad st) sz)) 0 0 (va_A (MW ct ad st) sz) := fun sz =>
  j_met (Qc := fun A => va_Qv (qX3_goes x1 st) (fun u => cB D ct A (MW ct ad u)) A) (by decide) gT_ok (Nat.le_of_ble_eq_true rfl) (fun p e s m args below meth c A K hr _ _ => kX3_goes_0 K hr x1 st (vcX3_goes x1 st hp))
-- X3_moves
theorem gwX3_moves : GoodIn lw_all (wsV RX3 136 RX3 yX3_moves (ws_ yX3_moves cX3_moves 4 (some .int))) := lw_V q1078 q1080 qs40 q84 q1081
theorem gdX3_moves : yX3_moves.cls = RX3 ∧ yX3_moves.cls ≠ "java/lang/invoke/MethodHandle" ∧ yX3_moves.cls ≠ "java/lang/invoke/VarHandle" ∧ (parseMethodDescriptor yX3_moves.desc).map (fun d => d.parameters.length) = some 2 := by decide +kernel
theorem kX3_moves_49 {p : Program} {l : Launch} {e : Env} {s : State} {m : MethodId} {args : Array Value} {below : List Frame} {meth : Method} {c : Code} {A : Nat → Prop} {D : va_G} {ct : Nat → ClassId} {ad : Nat → Nat} {post : Int32 → MS → Prop} (K : CX p s m args meth c cX3_moves 4 RX3 A D ct gT) (hr : meth.sig.returnType = (some .int))   (s0 : Int32) (st : MS) (h : wX3_moves_49 post  s0 st) : jJ p l e { frames := 7, cells := 0, slots := 0, locals := 152 } s m args below meth c (MQ below (va_Qi post (fun u => cB D ct A (MW ct ad u)) A) args s 0 0 A) A D 4 (MW ct ad st) 0 0 49 [] [.int s0] := by
  unfold wX3_moves_49 at h
  exact j_iret st K hr rfl h (Nat.le_of_ble_eq_true rfl) (Nat.le_of_ble_eq_true rfl) dX3_moves_49
theorem kX3_moves_45 {p : Program} {l : Launch} {e : Env} {s : State} {m : MethodId} {args : Array Value} {below : List Frame} {meth : Method} {c : Code} {A : Nat → Prop} {D : va_G} {ct : Nat → ClassId} {ad : Nat → Nat} {post : Int32 → MS → Prop} (K : CX p s m args meth c cX3_moves 4 RX3 A D ct gT) (hr : meth.sig.returnType = (some .int))    (st : MS) (h : wX3_moves_45 post  st) : jJ p l e { frames := 7, cells := 0, slots := 0, locals := 152 } s m args below meth c (MQ below (va_Qi post (fun u => cB D ct A (MW ct ad u)) A) args s 0 0 A) A D 4 (MW ct ad st) 0 0 45 [(0, .ref (ad 0))] [] := by
  unfold wX3_moves_45 at h
  refine j_aload_n K 0 dX3_moves_45 rfl rfl ?_
  refine mg_mover K dX3_moves_46 ?_
  refine j_lv K [] (lv' := []) rfl ?_
  exact kX3_moves_49 K hr  (st.2 3) st h
theorem kX3_moves_37 {p : Program} {l : Launch} {e : Env} {s : State} {m : MethodId} {args : Array Value} {below : List Frame} {meth : Method} {c : Code} {A : Nat → Prop} {D : va_G} {ct : Nat → ClassId} {ad : Nat → Nat} {post : Int32 → MS → Prop} (K : CX p s m args meth c cX3_moves 4 RX3 A D ct gT) (hr : meth.sig.returnType = (some .int))   (x3 : Int32) (st : MS) (h : wX3_moves_37 post  x3 st) : jJ p l e { frames := 7, cells := 0, slots := 0, locals := 152 } s m args below meth c (MQ below (va_Qi post (fun u => cB D ct A (MW ct ad u)) A) args s 0 0 A) A D 4 (MW ct ad st) 0 0 37 [(0, .ref (ad 0)), (3, .int x3)] [] := by
  unfold wX3_moves_37 at h
  refine j_aload_n K 0 dX3_moves_37 rfl rfl ?_
  refine j_iload_n K 1 dX3_moves_38 rfl rfl ?_
  obtain ⟨hp, h⟩ := h
  refine j_callVi K (As := [.int x3]) (rest := []) (ctX3_men (l := l) (D := D) (ct := ct) (ad := ad) x3 st hp) gwX3_men gdX3_men ⟨Nat.le_of_ble_eq_true rfl, Nat.le_of_ble_eq_true rfl⟩ 0 rfl rfl rfl rfl rfl (Nat.le_of_ble_eq_true rfl) dX3_moves_39 ⟨Nat.le_of_ble_eq_true rfl, Nat.le_of_ble_eq_true rfl⟩ (fun r_1 st_2 hq => ?_)
  obtain ⟨hq, rfl⟩ := hq
  replace h := h r_1 hq
  refine j_goto K 49 dX3_moves_42 (by decide) ?_
  refine j_lv K [] (lv' := []) rfl ?_
  exact kX3_moves_49 K hr  r_1 st h
theorem kX3_moves_11 {p : Program} {l : Launch} {e : Env} {s : State} {m : MethodId} {args : Array Value} {below : List Frame} {meth : Method} {c : Code} {A : Nat → Prop} {D : va_G} {ct : Nat → ClassId} {ad : Nat → Nat} {post : Int32 → MS → Prop} (K : CX p s m args meth c cX3_moves 4 RX3 A D ct gT) (hr : meth.sig.returnType = (some .int))   (x1 : Int32) (x2 : Int32) (st : MS) (h : wX3_moves_11 post  x1 x2 st) : jJ p l e { frames := 7, cells := 0, slots := 0, locals := 152 } s m args below meth c (MQ below (va_Qi post (fun u => cB D ct A (MW ct ad u)) A) args s 0 0 A) A D 4 (MW ct ad st) 0 0 11 [(0, .ref (ad 0)), (1, .int x1), (2, .int x2)] [] := by
  unfold wX3_moves_11 at h
  refine j_aload_n K 0 dX3_moves_11 rfl rfl ?_
  obtain ⟨hp, h⟩ := h
  refine j_callVi K (As := []) (rest := []) (ctX3_now (l := l) (D := D) (ct := ct) (ad := ad)  st hp) gwX3_now gdX3_now ⟨Nat.le_of_ble_eq_true rfl, Nat.le_of_ble_eq_true rfl⟩ 0 rfl rfl rfl rfl rfl (Nat.le_of_ble_eq_true rfl) dX3_moves_12 ⟨Nat.le_of_ble_eq_true rfl, Nat.le_of_ble_eq_true rfl⟩ (fun r_1 st_2 hq => ?_)
  obtain ⟨hq, rfl⟩ := hq
  replace h := h r_1 hq
  refine j_sipush K (19683 : Int32) dX3_moves_15 (by decide) ?_
  refine j_idiv K (by decide) dX3_moves_18 ?_
  refine j_istore_n K [(3, .int (r_1 / (19683 : Int32))), (0, .ref (ad 0)), (1, .int x1), (2, .int x2)] dX3_moves_19 rfl (by decide) rfl ?_
  refine j_aload_n K 1 dX3_moves_20 rfl rfl ?_
  refine j_iload_n K 2 dX3_moves_21 rfl rfl ?_
  obtain ⟨hp, h⟩ := h
  refine j_callVv K (As := [.int x1]) (rest := []) (ctX3_goes (l := l) (D := D) (ct := ct) (ad := ad) x1 st hp) gwX3_goes gdX3_goes ⟨Nat.le_of_ble_eq_true rfl, Nat.le_of_ble_eq_true rfl⟩ 0 rfl rfl rfl rfl rfl (Nat.le_of_ble_eq_true rfl) dX3_moves_22 ⟨Nat.le_of_ble_eq_true rfl, Nat.le_of_ble_eq_true rfl⟩ (fun st_3 hq => ?_)
  replace h := h st_3 hq
  refine j_aload_n K 1 dX3_moves_25 rfl rfl ?_
  refine j_aload_n K 1 dX3_moves_26 rfl rfl ?_
  obtain ⟨hp, h⟩ := h
  refine j_callVi K (As := []) (rest := [.ref (ad 0)]) (ctX3_now (l := l) (D := D) (ct := ct) (ad := ad)  st_3 hp) gwX3_now gdX3_now ⟨Nat.le_of_ble_eq_true rfl, Nat.le_of_ble_eq_true rfl⟩ 0 rfl rfl rfl rfl rfl (Nat.le_of_ble_eq_true rfl) dX3_moves_27 ⟨Nat.le_of_ble_eq_true rfl, Nat.le_of_ble_eq_true rfl⟩ (fun r_4 st_5 hq => ?_)
  obtain ⟨hq, rfl⟩ := hq
  replace h := h r_4 hq
  obtain ⟨hp, h⟩ := h
  refine j_callVv K (As := [.int r_4]) (rest := []) (ctX3_open (l := l) (D := D) (ct := ct) (ad := ad) r_4 st_3 hp) gwX3_open gdX3_open ⟨Nat.le_of_ble_eq_true rfl, Nat.le_of_ble_eq_true rfl⟩ 0 rfl rfl rfl rfl rfl (Nat.le_of_ble_eq_true rfl) dX3_moves_30 ⟨Nat.le_of_ble_eq_true rfl, Nat.le_of_ble_eq_true rfl⟩ (fun st_6 hq => ?_)
  replace h := h st_6 hq
  refine j_iload_n K 3 dX3_moves_33 rfl rfl ?_
  refine j_if_eq K 45 dX3_moves_34 (by decide) (fun hc => ?_) (fun hc => ?_)
  · refine j_lv K [1] (lv' := [(0, .ref (ad 0))]) rfl ?_
    exact kX3_moves_45 K hr  st_6 (h.1 hc)
  · refine j_lv K [1, 0] (lv' := [(0, .ref (ad 0)), (3, .int (r_1 / (19683 : Int32)))]) rfl ?_
    exact kX3_moves_37 K hr  (r_1 / (19683 : Int32)) st_6 (h.2 hc)
theorem kX3_moves_8 {p : Program} {l : Launch} {e : Env} {s : State} {m : MethodId} {args : Array Value} {below : List Frame} {meth : Method} {c : Code} {A : Nat → Prop} {D : va_G} {ct : Nat → ClassId} {ad : Nat → Nat} {post : Int32 → MS → Prop} (K : CX p s m args meth c cX3_moves 4 RX3 A D ct gT) (hr : meth.sig.returnType = (some .int))    (st : MS) (h : wX3_moves_8 post  st) : jJ p l e { frames := 7, cells := 0, slots := 0, locals := 152 } s m args below meth c (MQ below (va_Qi post (fun u => cB D ct A (MW ct ad u)) A) args s 0 0 A) A D 4 (MW ct ad st) 0 0 8 [] [] := by
  unfold wX3_moves_8 at h
  refine j_bipush K (-5 : Int32) dX3_moves_8 (by decide) ?_
  exact j_iret st K hr rfl h (Nat.le_of_ble_eq_true rfl) (Nat.le_of_ble_eq_true rfl) dX3_moves_10
theorem kX3_moves_0 {p : Program} {l : Launch} {e : Env} {s : State} {m : MethodId} {args : Array Value} {below : List Frame} {meth : Method} {c : Code} {A : Nat → Prop} {D : va_G} {ct : Nat → ClassId} {ad : Nat → Nat} {post : Int32 → MS → Prop} (K : CX p s m args meth c cX3_moves 4 RX3 A D ct gT) (hr : meth.sig.returnType = (some .int))   (x1 : Int32) (x2 : Int32) (st : MS) (h : wX3_moves_0 post  x1 x2 st) : jJ p l e { frames := 7, cells := 0, slots := 0, locals := 152 } s m args below meth c (MQ below (va_Qi post (fun u => cB D ct A (MW ct ad u)) A) args s 0 0 A) A D 4 (MW ct ad st) 0 0 0 [(0, .ref (ad 0)), (1, .int x1), (2, .int x2)] [] := by
  unfold wX3_moves_0 at h
  refine j_aload_n K 0 dX3_moves_0 rfl rfl ?_
  refine j_iload_n K 1 dX3_moves_1 rfl rfl ?_
  obtain ⟨hp, h⟩ := h
  refine j_callVi K (As := [.int x1]) (rest := []) (ctX3_isMove (l := l) (D := D) (ct := ct) (ad := ad) x1 st hp) gwX3_isMove gdX3_isMove ⟨Nat.le_of_ble_eq_true rfl, Nat.le_of_ble_eq_true rfl⟩ 0 rfl rfl rfl rfl rfl (Nat.le_of_ble_eq_true rfl) dX3_moves_2 ⟨Nat.le_of_ble_eq_true rfl, Nat.le_of_ble_eq_true rfl⟩ (fun r_1 st_2 hq => ?_)
  replace h := h r_1 st_2 hq
  refine j_if_ne K 11 dX3_moves_5 (by decide) (fun hc => ?_) (fun hc => ?_)
  · exact kX3_moves_11 K hr  x1 x2 st_2 (h.1 hc)
  · refine j_lv K [] (lv' := []) rfl ?_
    exact kX3_moves_8 K hr  st_2 (h.2 hc)
theorem ctX3_moves {l : Launch} {D : va_G} {ct : Nat → ClassId} {ad : Nat → Nat} (x1 : Int32) (x2 : Int32) (st : MS) (hp : pX3_moves x1 x2 st) : ∀ sz, Met l yX3_moves (ws_ yX3_moves cX3_moves 4 (some .int)) { frames := 7, cells := 0, slots := 0, locals := 152 } (va_Pc [.ref (ad 0), .int x1, .int x2] (cPre gT D ct (MW ct ad st) sz)) (va_Qi (qX3_moves x1 x2 st) (fun u => cB D ct (va_A (MW ct ad st) sz) (MW ct ad u)) (va_A (MW ct ad st) sz)) 0 0 (va_A (MW ct ad st) sz) := fun sz =>
  j_met (Qc := fun A => va_Qi (qX3_moves x1 x2 st) (fun u => cB D ct A (MW ct ad u)) A) (by decide) gT_ok (Nat.le_of_ble_eq_true rfl) (fun p e s m args below meth c A K hr _ _ => kX3_moves_0 K hr x1 x2 st (vcX3_moves x1 x2 st hp))
-- X3_places
theorem gwX3_places : GoodIn lw_all (wsV RX3 146 RX3 yX3_places (ws_ yX3_places cX3_places 2 (some .int))) := lw_V q1074 q1076 qs39 q84 q1077
theorem gdX3_places : yX3_places.cls = RX3 ∧ yX3_places.cls ≠ "java/lang/invoke/MethodHandle" ∧ yX3_places.cls ≠ "java/lang/invoke/VarHandle" ∧ (parseMethodDescriptor yX3_places.desc).map (fun d => d.parameters.length) = some 1 := by decide +kernel
theorem kX3_places_21 {p : Program} {l : Launch} {e : Env} {s : State} {m : MethodId} {args : Array Value} {below : List Frame} {meth : Method} {c : Code} {A : Nat → Prop} {D : va_G} {ct : Nat → ClassId} {ad : Nat → Nat} {post : Int32 → MS → Prop} (K : CX p s m args meth c cX3_places 2 RX3 A D ct gT) (hr : meth.sig.returnType = (some .int))   (s0 : Int32) (st : MS) (h : wX3_places_21 post  s0 st) : jJ p l e { frames := 8, cells := 0, slots := 0, locals := 175 } s m args below meth c (MQ below (va_Qi post (fun u => cB D ct A (MW ct ad u)) A) args s 0 0 A) A D 2 (MW ct ad st) 0 0 21 [] [.int s0] := by
  unfold wX3_places_21 at h
  exact j_iret st K hr rfl h (Nat.le_of_ble_eq_true rfl) (Nat.le_of_ble_eq_true rfl) dX3_places_21
theorem kX3_places_20 {p : Program} {l : Launch} {e : Env} {s : State} {m : MethodId} {args : Array Value} {below : List Frame} {meth : Method} {c : Code} {A : Nat → Prop} {D : va_G} {ct : Nat → ClassId} {ad : Nat → Nat} {post : Int32 → MS → Prop} (K : CX p s m args meth c cX3_places 2 RX3 A D ct gT) (hr : meth.sig.returnType = (some .int))    (st : MS) (h : wX3_places_20 post  st) : jJ p l e { frames := 8, cells := 0, slots := 0, locals := 175 } s m args below meth c (MQ below (va_Qi post (fun u => cB D ct A (MW ct ad u)) A) args s 0 0 A) A D 2 (MW ct ad st) 0 0 20 [] [] := by
  unfold wX3_places_20 at h
  refine j_iconst K (-1 : Int32) dX3_places_20 (by decide) ?_
  exact kX3_places_21 K hr  (-1 : Int32) st h
theorem kX3_places_11 {p : Program} {l : Launch} {e : Env} {s : State} {m : MethodId} {args : Array Value} {below : List Frame} {meth : Method} {c : Code} {A : Nat → Prop} {D : va_G} {ct : Nat → ClassId} {ad : Nat → Nat} {post : Int32 → MS → Prop} (K : CX p s m args meth c cX3_places 2 RX3 A D ct gT) (hr : meth.sig.returnType = (some .int))   (x1 : Int32) (st : MS) (h : wX3_places_11 post  x1 st) : jJ p l e { frames := 8, cells := 0, slots := 0, locals := 175 } s m args below meth c (MQ below (va_Qi post (fun u => cB D ct A (MW ct ad u)) A) args s 0 0 A) A D 2 (MW ct ad st) 0 0 11 [(0, .ref (ad 0)), (1, .int x1)] [] := by
  unfold wX3_places_11 at h
  refine j_aload_n K 0 dX3_places_11 rfl rfl ?_
  refine j_iload_n K 1 dX3_places_12 rfl rfl ?_
  refine j_iconst K (1 : Int32) dX3_places_13 (by decide) ?_
  obtain ⟨hp, h⟩ := h
  refine j_callVi K (As := [.int x1, .int (1 : Int32)]) (rest := []) (ctX3_moves (l := l) (D := D) (ct := ct) (ad := ad) x1 (1 : Int32) st hp) gwX3_moves gdX3_moves ⟨Nat.le_of_ble_eq_true rfl, Nat.le_of_ble_eq_true rfl⟩ 0 rfl rfl rfl rfl rfl (Nat.le_of_ble_eq_true rfl) dX3_places_14 ⟨Nat.le_of_ble_eq_true rfl, Nat.le_of_ble_eq_true rfl⟩ (fun r_1 st_2 hq => ?_)
  replace h := h r_1 st_2 hq
  refine j_goto K 21 dX3_places_17 (by decide) ?_
  refine j_lv K [] (lv' := []) rfl ?_
  exact kX3_places_21 K hr  r_1 st_2 h
theorem kX3_places_0 {p : Program} {l : Launch} {e : Env} {s : State} {m : MethodId} {args : Array Value} {below : List Frame} {meth : Method} {c : Code} {A : Nat → Prop} {D : va_G} {ct : Nat → ClassId} {ad : Nat → Nat} {post : Int32 → MS → Prop} (K : CX p s m args meth c cX3_places 2 RX3 A D ct gT) (hr : meth.sig.returnType = (some .int))   (x1 : Int32) (st : MS) (h : wX3_places_0 post  x1 st) : jJ p l e { frames := 8, cells := 0, slots := 0, locals := 175 } s m args below meth c (MQ below (va_Qi post (fun u => cB D ct A (MW ct ad u)) A) args s 0 0 A) A D 2 (MW ct ad st) 0 0 0 [(0, .ref (ad 0)), (1, .int x1)] [] := by
  unfold wX3_places_0 at h
  refine j_iload_n K 1 dX3_places_0 rfl rfl ?_
  refine j_i2l K dX3_places_1 ?_
  refine j_iconst K (0 : Int32) dX3_places_2 (by decide) ?_
  refine j_bipush K (8 : Int32) dX3_places_3 (by decide) ?_
  refine j_callSi K (As := [.long (x1.toInt64), .int (0 : Int32), .int (8 : Int32)]) (rest := []) (ctX3_in (l := l) (D := D) (ct := ct) (G := gT) (ws := MW ct ad st) gT_ok (x1.toInt64) (0 : Int32) (8 : Int32)) gwX3_in gdX3_in ⟨Nat.le_of_ble_eq_true rfl, Nat.le_of_ble_eq_true rfl⟩ rfl rfl (Nat.le_of_ble_eq_true rfl) dX3_places_5 ⟨Nat.le_of_ble_eq_true rfl, Nat.le_of_ble_eq_true rfl⟩ (fun r_1 _ hq => ?_)
  replace h := h r_1 hq
  refine j_if_eq K 20 dX3_places_8 (by decide) (fun hc => ?_) (fun hc => ?_)
  · refine j_lv K [] (lv' := []) rfl ?_
    exact kX3_places_20 K hr  st (h.1 hc)
  · exact kX3_places_11 K hr  x1 st (h.2 hc)
theorem ctX3_places {l : Launch} {D : va_G} {ct : Nat → ClassId} {ad : Nat → Nat} (x1 : Int32) (st : MS) (hp : pX3_places x1 st) : ∀ sz, Met l yX3_places (ws_ yX3_places cX3_places 2 (some .int)) { frames := 8, cells := 0, slots := 0, locals := 175 } (va_Pc [.ref (ad 0), .int x1] (cPre gT D ct (MW ct ad st) sz)) (va_Qi (qX3_places x1 st) (fun u => cB D ct (va_A (MW ct ad st) sz) (MW ct ad u)) (va_A (MW ct ad st) sz)) 0 0 (va_A (MW ct ad st) sz) := fun sz =>
  j_met (Qc := fun A => va_Qi (qX3_places x1 st) (fun u => cB D ct A (MW ct ad u)) A) (by decide) gT_ok (Nat.le_of_ble_eq_true rfl) (fun p e s m args below meth c A K hr _ _ => kX3_places_0 K hr x1 st (vcX3_places x1 st hp))
-- X3_slides
theorem gwX3_slides : GoodIn lw_all (wsV RX3 149 RX3 yX3_slides (ws_ yX3_slides cX3_slides 3 (some .int))) := lw_V q1146 q1148 qs56 q84 q1149
theorem gdX3_slides : yX3_slides.cls = RX3 ∧ yX3_slides.cls ≠ "java/lang/invoke/MethodHandle" ∧ yX3_slides.cls ≠ "java/lang/invoke/VarHandle" ∧ (parseMethodDescriptor yX3_slides.desc).map (fun d => d.parameters.length) = some 2 := by decide +kernel
theorem kX3_slides_40 {p : Program} {l : Launch} {e : Env} {s : State} {m : MethodId} {args : Array Value} {below : List Frame} {meth : Method} {c : Code} {A : Nat → Prop} {D : va_G} {ct : Nat → ClassId} {ad : Nat → Nat} {post : Int32 → MS → Prop} (K : CX p s m args meth c cX3_slides 3 RX3 A D ct gT) (hr : meth.sig.returnType = (some .int))   (s0 : Int32) (st : MS) (h : wX3_slides_40 post  s0 st) : jJ p l e { frames := 8, cells := 0, slots := 0, locals := 175 } s m args below meth c (MQ below (va_Qi post (fun u => cB D ct A (MW ct ad u)) A) args s 0 0 A) A D 3 (MW ct ad st) 0 0 40 [] [.int s0] := by
  unfold wX3_slides_40 at h
  exact j_iret st K hr rfl h (Nat.le_of_ble_eq_true rfl) (Nat.le_of_ble_eq_true rfl) dX3_slides_40
theorem kX3_slides_39 {p : Program} {l : Launch} {e : Env} {s : State} {m : MethodId} {args : Array Value} {below : List Frame} {meth : Method} {c : Code} {A : Nat → Prop} {D : va_G} {ct : Nat → ClassId} {ad : Nat → Nat} {post : Int32 → MS → Prop} (K : CX p s m args meth c cX3_slides 3 RX3 A D ct gT) (hr : meth.sig.returnType = (some .int))    (st : MS) (h : wX3_slides_39 post  st) : jJ p l e { frames := 8, cells := 0, slots := 0, locals := 175 } s m args below meth c (MQ below (va_Qi post (fun u => cB D ct A (MW ct ad u)) A) args s 0 0 A) A D 3 (MW ct ad st) 0 0 39 [] [] := by
  unfold wX3_slides_39 at h
  refine j_iconst K (-1 : Int32) dX3_slides_39 (by decide) ?_
  exact kX3_slides_40 K hr  (-1 : Int32) st h
theorem kX3_slides_22 {p : Program} {l : Launch} {e : Env} {s : State} {m : MethodId} {args : Array Value} {below : List Frame} {meth : Method} {c : Code} {A : Nat → Prop} {D : va_G} {ct : Nat → ClassId} {ad : Nat → Nat} {post : Int32 → MS → Prop} (K : CX p s m args meth c cX3_slides 3 RX3 A D ct gT) (hr : meth.sig.returnType = (some .int))   (x1 : Int32) (x2 : Int32) (st : MS) (h : wX3_slides_22 post  x1 x2 st) : jJ p l e { frames := 8, cells := 0, slots := 0, locals := 175 } s m args below meth c (MQ below (va_Qi post (fun u => cB D ct A (MW ct ad u)) A) args s 0 0 A) A D 3 (MW ct ad st) 0 0 22 [(0, .ref (ad 0)), (1, .int x1), (2, .int x2)] [] := by
  unfold wX3_slides_22 at h
  refine j_aload_n K 0 dX3_slides_22 rfl rfl ?_
  refine j_bipush K (9 : Int32) dX3_slides_23 (by decide) ?_
  refine j_bipush K (9 : Int32) dX3_slides_25 (by decide) ?_
  refine j_iload_n K 1 dX3_slides_27 rfl rfl ?_
  refine j_imul K dX3_slides_28 ?_
  refine j_iadd K dX3_slides_29 ?_
  refine j_iload_n K 2 dX3_slides_30 rfl rfl ?_
  refine j_iadd K dX3_slides_31 ?_
  refine j_iconst K (0 : Int32) dX3_slides_32 (by decide) ?_
  obtain ⟨hp, h⟩ := h
  refine j_callVi K (As := [.int (((9 : Int32) + ((9 : Int32) * x1)) + x2), .int (0 : Int32)]) (rest := []) (ctX3_moves (l := l) (D := D) (ct := ct) (ad := ad) (((9 : Int32) + ((9 : Int32) * x1)) + x2) (0 : Int32) st hp) gwX3_moves gdX3_moves ⟨Nat.le_of_ble_eq_true rfl, Nat.le_of_ble_eq_true rfl⟩ 0 rfl rfl rfl rfl rfl (Nat.le_of_ble_eq_true rfl) dX3_slides_33 ⟨Nat.le_of_ble_eq_true rfl, Nat.le_of_ble_eq_true rfl⟩ (fun r_1 st_2 hq => ?_)
  replace h := h r_1 st_2 hq
  refine j_goto K 40 dX3_slides_36 (by decide) ?_
  refine j_lv K [] (lv' := []) rfl ?_
  exact kX3_slides_40 K hr  r_1 st_2 h
theorem kX3_slides_11 {p : Program} {l : Launch} {e : Env} {s : State} {m : MethodId} {args : Array Value} {below : List Frame} {meth : Method} {c : Code} {A : Nat → Prop} {D : va_G} {ct : Nat → ClassId} {ad : Nat → Nat} {post : Int32 → MS → Prop} (K : CX p s m args meth c cX3_slides 3 RX3 A D ct gT) (hr : meth.sig.returnType = (some .int))   (x1 : Int32) (x2 : Int32) (st : MS) (h : wX3_slides_11 post  x1 x2 st) : jJ p l e { frames := 8, cells := 0, slots := 0, locals := 175 } s m args below meth c (MQ below (va_Qi post (fun u => cB D ct A (MW ct ad u)) A) args s 0 0 A) A D 3 (MW ct ad st) 0 0 11 [(0, .ref (ad 0)), (1, .int x1), (2, .int x2)] [] := by
  unfold wX3_slides_11 at h
  refine j_iload_n K 2 dX3_slides_11 rfl rfl ?_
  refine j_i2l K dX3_slides_12 ?_
  refine j_iconst K (0 : Int32) dX3_slides_13 (by decide) ?_
  refine j_bipush K (8 : Int32) dX3_slides_14 (by decide) ?_
  refine j_callSi K (As := [.long (x2.toInt64), .int (0 : Int32), .int (8 : Int32)]) (rest := []) (ctX3_in (l := l) (D := D) (ct := ct) (G := gT) (ws := MW ct ad st) gT_ok (x2.toInt64) (0 : Int32) (8 : Int32)) gwX3_in gdX3_in ⟨Nat.le_of_ble_eq_true rfl, Nat.le_of_ble_eq_true rfl⟩ rfl rfl (Nat.le_of_ble_eq_true rfl) dX3_slides_16 ⟨Nat.le_of_ble_eq_true rfl, Nat.le_of_ble_eq_true rfl⟩ (fun r_1 _ hq => ?_)
  replace h := h r_1 hq
  refine j_if_eq K 39 dX3_slides_19 (by decide) (fun hc => ?_) (fun hc => ?_)
  · refine j_lv K [] (lv' := []) rfl ?_
    exact kX3_slides_39 K hr  st (h.1 hc)
  · exact kX3_slides_22 K hr  x1 x2 st (h.2 hc)
theorem kX3_slides_0 {p : Program} {l : Launch} {e : Env} {s : State} {m : MethodId} {args : Array Value} {below : List Frame} {meth : Method} {c : Code} {A : Nat → Prop} {D : va_G} {ct : Nat → ClassId} {ad : Nat → Nat} {post : Int32 → MS → Prop} (K : CX p s m args meth c cX3_slides 3 RX3 A D ct gT) (hr : meth.sig.returnType = (some .int))   (x1 : Int32) (x2 : Int32) (st : MS) (h : wX3_slides_0 post  x1 x2 st) : jJ p l e { frames := 8, cells := 0, slots := 0, locals := 175 } s m args below meth c (MQ below (va_Qi post (fun u => cB D ct A (MW ct ad u)) A) args s 0 0 A) A D 3 (MW ct ad st) 0 0 0 [(0, .ref (ad 0)), (1, .int x1), (2, .int x2)] [] := by
  unfold wX3_slides_0 at h
  refine j_iload_n K 1 dX3_slides_0 rfl rfl ?_
  refine j_i2l K dX3_slides_1 ?_
  refine j_iconst K (0 : Int32) dX3_slides_2 (by decide) ?_
  refine j_bipush K (8 : Int32) dX3_slides_3 (by decide) ?_
  refine j_callSi K (As := [.long (x1.toInt64), .int (0 : Int32), .int (8 : Int32)]) (rest := []) (ctX3_in (l := l) (D := D) (ct := ct) (G := gT) (ws := MW ct ad st) gT_ok (x1.toInt64) (0 : Int32) (8 : Int32)) gwX3_in gdX3_in ⟨Nat.le_of_ble_eq_true rfl, Nat.le_of_ble_eq_true rfl⟩ rfl rfl (Nat.le_of_ble_eq_true rfl) dX3_slides_5 ⟨Nat.le_of_ble_eq_true rfl, Nat.le_of_ble_eq_true rfl⟩ (fun r_1 _ hq => ?_)
  replace h := h r_1 hq
  refine j_if_eq K 39 dX3_slides_8 (by decide) (fun hc => ?_) (fun hc => ?_)
  · refine j_lv K [] (lv' := []) rfl ?_
    exact kX3_slides_39 K hr  st (h.1 hc)
  · exact kX3_slides_11 K hr  x1 x2 st (h.2 hc)
theorem ctX3_slides {l : Launch} {D : va_G} {ct : Nat → ClassId} {ad : Nat → Nat} (x1 : Int32) (x2 : Int32) (st : MS) (hp : pX3_slides x1 x2 st) : ∀ sz, Met l yX3_slides (ws_ yX3_slides cX3_slides 3 (some .int)) { frames := 8, cells := 0, slots := 0, locals := 175 } (va_Pc [.ref (ad 0), .int x1, .int x2] (cPre gT D ct (MW ct ad st) sz)) (va_Qi (qX3_slides x1 x2 st) (fun u => cB D ct (va_A (MW ct ad st) sz) (MW ct ad u)) (va_A (MW ct ad st) sz)) 0 0 (va_A (MW ct ad st) sz) := fun sz =>
  j_met (Qc := fun A => va_Qi (qX3_slides x1 x2 st) (fun u => cB D ct A (MW ct ad u)) A) (by decide) gT_ok (Nat.le_of_ble_eq_true rfl) (fun p e s m args below meth c A K hr _ _ => kX3_slides_0 K hr x1 x2 st (vcX3_slides x1 x2 st hp))
-- X3_bestMove
theorem gwX3_bestMove : GoodIn lw_all (wsV RX3 140 RX3 yX3_bestMove (ws_ yX3_bestMove cX3_bestMove 4 (some .int))) := lw_V q1162 q1164 qs58 q84 q1165
theorem gdX3_bestMove : yX3_bestMove.cls = RX3 ∧ yX3_bestMove.cls ≠ "java/lang/invoke/MethodHandle" ∧ yX3_bestMove.cls ≠ "java/lang/invoke/VarHandle" ∧ (parseMethodDescriptor yX3_bestMove.desc).map (fun d => d.parameters.length) = some 0 := by decide +kernel
theorem kX3_bestMove_82 {p : Program} {l : Launch} {e : Env} {s : State} {m : MethodId} {args : Array Value} {below : List Frame} {meth : Method} {c : Code} {A : Nat → Prop} {D : va_G} {ct : Nat → ClassId} {ad : Nat → Nat} {post : Int32 → MS → Prop} (K : CX p s m args meth c cX3_bestMove 4 RX3 A D ct gT) (hr : meth.sig.returnType = (some .int))    (st : MS) (h : wX3_bestMove_82 post  st) : jJ p l e { frames := 7, cells := 0, slots := 0, locals := 163 } s m args below meth c (MQ below (va_Qi post (fun u => cB D ct A (MW ct ad u)) A) args s 0 0 A) A D 4 (MW ct ad st) 0 0 82 [] [] := by
  unfold wX3_bestMove_82 at h
  refine j_bipush K (-5 : Int32) dX3_bestMove_82 (by decide) ?_
  exact j_iret st K hr rfl h (Nat.le_of_ble_eq_true rfl) (Nat.le_of_ble_eq_true rfl) dX3_bestMove_84
theorem kX3_bestMove_76 {p : Program} {l : Launch} {e : Env} {s : State} {m : MethodId} {args : Array Value} {below : List Frame} {meth : Method} {c : Code} {A : Nat → Prop} {D : va_G} {ct : Nat → ClassId} {ad : Nat → Nat} {post : Int32 → MS → Prop} (K : CX p s m args meth c cX3_bestMove 4 RX3 A D ct gT) (hr : meth.sig.returnType = (some .int)) (L37 : Int32 → Int32 → MS → Prop) (hL37 : ∀ (x2 : Int32) (x3 : Int32) (st : MS), L37 x2 x3 st → jJ p l e { frames := 7, cells := 0, slots := 0, locals := 163 } s m args below meth c (MQ below (va_Qi post (fun u => cB D ct A (MW ct ad u)) A) args s 0 0 A) A D 4 (MW ct ad st) 0 0 37 [(0, .ref (ad 0)), (2, .int x2), (3, .int x3)] []) (x2 : Int32) (x3 : Int32) (st : MS) (h : wX3_bestMove_76 post L37 x2 x3 st) : jJ p l e { frames := 7, cells := 0, slots := 0, locals := 163 } s m args below meth c (MQ below (va_Qi post (fun u => cB D ct A (MW ct ad u)) A) args s 0 0 A) A D 4 (MW ct ad st) 0 0 76 [(0, .ref (ad 0)), (2, .int x2), (3, .int x3)] [] := by
  unfold wX3_bestMove_76 at h
  refine j_iinc K 2 (x3 + (1 : Int32)) [(3, .int (x3 + (1 : Int32))), (0, .ref (ad 0)), (2, .int x2)] dX3_bestMove_76 rfl rfl (by decide) rfl ?_
  refine j_goto K 37 dX3_bestMove_79 (by decide) ?_
  refine j_lv K [1, 2, 0] (lv' := [(0, .ref (ad 0)), (2, .int x2), (3, .int (x3 + (1 : Int32)))]) rfl ?_
  exact hL37 x2 (x3 + (1 : Int32)) st h
theorem kX3_bestMove_69 {p : Program} {l : Launch} {e : Env} {s : State} {m : MethodId} {args : Array Value} {below : List Frame} {meth : Method} {c : Code} {A : Nat → Prop} {D : va_G} {ct : Nat → ClassId} {ad : Nat → Nat} {post : Int32 → MS → Prop} (K : CX p s m args meth c cX3_bestMove 4 RX3 A D ct gT) (hr : meth.sig.returnType = (some .int))   (x3 : Int32) (st : MS) (h : wX3_bestMove_69 post  x3 st) : jJ p l e { frames := 7, cells := 0, slots := 0, locals := 163 } s m args below meth c (MQ below (va_Qi post (fun u => cB D ct A (MW ct ad u)) A) args s 0 0 A) A D 4 (MW ct ad st) 0 0 69 [(0, .ref (ad 0)), (3, .int x3)] [] := by
  unfold wX3_bestMove_69 at h
  refine j_aload_n K 0 dX3_bestMove_69 rfl rfl ?_
  refine mg_list K dX3_bestMove_70 ?_
  refine j_iload_n K 1 dX3_bestMove_73 rfl rfl ?_
  obtain ⟨hc, h⟩ := h
  refine ml_list K hc dX3_bestMove_74 ?_
  exact j_iret st K hr rfl h (Nat.le_of_ble_eq_true rfl) (Nat.le_of_ble_eq_true rfl) dX3_bestMove_75
theorem kX3_bestMove_45 {p : Program} {l : Launch} {e : Env} {s : State} {m : MethodId} {args : Array Value} {below : List Frame} {meth : Method} {c : Code} {A : Nat → Prop} {D : va_G} {ct : Nat → ClassId} {ad : Nat → Nat} {post : Int32 → MS → Prop} (K : CX p s m args meth c cX3_bestMove 4 RX3 A D ct gT) (hr : meth.sig.returnType = (some .int)) (L37 : Int32 → Int32 → MS → Prop) (hL37 : ∀ (x2 : Int32) (x3 : Int32) (st : MS), L37 x2 x3 st → jJ p l e { frames := 7, cells := 0, slots := 0, locals := 163 } s m args below meth c (MQ below (va_Qi post (fun u => cB D ct A (MW ct ad u)) A) args s 0 0 A) A D 4 (MW ct ad st) 0 0 37 [(0, .ref (ad 0)), (2, .int x2), (3, .int x3)] []) (x2 : Int32) (x3 : Int32) (st : MS) (h : wX3_bestMove_45 post L37 x2 x3 st) : jJ p l e { frames := 7, cells := 0, slots := 0, locals := 163 } s m args below meth c (MQ below (va_Qi post (fun u => cB D ct A (MW ct ad u)) A) args s 0 0 A) A D 4 (MW ct ad st) 0 0 45 [(0, .ref (ad 0)), (2, .int x2), (3, .int x3)] [] := by
  unfold wX3_bestMove_45 at h
  refine j_aload_n K 0 dX3_bestMove_45 rfl rfl ?_
  refine mg_worths K dX3_bestMove_46 ?_
  refine j_aload_n K 0 dX3_bestMove_49 rfl rfl ?_
  obtain ⟨hp, h⟩ := h
  refine j_callVi K (As := []) (rest := [.ref (ad 10)]) (ctX3_table (l := l) (D := D) (ct := ct) (ad := ad)  st hp) gwX3_table gdX3_table ⟨Nat.le_of_ble_eq_true rfl, Nat.le_of_ble_eq_true rfl⟩ 0 rfl rfl rfl rfl rfl (Nat.le_of_ble_eq_true rfl) dX3_bestMove_50 ⟨Nat.le_of_ble_eq_true rfl, Nat.le_of_ble_eq_true rfl⟩ (fun r_1 st_2 hq => ?_)
  replace h := h r_1 st_2 hq
  refine j_aload_n K 0 dX3_bestMove_53 rfl rfl ?_
  refine j_aload_n K 0 dX3_bestMove_54 rfl rfl ?_
  refine mg_list K dX3_bestMove_55 ?_
  refine j_iload_n K 2 dX3_bestMove_58 rfl rfl ?_
  obtain ⟨hc, h⟩ := h
  refine ml_list K hc dX3_bestMove_59 ?_
  obtain ⟨hp, h⟩ := h
  refine j_callVi K (As := [.int (st_2.1 8 (x3).toNatClampNeg)]) (rest := [.int r_1, .ref (ad 10)]) (ctX3_next (l := l) (D := D) (ct := ct) (ad := ad) (st_2.1 8 (x3).toNatClampNeg) st_2 hp) gwX3_next gdX3_next ⟨Nat.le_of_ble_eq_true rfl, Nat.le_of_ble_eq_true rfl⟩ 0 rfl rfl rfl rfl rfl (Nat.le_of_ble_eq_true rfl) dX3_bestMove_60 ⟨Nat.le_of_ble_eq_true rfl, Nat.le_of_ble_eq_true rfl⟩ (fun r_3 st_4 hq => ?_)
  replace h := h r_3 st_4 hq
  refine j_iadd K dX3_bestMove_63 ?_
  obtain ⟨hc, h⟩ := h
  refine ml_worths K hc dX3_bestMove_64 ?_
  refine j_iload_n K 1 dX3_bestMove_65 rfl rfl ?_
  refine j_icmp_ne K 76 dX3_bestMove_66 (by decide) (fun hc => ?_) (fun hc => ?_)
  · exact kX3_bestMove_76 K hr L37 hL37 x2 x3 st_4 (h.1 hc)
  · refine j_lv K [0, 2] (lv' := [(0, .ref (ad 0)), (3, .int x3)]) rfl ?_
    exact kX3_bestMove_69 K hr  x3 st_4 (h.2 hc)
theorem kX3_bestMove_37_b {p : Program} {l : Launch} {e : Env} {s : State} {m : MethodId} {args : Array Value} {below : List Frame} {meth : Method} {c : Code} {A : Nat → Prop} {D : va_G} {ct : Nat → ClassId} {ad : Nat → Nat} {post : Int32 → MS → Prop} (K : CX p s m args meth c cX3_bestMove 4 RX3 A D ct gT) (hr : meth.sig.returnType = (some .int)) (L37 : Int32 → Int32 → MS → Prop) (hL37 : ∀ (x2 : Int32) (x3 : Int32) (st : MS), L37 x2 x3 st → jJ p l e { frames := 7, cells := 0, slots := 0, locals := 163 } s m args below meth c (MQ below (va_Qi post (fun u => cB D ct A (MW ct ad u)) A) args s 0 0 A) A D 4 (MW ct ad st) 0 0 37 [(0, .ref (ad 0)), (2, .int x2), (3, .int x3)] []) (x2 : Int32) (x3 : Int32) (st : MS) (h : wX3_bestMove_37_b post L37 x2 x3 st) : jJ p l e { frames := 7, cells := 0, slots := 0, locals := 163 } s m args below meth c (MQ below (va_Qi post (fun u => cB D ct A (MW ct ad u)) A) args s 0 0 A) A D 4 (MW ct ad st) 0 0 37 [(0, .ref (ad 0)), (2, .int x2), (3, .int x3)] [] := by
  unfold wX3_bestMove_37_b at h
  refine j_iload_n K 2 dX3_bestMove_37 rfl rfl ?_
  refine j_aload_n K 0 dX3_bestMove_38 rfl rfl ?_
  refine mg_many K dX3_bestMove_39 ?_
  refine j_icmp_ge K 82 dX3_bestMove_42 (by decide) (fun hc => ?_) (fun hc => ?_)
  · refine j_lv K [] (lv' := []) rfl ?_
    exact kX3_bestMove_82 K hr  st (h.1 hc)
  · exact kX3_bestMove_45 K hr L37 hL37 x2 x3 st (h.2 hc)
theorem kX3_bestMove_37 {p : Program} {l : Launch} {e : Env} {s : State} {m : MethodId} {args : Array Value} {below : List Frame} {meth : Method} {c : Code} {A : Nat → Prop} {D : va_G} {ct : Nat → ClassId} {ad : Nat → Nat} {post : Int32 → MS → Prop} (K : CX p s m args meth c cX3_bestMove 4 RX3 A D ct gT) (hr : meth.sig.returnType = (some .int))   (x2 : Int32) (x3 : Int32) (st : MS) (h : wX3_bestMove_37 post  x2 x3 st) : jJ p l e { frames := 7, cells := 0, slots := 0, locals := 163 } s m args below meth c (MQ below (va_Qi post (fun u => cB D ct A (MW ct ad u)) A) args s 0 0 A) A D 4 (MW ct ad st) 0 0 37 [(0, .ref (ad 0)), (2, .int x2), (3, .int x3)] [] :=
  wloop_sound (V := Int32 × Int32 × MS) (Wk := fun v => jJ p l e { frames := 7, cells := 0, slots := 0, locals := 163 } s m args below meth c (MQ below (va_Qi post (fun u => cB D ct A (MW ct ad u)) A) args s 0 0 A) A D 4 (MW ct ad v.2.2) 0 0 37 [(0, .ref (ad 0)), (2, .int v.1), (3, .int v.2.1)] []) (fun L hL v hb => kX3_bestMove_37_b K hr (fun x2 x3 st => L (x2, x3, st)) (fun x2 x3 st hx => hL (x2, x3, st) hx) v.1 v.2.1 v.2.2 hb) h
theorem kX3_bestMove_30 {p : Program} {l : Launch} {e : Env} {s : State} {m : MethodId} {args : Array Value} {below : List Frame} {meth : Method} {c : Code} {A : Nat → Prop} {D : va_G} {ct : Nat → ClassId} {ad : Nat → Nat} {post : Int32 → MS → Prop} (K : CX p s m args meth c cX3_bestMove 4 RX3 A D ct gT) (hr : meth.sig.returnType = (some .int))   (s0 : Int32) (st : MS) (h : wX3_bestMove_30 post  s0 st) : jJ p l e { frames := 7, cells := 0, slots := 0, locals := 163 } s m args below meth c (MQ below (va_Qi post (fun u => cB D ct A (MW ct ad u)) A) args s 0 0 A) A D 4 (MW ct ad st) 0 0 30 [(0, .ref (ad 0))] [.int s0] := by
  unfold wX3_bestMove_30 at h
  refine j_istore_n K [(2, .int s0), (0, .ref (ad 0))] dX3_bestMove_30 rfl (by decide) rfl ?_
  refine j_aload_n K 1 dX3_bestMove_31 rfl rfl ?_
  obtain ⟨hp, h⟩ := h
  refine j_callVv K (As := []) (rest := []) (ctX3_lookNow (l := l) (D := D) (ct := ct) (ad := ad)  st hp) gwX3_lookNow gdX3_lookNow ⟨Nat.le_of_ble_eq_true rfl, Nat.le_of_ble_eq_true rfl⟩ 0 rfl rfl rfl rfl rfl (Nat.le_of_ble_eq_true rfl) dX3_bestMove_32 ⟨Nat.le_of_ble_eq_true rfl, Nat.le_of_ble_eq_true rfl⟩ (fun st_1 hq => ?_)
  replace h := h st_1 hq
  refine j_iconst K (0 : Int32) dX3_bestMove_35 (by decide) ?_
  refine j_istore_n K [(3, .int (0 : Int32)), (2, .int s0), (0, .ref (ad 0))] dX3_bestMove_36 rfl (by decide) rfl ?_
  refine j_lv K [2, 1, 0] (lv' := [(0, .ref (ad 0)), (2, .int s0), (3, .int (0 : Int32))]) rfl ?_
  exact kX3_bestMove_37 K hr  s0 (0 : Int32) st_1 h
theorem kX3_bestMove_26 {p : Program} {l : Launch} {e : Env} {s : State} {m : MethodId} {args : Array Value} {below : List Frame} {meth : Method} {c : Code} {A : Nat → Prop} {D : va_G} {ct : Nat → ClassId} {ad : Nat → Nat} {post : Int32 → MS → Prop} (K : CX p s m args meth c cX3_bestMove 4 RX3 A D ct gT) (hr : meth.sig.returnType = (some .int))   (x1 : Int32) (st : MS) (h : wX3_bestMove_26 post  x1 st) : jJ p l e { frames := 7, cells := 0, slots := 0, locals := 163 } s m args below meth c (MQ below (va_Qi post (fun u => cB D ct A (MW ct ad u)) A) args s 0 0 A) A D 4 (MW ct ad st) 0 0 26 [(0, .ref (ad 0)), (1, .int x1)] [] := by
  unfold wX3_bestMove_26 at h
  refine j_bipush K (-2 : Int32) dX3_bestMove_26 (by decide) ?_
  refine j_iload_n K 1 dX3_bestMove_28 rfl rfl ?_
  refine j_isub K dX3_bestMove_29 ?_
  refine j_lv K [0] (lv' := [(0, .ref (ad 0))]) rfl ?_
  exact kX3_bestMove_30 K hr  ((-2 : Int32) - x1) st h
theorem kX3_bestMove_21 {p : Program} {l : Launch} {e : Env} {s : State} {m : MethodId} {args : Array Value} {below : List Frame} {meth : Method} {c : Code} {A : Nat → Prop} {D : va_G} {ct : Nat → ClassId} {ad : Nat → Nat} {post : Int32 → MS → Prop} (K : CX p s m args meth c cX3_bestMove 4 RX3 A D ct gT) (hr : meth.sig.returnType = (some .int))   (x1 : Int32) (st : MS) (h : wX3_bestMove_21 post  x1 st) : jJ p l e { frames := 7, cells := 0, slots := 0, locals := 163 } s m args below meth c (MQ below (va_Qi post (fun u => cB D ct A (MW ct ad u)) A) args s 0 0 A) A D 4 (MW ct ad st) 0 0 21 [(0, .ref (ad 0)), (1, .int x1)] [] := by
  unfold wX3_bestMove_21 at h
  refine j_iload_n K 1 dX3_bestMove_21 rfl rfl ?_
  refine j_ineg K dX3_bestMove_22 ?_
  refine j_goto K 30 dX3_bestMove_23 (by decide) ?_
  refine j_lv K [0] (lv' := [(0, .ref (ad 0))]) rfl ?_
  exact kX3_bestMove_30 K hr  (-x1) st h
theorem kX3_bestMove_17 {p : Program} {l : Launch} {e : Env} {s : State} {m : MethodId} {args : Array Value} {below : List Frame} {meth : Method} {c : Code} {A : Nat → Prop} {D : va_G} {ct : Nat → ClassId} {ad : Nat → Nat} {post : Int32 → MS → Prop} (K : CX p s m args meth c cX3_bestMove 4 RX3 A D ct gT) (hr : meth.sig.returnType = (some .int))   (x1 : Int32) (st : MS) (h : wX3_bestMove_17 post  x1 st) : jJ p l e { frames := 7, cells := 0, slots := 0, locals := 163 } s m args below meth c (MQ below (va_Qi post (fun u => cB D ct A (MW ct ad u)) A) args s 0 0 A) A D 4 (MW ct ad st) 0 0 17 [(0, .ref (ad 0)), (1, .int x1)] [] := by
  unfold wX3_bestMove_17 at h
  refine j_iload_n K 1 dX3_bestMove_17 rfl rfl ?_
  refine j_if_le K 26 dX3_bestMove_18 (by decide) (fun hc => ?_) (fun hc => ?_)
  · exact kX3_bestMove_26 K hr  x1 st (h.1 hc)
  · exact kX3_bestMove_21 K hr  x1 st (h.2 hc)
theorem kX3_bestMove_13 {p : Program} {l : Launch} {e : Env} {s : State} {m : MethodId} {args : Array Value} {below : List Frame} {meth : Method} {c : Code} {A : Nat → Prop} {D : va_G} {ct : Nat → ClassId} {ad : Nat → Nat} {post : Int32 → MS → Prop} (K : CX p s m args meth c cX3_bestMove 4 RX3 A D ct gT) (hr : meth.sig.returnType = (some .int))    (st : MS) (h : wX3_bestMove_13 post  st) : jJ p l e { frames := 7, cells := 0, slots := 0, locals := 163 } s m args below meth c (MQ below (va_Qi post (fun u => cB D ct A (MW ct ad u)) A) args s 0 0 A) A D 4 (MW ct ad st) 0 0 13 [(0, .ref (ad 0))] [] := by
  unfold wX3_bestMove_13 at h
  refine j_iconst K (0 : Int32) dX3_bestMove_13 (by decide) ?_
  refine j_goto K 30 dX3_bestMove_14 (by decide) ?_
  exact kX3_bestMove_30 K hr  (0 : Int32) st h
theorem kX3_bestMove_0 {p : Program} {l : Launch} {e : Env} {s : State} {m : MethodId} {args : Array Value} {below : List Frame} {meth : Method} {c : Code} {A : Nat → Prop} {D : va_G} {ct : Nat → ClassId} {ad : Nat → Nat} {post : Int32 → MS → Prop} (K : CX p s m args meth c cX3_bestMove 4 RX3 A D ct gT) (hr : meth.sig.returnType = (some .int))    (st : MS) (h : wX3_bestMove_0 post  st) : jJ p l e { frames := 7, cells := 0, slots := 0, locals := 163 } s m args below meth c (MQ below (va_Qi post (fun u => cB D ct A (MW ct ad u)) A) args s 0 0 A) A D 4 (MW ct ad st) 0 0 0 [(0, .ref (ad 0))] [] := by
  unfold wX3_bestMove_0 at h
  refine j_aload_n K 0 dX3_bestMove_0 rfl rfl ?_
  refine j_aload_n K 0 dX3_bestMove_1 rfl rfl ?_
  obtain ⟨hp, h⟩ := h
  refine j_callVi K (As := []) (rest := [.ref (ad 0)]) (ctX3_now (l := l) (D := D) (ct := ct) (ad := ad)  st hp) gwX3_now gdX3_now ⟨Nat.le_of_ble_eq_true rfl, Nat.le_of_ble_eq_true rfl⟩ 0 rfl rfl rfl rfl rfl (Nat.le_of_ble_eq_true rfl) dX3_bestMove_2 ⟨Nat.le_of_ble_eq_true rfl, Nat.le_of_ble_eq_true rfl⟩ (fun r_1 st_2 hq => ?_)
  obtain ⟨hq, rfl⟩ := hq
  replace h := h r_1 hq
  obtain ⟨hp, h⟩ := h
  refine j_callVi K (As := [.int r_1]) (rest := []) (ctX3_worthAt (l := l) (D := D) (ct := ct) (ad := ad) r_1 st hp) gwX3_worthAt gdX3_worthAt ⟨Nat.le_of_ble_eq_true rfl, Nat.le_of_ble_eq_true rfl⟩ 0 rfl rfl rfl rfl rfl (Nat.le_of_ble_eq_true rfl) dX3_bestMove_5 ⟨Nat.le_of_ble_eq_true rfl, Nat.le_of_ble_eq_true rfl⟩ (fun r_3 st_4 hq => ?_)
  replace h := h r_3 st_4 hq
  refine j_istore_n K [(1, .int r_3), (0, .ref (ad 0))] dX3_bestMove_8 rfl (by decide) rfl ?_
  refine j_iload_n K 0 dX3_bestMove_9 rfl rfl ?_
  refine j_if_ne K 17 dX3_bestMove_10 (by decide) (fun hc => ?_) (fun hc => ?_)
  · refine j_lv K [1, 0] (lv' := [(0, .ref (ad 0)), (1, .int r_3)]) rfl ?_
    exact kX3_bestMove_17 K hr  r_3 st_4 (h.1 hc)
  · refine j_lv K [1] (lv' := [(0, .ref (ad 0))]) rfl ?_
    exact kX3_bestMove_13 K hr  st_4 (h.2 hc)
theorem ctX3_bestMove {l : Launch} {D : va_G} {ct : Nat → ClassId} {ad : Nat → Nat}  (st : MS) (hp : pX3_bestMove  st) : ∀ sz, Met l yX3_bestMove (ws_ yX3_bestMove cX3_bestMove 4 (some .int)) { frames := 7, cells := 0, slots := 0, locals := 163 } (va_Pc [.ref (ad 0)] (cPre gT D ct (MW ct ad st) sz)) (va_Qi (qX3_bestMove  st) (fun u => cB D ct (va_A (MW ct ad st) sz) (MW ct ad u)) (va_A (MW ct ad st) sz)) 0 0 (va_A (MW ct ad st) sz) := fun sz =>
  j_met (Qc := fun A => va_Qi (qX3_bestMove  st) (fun u => cB D ct A (MW ct ad u)) A) (by decide) gT_ok (Nat.le_of_ble_eq_true rfl) (fun p e s m args below meth c A K hr _ _ => kX3_bestMove_0 K hr  st (vcX3_bestMove  st hp))
-- X3_plays
theorem gwX3_plays : GoodIn lw_all (wsV RX3 153 RX3 yX3_plays (ws_ yX3_plays cX3_plays 3 (some .int))) := lw_V q1158 q1160 qs57 q84 q1161
theorem gdX3_plays : yX3_plays.cls = RX3 ∧ yX3_plays.cls ≠ "java/lang/invoke/MethodHandle" ∧ yX3_plays.cls ≠ "java/lang/invoke/VarHandle" ∧ (parseMethodDescriptor yX3_plays.desc).map (fun d => d.parameters.length) = some 1 := by decide +kernel
theorem kX3_plays_52 {p : Program} {l : Launch} {e : Env} {s : State} {m : MethodId} {args : Array Value} {below : List Frame} {meth : Method} {c : Code} {A : Nat → Prop} {D : va_G} {ct : Nat → ClassId} {ad : Nat → Nat} {post : Int32 → MS → Prop} (K : CX p s m args meth c cX3_plays 3 RX3 A D ct gT) (hr : meth.sig.returnType = (some .int))   (x2 : Int32) (st : MS) (h : wX3_plays_52 post  x2 st) : jJ p l e { frames := 8, cells := 0, slots := 0, locals := 186 } s m args below meth c (MQ below (va_Qi post (fun u => cB D ct A (MW ct ad u)) A) args s 0 0 A) A D 3 (MW ct ad st) 0 0 52 [(2, .int x2)] [] := by
  unfold wX3_plays_52 at h
  refine j_iload_n K 0 dX3_plays_52 rfl rfl ?_
  exact j_iret st K hr rfl h (Nat.le_of_ble_eq_true rfl) (Nat.le_of_ble_eq_true rfl) dX3_plays_53
theorem kX3_plays_38 {p : Program} {l : Launch} {e : Env} {s : State} {m : MethodId} {args : Array Value} {below : List Frame} {meth : Method} {c : Code} {A : Nat → Prop} {D : va_G} {ct : Nat → ClassId} {ad : Nat → Nat} {post : Int32 → MS → Prop} (K : CX p s m args meth c cX3_plays 3 RX3 A D ct gT) (hr : meth.sig.returnType = (some .int)) (L26 : Int32 → Int32 → MS → Prop) (hL26 : ∀ (x1 : Int32) (x2 : Int32) (st : MS), L26 x1 x2 st → jJ p l e { frames := 8, cells := 0, slots := 0, locals := 186 } s m args below meth c (MQ below (va_Qi post (fun u => cB D ct A (MW ct ad u)) A) args s 0 0 A) A D 3 (MW ct ad st) 0 0 26 [(0, .ref (ad 0)), (1, .int x1), (2, .int x2)] []) (x1 : Int32) (x2 : Int32) (st : MS) (h : wX3_plays_38 post L26 x1 x2 st) : jJ p l e { frames := 8, cells := 0, slots := 0, locals := 186 } s m args below meth c (MQ below (va_Qi post (fun u => cB D ct A (MW ct ad u)) A) args s 0 0 A) A D 3 (MW ct ad st) 0 0 38 [(0, .ref (ad 0)), (1, .int x1), (2, .int x2)] [] := by
  unfold wX3_plays_38 at h
  refine j_aload_n K 0 dX3_plays_38 rfl rfl ?_
  refine j_aload_n K 0 dX3_plays_39 rfl rfl ?_
  obtain ⟨hp, h⟩ := h
  refine j_callVi K (As := []) (rest := [.ref (ad 0)]) (ctX3_bestMove (l := l) (D := D) (ct := ct) (ad := ad)  st hp) gwX3_bestMove gdX3_bestMove ⟨Nat.le_of_ble_eq_true rfl, Nat.le_of_ble_eq_true rfl⟩ 0 rfl rfl rfl rfl rfl (Nat.le_of_ble_eq_true rfl) dX3_plays_40 ⟨Nat.le_of_ble_eq_true rfl, Nat.le_of_ble_eq_true rfl⟩ (fun r_1 st_2 hq => ?_)
  replace h := h r_1 st_2 hq
  obtain ⟨hp, h⟩ := h
  refine j_callVv K (As := [.int r_1]) (rest := []) (ctX3_goes (l := l) (D := D) (ct := ct) (ad := ad) r_1 st_2 hp) gwX3_goes gdX3_goes ⟨Nat.le_of_ble_eq_true rfl, Nat.le_of_ble_eq_true rfl⟩ 0 rfl rfl rfl rfl rfl (Nat.le_of_ble_eq_true rfl) dX3_plays_43 ⟨Nat.le_of_ble_eq_true rfl, Nat.le_of_ble_eq_true rfl⟩ (fun st_3 hq => ?_)
  replace h := h st_3 hq
  refine j_iinc K 2 (x2 + (1 : Int32)) [(2, .int (x2 + (1 : Int32))), (0, .ref (ad 0)), (1, .int x1)] dX3_plays_46 rfl rfl (by decide) rfl ?_
  refine j_goto K 26 dX3_plays_49 (by decide) ?_
  refine j_lv K [1, 2, 0] (lv' := [(0, .ref (ad 0)), (1, .int x1), (2, .int (x2 + (1 : Int32)))]) rfl ?_
  exact hL26 x1 (x2 + (1 : Int32)) st_3 h
theorem kX3_plays_31 {p : Program} {l : Launch} {e : Env} {s : State} {m : MethodId} {args : Array Value} {below : List Frame} {meth : Method} {c : Code} {A : Nat → Prop} {D : va_G} {ct : Nat → ClassId} {ad : Nat → Nat} {post : Int32 → MS → Prop} (K : CX p s m args meth c cX3_plays 3 RX3 A D ct gT) (hr : meth.sig.returnType = (some .int)) (L26 : Int32 → Int32 → MS → Prop) (hL26 : ∀ (x1 : Int32) (x2 : Int32) (st : MS), L26 x1 x2 st → jJ p l e { frames := 8, cells := 0, slots := 0, locals := 186 } s m args below meth c (MQ below (va_Qi post (fun u => cB D ct A (MW ct ad u)) A) args s 0 0 A) A D 3 (MW ct ad st) 0 0 26 [(0, .ref (ad 0)), (1, .int x1), (2, .int x2)] []) (x1 : Int32) (x2 : Int32) (st : MS) (h : wX3_plays_31 post L26 x1 x2 st) : jJ p l e { frames := 8, cells := 0, slots := 0, locals := 186 } s m args below meth c (MQ below (va_Qi post (fun u => cB D ct A (MW ct ad u)) A) args s 0 0 A) A D 3 (MW ct ad st) 0 0 31 [(0, .ref (ad 0)), (1, .int x1), (2, .int x2)] [] := by
  unfold wX3_plays_31 at h
  refine j_aload_n K 0 dX3_plays_31 rfl rfl ?_
  obtain ⟨hp, h⟩ := h
  refine j_callVi K (As := []) (rest := []) (ctX3_isOver (l := l) (D := D) (ct := ct) (ad := ad)  st hp) gwX3_isOver gdX3_isOver ⟨Nat.le_of_ble_eq_true rfl, Nat.le_of_ble_eq_true rfl⟩ 0 rfl rfl rfl rfl rfl (Nat.le_of_ble_eq_true rfl) dX3_plays_32 ⟨Nat.le_of_ble_eq_true rfl, Nat.le_of_ble_eq_true rfl⟩ (fun r_1 st_2 hq => ?_)
  replace h := h r_1 st_2 hq
  refine j_if_ne K 52 dX3_plays_35 (by decide) (fun hc => ?_) (fun hc => ?_)
  · refine j_lv K [2] (lv' := [(2, .int x2)]) rfl ?_
    exact kX3_plays_52 K hr  x2 st_2 (h.1 hc)
  · exact kX3_plays_38 K hr L26 hL26 x1 x2 st_2 (h.2 hc)
theorem kX3_plays_26_b {p : Program} {l : Launch} {e : Env} {s : State} {m : MethodId} {args : Array Value} {below : List Frame} {meth : Method} {c : Code} {A : Nat → Prop} {D : va_G} {ct : Nat → ClassId} {ad : Nat → Nat} {post : Int32 → MS → Prop} (K : CX p s m args meth c cX3_plays 3 RX3 A D ct gT) (hr : meth.sig.returnType = (some .int)) (L26 : Int32 → Int32 → MS → Prop) (hL26 : ∀ (x1 : Int32) (x2 : Int32) (st : MS), L26 x1 x2 st → jJ p l e { frames := 8, cells := 0, slots := 0, locals := 186 } s m args below meth c (MQ below (va_Qi post (fun u => cB D ct A (MW ct ad u)) A) args s 0 0 A) A D 3 (MW ct ad st) 0 0 26 [(0, .ref (ad 0)), (1, .int x1), (2, .int x2)] []) (x1 : Int32) (x2 : Int32) (st : MS) (h : wX3_plays_26_b post L26 x1 x2 st) : jJ p l e { frames := 8, cells := 0, slots := 0, locals := 186 } s m args below meth c (MQ below (va_Qi post (fun u => cB D ct A (MW ct ad u)) A) args s 0 0 A) A D 3 (MW ct ad st) 0 0 26 [(0, .ref (ad 0)), (1, .int x1), (2, .int x2)] [] := by
  unfold wX3_plays_26_b at h
  refine j_iload_n K 2 dX3_plays_26 rfl rfl ?_
  refine j_iload_n K 1 dX3_plays_27 rfl rfl ?_
  refine j_icmp_ge K 52 dX3_plays_28 (by decide) (fun hc => ?_) (fun hc => ?_)
  · refine j_lv K [2] (lv' := [(2, .int x2)]) rfl ?_
    exact kX3_plays_52 K hr  x2 st (h.1 hc)
  · exact kX3_plays_31 K hr L26 hL26 x1 x2 st (h.2 hc)
theorem kX3_plays_26 {p : Program} {l : Launch} {e : Env} {s : State} {m : MethodId} {args : Array Value} {below : List Frame} {meth : Method} {c : Code} {A : Nat → Prop} {D : va_G} {ct : Nat → ClassId} {ad : Nat → Nat} {post : Int32 → MS → Prop} (K : CX p s m args meth c cX3_plays 3 RX3 A D ct gT) (hr : meth.sig.returnType = (some .int))   (x1 : Int32) (x2 : Int32) (st : MS) (h : wX3_plays_26 post  x1 x2 st) : jJ p l e { frames := 8, cells := 0, slots := 0, locals := 186 } s m args below meth c (MQ below (va_Qi post (fun u => cB D ct A (MW ct ad u)) A) args s 0 0 A) A D 3 (MW ct ad st) 0 0 26 [(0, .ref (ad 0)), (1, .int x1), (2, .int x2)] [] :=
  wloop_sound (V := Int32 × Int32 × MS) (Wk := fun v => jJ p l e { frames := 8, cells := 0, slots := 0, locals := 186 } s m args below meth c (MQ below (va_Qi post (fun u => cB D ct A (MW ct ad u)) A) args s 0 0 A) A D 3 (MW ct ad v.2.2) 0 0 26 [(0, .ref (ad 0)), (1, .int v.1), (2, .int v.2.1)] []) (fun L hL v hb => kX3_plays_26_b K hr (fun x1 x2 st => L (x1, x2, st)) (fun x1 x2 st hx => hL (x1, x2, st) hx) v.1 v.2.1 v.2.2 hb) h
theorem kX3_plays_24 {p : Program} {l : Launch} {e : Env} {s : State} {m : MethodId} {args : Array Value} {below : List Frame} {meth : Method} {c : Code} {A : Nat → Prop} {D : va_G} {ct : Nat → ClassId} {ad : Nat → Nat} {post : Int32 → MS → Prop} (K : CX p s m args meth c cX3_plays 3 RX3 A D ct gT) (hr : meth.sig.returnType = (some .int))   (x1 : Int32) (st : MS) (h : wX3_plays_24 post  x1 st) : jJ p l e { frames := 8, cells := 0, slots := 0, locals := 186 } s m args below meth c (MQ below (va_Qi post (fun u => cB D ct A (MW ct ad u)) A) args s 0 0 A) A D 3 (MW ct ad st) 0 0 24 [(0, .ref (ad 0)), (1, .int x1)] [] := by
  unfold wX3_plays_24 at h
  refine j_iconst K (0 : Int32) dX3_plays_24 (by decide) ?_
  refine j_istore_n K [(2, .int (0 : Int32)), (0, .ref (ad 0)), (1, .int x1)] dX3_plays_25 rfl (by decide) rfl ?_
  refine j_lv K [1, 2, 0] (lv' := [(0, .ref (ad 0)), (1, .int x1), (2, .int (0 : Int32))]) rfl ?_
  exact kX3_plays_26 K hr  x1 (0 : Int32) st h
theorem kX3_plays_21 {p : Program} {l : Launch} {e : Env} {s : State} {m : MethodId} {args : Array Value} {below : List Frame} {meth : Method} {c : Code} {A : Nat → Prop} {D : va_G} {ct : Nat → ClassId} {ad : Nat → Nat} {post : Int32 → MS → Prop} (K : CX p s m args meth c cX3_plays 3 RX3 A D ct gT) (hr : meth.sig.returnType = (some .int))    (st : MS) (h : wX3_plays_21 post  st) : jJ p l e { frames := 8, cells := 0, slots := 0, locals := 186 } s m args below meth c (MQ below (va_Qi post (fun u => cB D ct A (MW ct ad u)) A) args s 0 0 A) A D 3 (MW ct ad st) 0 0 21 [] [] := by
  unfold wX3_plays_21 at h
  refine j_bipush K (-5 : Int32) dX3_plays_21 (by decide) ?_
  exact j_iret st K hr rfl h (Nat.le_of_ble_eq_true rfl) (Nat.le_of_ble_eq_true rfl) dX3_plays_23
theorem kX3_plays_14 {p : Program} {l : Launch} {e : Env} {s : State} {m : MethodId} {args : Array Value} {below : List Frame} {meth : Method} {c : Code} {A : Nat → Prop} {D : va_G} {ct : Nat → ClassId} {ad : Nat → Nat} {post : Int32 → MS → Prop} (K : CX p s m args meth c cX3_plays 3 RX3 A D ct gT) (hr : meth.sig.returnType = (some .int))   (x1 : Int32) (st : MS) (h : wX3_plays_14 post  x1 st) : jJ p l e { frames := 8, cells := 0, slots := 0, locals := 186 } s m args below meth c (MQ below (va_Qi post (fun u => cB D ct A (MW ct ad u)) A) args s 0 0 A) A D 3 (MW ct ad st) 0 0 14 [(0, .ref (ad 0)), (1, .int x1)] [] := by
  unfold wX3_plays_14 at h
  refine j_aload_n K 0 dX3_plays_14 rfl rfl ?_
  obtain ⟨hp, h⟩ := h
  refine j_callVi K (As := []) (rest := []) (ctX3_isOver (l := l) (D := D) (ct := ct) (ad := ad)  st hp) gwX3_isOver gdX3_isOver ⟨Nat.le_of_ble_eq_true rfl, Nat.le_of_ble_eq_true rfl⟩ 0 rfl rfl rfl rfl rfl (Nat.le_of_ble_eq_true rfl) dX3_plays_15 ⟨Nat.le_of_ble_eq_true rfl, Nat.le_of_ble_eq_true rfl⟩ (fun r_1 st_2 hq => ?_)
  replace h := h r_1 st_2 hq
  refine j_if_eq K 24 dX3_plays_18 (by decide) (fun hc => ?_) (fun hc => ?_)
  · exact kX3_plays_24 K hr  x1 st_2 (h.1 hc)
  · refine j_lv K [] (lv' := []) rfl ?_
    exact kX3_plays_21 K hr  st_2 (h.2 hc)
theorem kX3_plays_11 {p : Program} {l : Launch} {e : Env} {s : State} {m : MethodId} {args : Array Value} {below : List Frame} {meth : Method} {c : Code} {A : Nat → Prop} {D : va_G} {ct : Nat → ClassId} {ad : Nat → Nat} {post : Int32 → MS → Prop} (K : CX p s m args meth c cX3_plays 3 RX3 A D ct gT) (hr : meth.sig.returnType = (some .int))    (st : MS) (h : wX3_plays_11 post  st) : jJ p l e { frames := 8, cells := 0, slots := 0, locals := 186 } s m args below meth c (MQ below (va_Qi post (fun u => cB D ct A (MW ct ad u)) A) args s 0 0 A) A D 3 (MW ct ad st) 0 0 11 [] [] := by
  unfold wX3_plays_11 at h
  refine j_bipush K (-2 : Int32) dX3_plays_11 (by decide) ?_
  exact j_iret st K hr rfl h (Nat.le_of_ble_eq_true rfl) (Nat.le_of_ble_eq_true rfl) dX3_plays_13
theorem kX3_plays_0 {p : Program} {l : Launch} {e : Env} {s : State} {m : MethodId} {args : Array Value} {below : List Frame} {meth : Method} {c : Code} {A : Nat → Prop} {D : va_G} {ct : Nat → ClassId} {ad : Nat → Nat} {post : Int32 → MS → Prop} (K : CX p s m args meth c cX3_plays 3 RX3 A D ct gT) (hr : meth.sig.returnType = (some .int))   (x1 : Int32) (st : MS) (h : wX3_plays_0 post  x1 st) : jJ p l e { frames := 8, cells := 0, slots := 0, locals := 186 } s m args below meth c (MQ below (va_Qi post (fun u => cB D ct A (MW ct ad u)) A) args s 0 0 A) A D 3 (MW ct ad st) 0 0 0 [(0, .ref (ad 0)), (1, .int x1)] [] := by
  unfold wX3_plays_0 at h
  refine j_iload_n K 1 dX3_plays_0 rfl rfl ?_
  refine j_i2l K dX3_plays_1 ?_
  refine j_iconst K (1 : Int32) dX3_plays_2 (by decide) ?_
  refine j_bipush K (60 : Int32) dX3_plays_3 (by decide) ?_
  refine j_callSi K (As := [.long (x1.toInt64), .int (1 : Int32), .int (60 : Int32)]) (rest := []) (ctX3_in (l := l) (D := D) (ct := ct) (G := gT) (ws := MW ct ad st) gT_ok (x1.toInt64) (1 : Int32) (60 : Int32)) gwX3_in gdX3_in ⟨Nat.le_of_ble_eq_true rfl, Nat.le_of_ble_eq_true rfl⟩ rfl rfl (Nat.le_of_ble_eq_true rfl) dX3_plays_5 ⟨Nat.le_of_ble_eq_true rfl, Nat.le_of_ble_eq_true rfl⟩ (fun r_1 _ hq => ?_)
  replace h := h r_1 hq
  refine j_if_ne K 14 dX3_plays_8 (by decide) (fun hc => ?_) (fun hc => ?_)
  · exact kX3_plays_14 K hr  x1 st (h.1 hc)
  · refine j_lv K [] (lv' := []) rfl ?_
    exact kX3_plays_11 K hr  st (h.2 hc)
theorem ctX3_plays {l : Launch} {D : va_G} {ct : Nat → ClassId} {ad : Nat → Nat} (x1 : Int32) (st : MS) (hp : pX3_plays x1 st) : ∀ sz, Met l yX3_plays (ws_ yX3_plays cX3_plays 3 (some .int)) { frames := 8, cells := 0, slots := 0, locals := 186 } (va_Pc [.ref (ad 0), .int x1] (cPre gT D ct (MW ct ad st) sz)) (va_Qi (qX3_plays x1 st) (fun u => cB D ct (va_A (MW ct ad st) sz) (MW ct ad u)) (va_A (MW ct ad st) sz)) 0 0 (va_A (MW ct ad st) sz) := fun sz =>
  j_met (Qc := fun A => va_Qi (qX3_plays x1 st) (fun u => cB D ct A (MW ct ad u)) A) (by decide) gT_ok (Nat.le_of_ble_eq_true rfl) (fun p e s m args below meth c A K hr _ _ => kX3_plays_0 K hr x1 st (vcX3_plays x1 st hp))
-- X3_isDrawn
theorem gwX3_isDrawn : GoodIn lw_all (wsV RX3 156 RX3 yX3_isDrawn (ws_ yX3_isDrawn cX3_isDrawn 1 (some .boolean))) := lw_V q1195 q1197 qs64 q84 q1198
theorem gdX3_isDrawn : yX3_isDrawn.cls = RX3 ∧ yX3_isDrawn.cls ≠ "java/lang/invoke/MethodHandle" ∧ yX3_isDrawn.cls ≠ "java/lang/invoke/VarHandle" ∧ (parseMethodDescriptor yX3_isDrawn.desc).map (fun d => d.parameters.length) = some 0 := by decide +kernel
theorem kX3_isDrawn_20 {p : Program} {l : Launch} {e : Env} {s : State} {m : MethodId} {args : Array Value} {below : List Frame} {meth : Method} {c : Code} {A : Nat → Prop} {D : va_G} {ct : Nat → ClassId} {ad : Nat → Nat} {post : Int32 → MS → Prop} (K : CX p s m args meth c cX3_isDrawn 1 RX3 A D ct gT) (hr : meth.sig.returnType = (some .boolean))   (s0 : Int32) (st : MS) (h : wX3_isDrawn_20 post  s0 st) : jJ p l e { frames := 4, cells := 0, slots := 0, locals := 89 } s m args below meth c (MQ below (va_Qi post (fun u => cB D ct A (MW ct ad u)) A) args s 0 0 A) A D 1 (MW ct ad st) 0 0 20 [] [.int s0] := by
  unfold wX3_isDrawn_20 at h
  exact j_zret st K hr rfl h.2 h.1 (Nat.le_of_ble_eq_true rfl) (Nat.le_of_ble_eq_true rfl) dX3_isDrawn_20
theorem kX3_isDrawn_19 {p : Program} {l : Launch} {e : Env} {s : State} {m : MethodId} {args : Array Value} {below : List Frame} {meth : Method} {c : Code} {A : Nat → Prop} {D : va_G} {ct : Nat → ClassId} {ad : Nat → Nat} {post : Int32 → MS → Prop} (K : CX p s m args meth c cX3_isDrawn 1 RX3 A D ct gT) (hr : meth.sig.returnType = (some .boolean))    (st : MS) (h : wX3_isDrawn_19 post  st) : jJ p l e { frames := 4, cells := 0, slots := 0, locals := 89 } s m args below meth c (MQ below (va_Qi post (fun u => cB D ct A (MW ct ad u)) A) args s 0 0 A) A D 1 (MW ct ad st) 0 0 19 [] [] := by
  unfold wX3_isDrawn_19 at h
  refine j_iconst K (0 : Int32) dX3_isDrawn_19 (by decide) ?_
  exact kX3_isDrawn_20 K hr  (0 : Int32) st h
theorem kX3_isDrawn_15 {p : Program} {l : Launch} {e : Env} {s : State} {m : MethodId} {args : Array Value} {below : List Frame} {meth : Method} {c : Code} {A : Nat → Prop} {D : va_G} {ct : Nat → ClassId} {ad : Nat → Nat} {post : Int32 → MS → Prop} (K : CX p s m args meth c cX3_isDrawn 1 RX3 A D ct gT) (hr : meth.sig.returnType = (some .boolean))    (st : MS) (h : wX3_isDrawn_15 post  st) : jJ p l e { frames := 4, cells := 0, slots := 0, locals := 89 } s m args below meth c (MQ below (va_Qi post (fun u => cB D ct A (MW ct ad u)) A) args s 0 0 A) A D 1 (MW ct ad st) 0 0 15 [] [] := by
  unfold wX3_isDrawn_15 at h
  refine j_iconst K (1 : Int32) dX3_isDrawn_15 (by decide) ?_
  refine j_goto K 20 dX3_isDrawn_16 (by decide) ?_
  exact kX3_isDrawn_20 K hr  (1 : Int32) st h
theorem kX3_isDrawn_8 {p : Program} {l : Launch} {e : Env} {s : State} {m : MethodId} {args : Array Value} {below : List Frame} {meth : Method} {c : Code} {A : Nat → Prop} {D : va_G} {ct : Nat → ClassId} {ad : Nat → Nat} {post : Int32 → MS → Prop} (K : CX p s m args meth c cX3_isDrawn 1 RX3 A D ct gT) (hr : meth.sig.returnType = (some .boolean))    (st : MS) (h : wX3_isDrawn_8 post  st) : jJ p l e { frames := 4, cells := 0, slots := 0, locals := 89 } s m args below meth c (MQ below (va_Qi post (fun u => cB D ct A (MW ct ad u)) A) args s 0 0 A) A D 1 (MW ct ad st) 0 0 8 [(0, .ref (ad 0))] [] := by
  unfold wX3_isDrawn_8 at h
  refine j_aload_n K 0 dX3_isDrawn_8 rfl rfl ?_
  obtain ⟨hp, h⟩ := h
  refine j_callVi K (As := []) (rest := []) (ctX3_hasLost (l := l) (D := D) (ct := ct) (ad := ad)  st hp) gwX3_hasLost gdX3_hasLost ⟨Nat.le_of_ble_eq_true rfl, Nat.le_of_ble_eq_true rfl⟩ 0 rfl rfl rfl rfl rfl (Nat.le_of_ble_eq_true rfl) dX3_isDrawn_9 ⟨Nat.le_of_ble_eq_true rfl, Nat.le_of_ble_eq_true rfl⟩ (fun r_1 st_2 hq => ?_)
  replace h := h r_1 st_2 hq
  refine j_if_ne K 19 dX3_isDrawn_12 (by decide) (fun hc => ?_) (fun hc => ?_)
  · refine j_lv K [] (lv' := []) rfl ?_
    exact kX3_isDrawn_19 K hr  st_2 (h.1 hc)
  · refine j_lv K [] (lv' := []) rfl ?_
    exact kX3_isDrawn_15 K hr  st_2 (h.2 hc)
theorem kX3_isDrawn_0 {p : Program} {l : Launch} {e : Env} {s : State} {m : MethodId} {args : Array Value} {below : List Frame} {meth : Method} {c : Code} {A : Nat → Prop} {D : va_G} {ct : Nat → ClassId} {ad : Nat → Nat} {post : Int32 → MS → Prop} (K : CX p s m args meth c cX3_isDrawn 1 RX3 A D ct gT) (hr : meth.sig.returnType = (some .boolean))    (st : MS) (h : wX3_isDrawn_0 post  st) : jJ p l e { frames := 4, cells := 0, slots := 0, locals := 89 } s m args below meth c (MQ below (va_Qi post (fun u => cB D ct A (MW ct ad u)) A) args s 0 0 A) A D 1 (MW ct ad st) 0 0 0 [(0, .ref (ad 0))] [] := by
  unfold wX3_isDrawn_0 at h
  refine j_aload_n K 0 dX3_isDrawn_0 rfl rfl ?_
  obtain ⟨hp, h⟩ := h
  refine j_callVi K (As := []) (rest := []) (ctX3_often (l := l) (D := D) (ct := ct) (ad := ad)  st hp) gwX3_often gdX3_often ⟨Nat.le_of_ble_eq_true rfl, Nat.le_of_ble_eq_true rfl⟩ 0 rfl rfl rfl rfl rfl (Nat.le_of_ble_eq_true rfl) dX3_isDrawn_1 ⟨Nat.le_of_ble_eq_true rfl, Nat.le_of_ble_eq_true rfl⟩ (fun r_1 st_2 hq => ?_)
  obtain ⟨hq, rfl⟩ := hq
  replace h := h r_1 hq
  refine j_iconst K (3 : Int32) dX3_isDrawn_4 (by decide) ?_
  refine j_icmp_lt K 19 dX3_isDrawn_5 (by decide) (fun hc => ?_) (fun hc => ?_)
  · refine j_lv K [] (lv' := []) rfl ?_
    exact kX3_isDrawn_19 K hr  st (h.1 hc)
  · exact kX3_isDrawn_8 K hr  st (h.2 hc)
theorem ctX3_isDrawn {l : Launch} {D : va_G} {ct : Nat → ClassId} {ad : Nat → Nat}  (st : MS) (hp : pX3_isDrawn  st) : ∀ sz, Met l yX3_isDrawn (ws_ yX3_isDrawn cX3_isDrawn 1 (some .boolean)) { frames := 4, cells := 0, slots := 0, locals := 89 } (va_Pc [.ref (ad 0)] (cPre gT D ct (MW ct ad st) sz)) (va_Qi (qX3_isDrawn  st) (fun u => cB D ct (va_A (MW ct ad st) sz) (MW ct ad u)) (va_A (MW ct ad st) sz)) 0 0 (va_A (MW ct ad st) sz) := fun sz =>
  j_met (Qc := fun A => va_Qi (qX3_isDrawn  st) (fun u => cB D ct A (MW ct ad u)) A) (by decide) gT_ok (Nat.le_of_ble_eq_true rfl) (fun p e s m args below meth c A K hr _ _ => kX3_isDrawn_0 K hr  st (vcX3_isDrawn  st hp))
