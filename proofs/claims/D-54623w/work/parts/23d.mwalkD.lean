/-! WALKS and CONTRACTS of the reference, printed by gen_model.py -/
-- X3_undo
theorem kX3_undo_56 {p : Program} {l : Launch} {e : Env} {s : State} {m : MethodId} {args : Array Value} {below : List Frame} {meth : Method} {c : Code} {A : Nat → Prop} {D : va_G} {ct : Nat → ClassId} {ad : Nat → Nat} {post : Int32 → MS → Prop} (K : CX p s m args meth c cX3_undo 2 RX3 A D ct gT) (hr : meth.sig.returnType = (some .int))    (st : MS) (h : wX3_undo_56 post  st) : jJ p l e { frames := 0, cells := 0, slots := 0, locals := 0 } s m args below meth c (MQ below (va_Qi post (fun u => cB D ct A (MW ct ad u)) A) args s 0 0 A) A D 2 (MW ct ad st) 0 0 56 [(0, .ref (ad 0))] [] := by
  unfold wX3_undo_56 at h
  refine j_aload_n K 0 dX3_undo_56 rfl rfl ?_
  refine mg_states K dX3_undo_57 ?_
  exact j_iret st K hr rfl h (Nat.le_of_ble_eq_true rfl) (Nat.le_of_ble_eq_true rfl) dX3_undo_60
theorem kX3_undo_29 {p : Program} {l : Launch} {e : Env} {s : State} {m : MethodId} {args : Array Value} {below : List Frame} {meth : Method} {c : Code} {A : Nat → Prop} {D : va_G} {ct : Nat → ClassId} {ad : Nat → Nat} {post : Int32 → MS → Prop} (K : CX p s m args meth c cX3_undo 2 RX3 A D ct gT) (hr : meth.sig.returnType = (some .int)) (L22 : Int32 → MS → Prop) (hL22 : ∀ (x1 : Int32) (st : MS), L22 x1 st → jJ p l e { frames := 0, cells := 0, slots := 0, locals := 0 } s m args below meth c (MQ below (va_Qi post (fun u => cB D ct A (MW ct ad u)) A) args s 0 0 A) A D 2 (MW ct ad st) 0 0 22 [(0, .ref (ad 0)), (1, .int x1)] []) (x1 : Int32) (st : MS) (h : wX3_undo_29 post L22 x1 st) : jJ p l e { frames := 0, cells := 0, slots := 0, locals := 0 } s m args below meth c (MQ below (va_Qi post (fun u => cB D ct A (MW ct ad u)) A) args s 0 0 A) A D 2 (MW ct ad st) 0 0 29 [(0, .ref (ad 0)), (1, .int x1)] [] := by
  unfold wX3_undo_29 at h
  refine j_aload_n K 0 dX3_undo_29 rfl rfl ?_
  refine mg_row K dX3_undo_30 ?_
  refine j_iload_n K 1 dX3_undo_33 rfl rfl ?_
  refine j_aload_n K 0 dX3_undo_34 rfl rfl ?_
  refine mg_past K dX3_undo_35 ?_
  refine j_sipush K (7003 : Int32) dX3_undo_38 (by decide) ?_
  refine j_aload_n K 0 dX3_undo_41 rfl rfl ?_
  refine mg_states K dX3_undo_42 ?_
  refine j_imul K dX3_undo_45 ?_
  refine j_iload_n K 1 dX3_undo_46 rfl rfl ?_
  refine j_iadd K dX3_undo_47 ?_
  obtain ⟨hc, h⟩ := h
  refine ml_past K hc dX3_undo_48 ?_
  obtain ⟨hc, h⟩ := h
  refine mt_row K hc dX3_undo_49 ?_
  refine j_iinc K 1 (x1 + (1 : Int32)) [(1, .int (x1 + (1 : Int32))), (0, .ref (ad 0))] dX3_undo_50 rfl rfl (by decide) rfl ?_
  refine j_goto K 22 dX3_undo_53 (by decide) ?_
  refine j_lv K [1, 0] (lv' := [(0, .ref (ad 0)), (1, .int (x1 + (1 : Int32)))]) rfl ?_
  exact hL22 (x1 + (1 : Int32)) (mA st 0 (x1).toNatClampNeg (st.1 1 ((((7003 : Int32) * (st.2 0)) + x1)).toNatClampNeg)) h
theorem kX3_undo_22_b {p : Program} {l : Launch} {e : Env} {s : State} {m : MethodId} {args : Array Value} {below : List Frame} {meth : Method} {c : Code} {A : Nat → Prop} {D : va_G} {ct : Nat → ClassId} {ad : Nat → Nat} {post : Int32 → MS → Prop} (K : CX p s m args meth c cX3_undo 2 RX3 A D ct gT) (hr : meth.sig.returnType = (some .int)) (L22 : Int32 → MS → Prop) (hL22 : ∀ (x1 : Int32) (st : MS), L22 x1 st → jJ p l e { frames := 0, cells := 0, slots := 0, locals := 0 } s m args below meth c (MQ below (va_Qi post (fun u => cB D ct A (MW ct ad u)) A) args s 0 0 A) A D 2 (MW ct ad st) 0 0 22 [(0, .ref (ad 0)), (1, .int x1)] []) (x1 : Int32) (st : MS) (h : wX3_undo_22_b post L22 x1 st) : jJ p l e { frames := 0, cells := 0, slots := 0, locals := 0 } s m args below meth c (MQ below (va_Qi post (fun u => cB D ct A (MW ct ad u)) A) args s 0 0 A) A D 2 (MW ct ad st) 0 0 22 [(0, .ref (ad 0)), (1, .int x1)] [] := by
  unfold wX3_undo_22_b at h
  refine j_iload_n K 1 dX3_undo_22 rfl rfl ?_
  refine j_sipush K (7003 : Int32) dX3_undo_23 (by decide) ?_
  refine j_icmp_ge K 56 dX3_undo_26 (by decide) (fun hc => ?_) (fun hc => ?_)
  · refine j_lv K [0] (lv' := [(0, .ref (ad 0))]) rfl ?_
    exact kX3_undo_56 K hr  st (h.1 hc)
  · exact kX3_undo_29 K hr L22 hL22 x1 st (h.2 hc)
theorem kX3_undo_22 {p : Program} {l : Launch} {e : Env} {s : State} {m : MethodId} {args : Array Value} {below : List Frame} {meth : Method} {c : Code} {A : Nat → Prop} {D : va_G} {ct : Nat → ClassId} {ad : Nat → Nat} {post : Int32 → MS → Prop} (K : CX p s m args meth c cX3_undo 2 RX3 A D ct gT) (hr : meth.sig.returnType = (some .int))   (x1 : Int32) (st : MS) (h : wX3_undo_22 post  x1 st) : jJ p l e { frames := 0, cells := 0, slots := 0, locals := 0 } s m args below meth c (MQ below (va_Qi post (fun u => cB D ct A (MW ct ad u)) A) args s 0 0 A) A D 2 (MW ct ad st) 0 0 22 [(0, .ref (ad 0)), (1, .int x1)] [] :=
  wloop_sound (V := Int32 × MS) (Wk := fun v => jJ p l e { frames := 0, cells := 0, slots := 0, locals := 0 } s m args below meth c (MQ below (va_Qi post (fun u => cB D ct A (MW ct ad u)) A) args s 0 0 A) A D 2 (MW ct ad v.2) 0 0 22 [(0, .ref (ad 0)), (1, .int v.1)] []) (fun L hL v hb => kX3_undo_22_b K hr (fun x1 st => L (x1, st)) (fun x1 st hx => hL (x1, st) hx) v.1 v.2 hb) h
theorem kX3_undo_10 {p : Program} {l : Launch} {e : Env} {s : State} {m : MethodId} {args : Array Value} {below : List Frame} {meth : Method} {c : Code} {A : Nat → Prop} {D : va_G} {ct : Nat → ClassId} {ad : Nat → Nat} {post : Int32 → MS → Prop} (K : CX p s m args meth c cX3_undo 2 RX3 A D ct gT) (hr : meth.sig.returnType = (some .int))    (st : MS) (h : wX3_undo_10 post  st) : jJ p l e { frames := 0, cells := 0, slots := 0, locals := 0 } s m args below meth c (MQ below (va_Qi post (fun u => cB D ct A (MW ct ad u)) A) args s 0 0 A) A D 2 (MW ct ad st) 0 0 10 [(0, .ref (ad 0))] [] := by
  unfold wX3_undo_10 at h
  refine j_aload_n K 0 dX3_undo_10 rfl rfl ?_
  refine j_dup K dX3_undo_11 rfl ?_
  refine mg_states K dX3_undo_12 ?_
  refine j_iconst K (1 : Int32) dX3_undo_15 (by decide) ?_
  refine j_isub K dX3_undo_16 ?_
  refine mp_states K dX3_undo_17 ?_
  refine j_iconst K (0 : Int32) dX3_undo_20 (by decide) ?_
  refine j_istore_n K [(1, .int (0 : Int32)), (0, .ref (ad 0))] dX3_undo_21 rfl (by decide) rfl ?_
  refine j_lv K [1, 0] (lv' := [(0, .ref (ad 0)), (1, .int (0 : Int32))]) rfl ?_
  exact kX3_undo_22 K hr  (0 : Int32) (mF st 0 ((st.2 0) - (1 : Int32))) h
theorem kX3_undo_7 {p : Program} {l : Launch} {e : Env} {s : State} {m : MethodId} {args : Array Value} {below : List Frame} {meth : Method} {c : Code} {A : Nat → Prop} {D : va_G} {ct : Nat → ClassId} {ad : Nat → Nat} {post : Int32 → MS → Prop} (K : CX p s m args meth c cX3_undo 2 RX3 A D ct gT) (hr : meth.sig.returnType = (some .int))    (st : MS) (h : wX3_undo_7 post  st) : jJ p l e { frames := 0, cells := 0, slots := 0, locals := 0 } s m args below meth c (MQ below (va_Qi post (fun u => cB D ct A (MW ct ad u)) A) args s 0 0 A) A D 2 (MW ct ad st) 0 0 7 [] [] := by
  unfold wX3_undo_7 at h
  refine j_bipush K (-5 : Int32) dX3_undo_7 (by decide) ?_
  exact j_iret st K hr rfl h (Nat.le_of_ble_eq_true rfl) (Nat.le_of_ble_eq_true rfl) dX3_undo_9
theorem kX3_undo_0 {p : Program} {l : Launch} {e : Env} {s : State} {m : MethodId} {args : Array Value} {below : List Frame} {meth : Method} {c : Code} {A : Nat → Prop} {D : va_G} {ct : Nat → ClassId} {ad : Nat → Nat} {post : Int32 → MS → Prop} (K : CX p s m args meth c cX3_undo 2 RX3 A D ct gT) (hr : meth.sig.returnType = (some .int))    (st : MS) (h : wX3_undo_0 post  st) : jJ p l e { frames := 0, cells := 0, slots := 0, locals := 0 } s m args below meth c (MQ below (va_Qi post (fun u => cB D ct A (MW ct ad u)) A) args s 0 0 A) A D 2 (MW ct ad st) 0 0 0 [(0, .ref (ad 0))] [] := by
  unfold wX3_undo_0 at h
  refine j_aload_n K 0 dX3_undo_0 rfl rfl ?_
  refine mg_states K dX3_undo_1 ?_
  refine j_if_ne K 10 dX3_undo_4 (by decide) (fun hc => ?_) (fun hc => ?_)
  · exact kX3_undo_10 K hr  st (h.1 hc)
  · refine j_lv K [] (lv' := []) rfl ?_
    exact kX3_undo_7 K hr  st (h.2 hc)
theorem cgX3_undo {l : Launch} {D : va_G} {ct : Nat → ClassId} {ad : Nat → Nat} {post : Int32 → MS → Prop}  (st : MS) (hw : wX3_undo_0 post  st) : ∀ sz, Met l yX3_undo (ws_ yX3_undo cX3_undo 2 (some .int)) { frames := 0, cells := 0, slots := 0, locals := 0 } (va_Pc [.ref (ad 0)] (cPre gT D ct (MW ct ad st) sz)) (va_Qi post (fun u => cB D ct (va_A (MW ct ad st) sz) (MW ct ad u)) (va_A (MW ct ad st) sz)) 0 0 (va_A (MW ct ad st) sz) := fun sz =>
  j_met (Qc := fun A => va_Qi post (fun u => cB D ct A (MW ct ad u)) A) (by decide) gT_ok (Nat.le_of_ble_eq_true rfl) (fun p e s m args below meth c A K hr _ _ => kX3_undo_0 K hr  st hw)
-- X3_save
theorem kX3_save_46 {p : Program} {l : Launch} {e : Env} {s : State} {m : MethodId} {args : Array Value} {below : List Frame} {meth : Method} {c : Code} {A : Nat → Prop} {D : va_G} {ct : Nat → ClassId} {ad : Nat → Nat} {post : Int32 → MS → Prop} (K : CX p s m args meth c cX3_save 3 RX3 A D ct gT) (hr : meth.sig.returnType = (some .int))   (x1 : Int32) (st : MS) (h : wX3_save_46 post  x1 st) : jJ p l e { frames := 1, cells := 0, slots := 0, locals := 23 } s m args below meth c (MQ below (va_Qi post (fun u => cB D ct A (MW ct ad u)) A) args s 0 0 A) A D 3 (MW ct ad st) 0 0 46 [(0, .ref (ad 0)), (1, .int x1)] [] := by
  unfold wX3_save_46 at h
  refine j_aload_n K 0 dX3_save_46 rfl rfl ?_
  refine mg_isSaved K dX3_save_47 ?_
  refine j_iload_n K 1 dX3_save_50 rfl rfl ?_
  refine j_iconst K (1 : Int32) dX3_save_51 (by decide) ?_
  obtain ⟨hc, h⟩ := h
  refine mt_isSaved K hc dX3_save_52 ?_
  refine j_aload_n K 0 dX3_save_53 rfl rfl ?_
  refine mg_row K dX3_save_54 ?_
  refine j_iconst K (2 : Int32) dX3_save_57 (by decide) ?_
  obtain ⟨hc, h⟩ := h
  refine ml_row K hc dX3_save_58 ?_
  exact j_iret (mA st 4 (x1).toNatClampNeg (vp_nar .boolean (1 : Int32))) K hr rfl h (Nat.le_of_ble_eq_true rfl) (Nat.le_of_ble_eq_true rfl) dX3_save_59
theorem kX3_save_22 {p : Program} {l : Launch} {e : Env} {s : State} {m : MethodId} {args : Array Value} {below : List Frame} {meth : Method} {c : Code} {A : Nat → Prop} {D : va_G} {ct : Nat → ClassId} {ad : Nat → Nat} {post : Int32 → MS → Prop} (K : CX p s m args meth c cX3_save 3 RX3 A D ct gT) (hr : meth.sig.returnType = (some .int)) (L15 : Int32 → Int32 → MS → Prop) (hL15 : ∀ (x1 : Int32) (x2 : Int32) (st : MS), L15 x1 x2 st → jJ p l e { frames := 1, cells := 0, slots := 0, locals := 23 } s m args below meth c (MQ below (va_Qi post (fun u => cB D ct A (MW ct ad u)) A) args s 0 0 A) A D 3 (MW ct ad st) 0 0 15 [(0, .ref (ad 0)), (1, .int x1), (2, .int x2)] []) (x1 : Int32) (x2 : Int32) (st : MS) (h : wX3_save_22 post L15 x1 x2 st) : jJ p l e { frames := 1, cells := 0, slots := 0, locals := 23 } s m args below meth c (MQ below (va_Qi post (fun u => cB D ct A (MW ct ad u)) A) args s 0 0 A) A D 3 (MW ct ad st) 0 0 22 [(0, .ref (ad 0)), (1, .int x1), (2, .int x2)] [] := by
  unfold wX3_save_22 at h
  refine j_aload_n K 0 dX3_save_22 rfl rfl ?_
  refine mg_slots K dX3_save_23 ?_
  refine j_sipush K (7003 : Int32) dX3_save_26 (by decide) ?_
  refine j_iload_n K 1 dX3_save_29 rfl rfl ?_
  refine j_imul K dX3_save_30 ?_
  refine j_iload_n K 2 dX3_save_31 rfl rfl ?_
  refine j_iadd K dX3_save_32 ?_
  refine j_aload_n K 0 dX3_save_33 rfl rfl ?_
  refine mg_row K dX3_save_34 ?_
  refine j_iload_n K 2 dX3_save_37 rfl rfl ?_
  obtain ⟨hc, h⟩ := h
  refine ml_row K hc dX3_save_38 ?_
  obtain ⟨hc, h⟩ := h
  refine mt_slots K hc dX3_save_39 ?_
  refine j_iinc K 2 (x2 + (1 : Int32)) [(2, .int (x2 + (1 : Int32))), (0, .ref (ad 0)), (1, .int x1)] dX3_save_40 rfl rfl (by decide) rfl ?_
  refine j_goto K 15 dX3_save_43 (by decide) ?_
  refine j_lv K [1, 2, 0] (lv' := [(0, .ref (ad 0)), (1, .int x1), (2, .int (x2 + (1 : Int32)))]) rfl ?_
  exact hL15 x1 (x2 + (1 : Int32)) (mA st 3 ((((7003 : Int32) * x1) + x2)).toNatClampNeg (st.1 0 (x2).toNatClampNeg)) h
theorem kX3_save_15_b {p : Program} {l : Launch} {e : Env} {s : State} {m : MethodId} {args : Array Value} {below : List Frame} {meth : Method} {c : Code} {A : Nat → Prop} {D : va_G} {ct : Nat → ClassId} {ad : Nat → Nat} {post : Int32 → MS → Prop} (K : CX p s m args meth c cX3_save 3 RX3 A D ct gT) (hr : meth.sig.returnType = (some .int)) (L15 : Int32 → Int32 → MS → Prop) (hL15 : ∀ (x1 : Int32) (x2 : Int32) (st : MS), L15 x1 x2 st → jJ p l e { frames := 1, cells := 0, slots := 0, locals := 23 } s m args below meth c (MQ below (va_Qi post (fun u => cB D ct A (MW ct ad u)) A) args s 0 0 A) A D 3 (MW ct ad st) 0 0 15 [(0, .ref (ad 0)), (1, .int x1), (2, .int x2)] []) (x1 : Int32) (x2 : Int32) (st : MS) (h : wX3_save_15_b post L15 x1 x2 st) : jJ p l e { frames := 1, cells := 0, slots := 0, locals := 23 } s m args below meth c (MQ below (va_Qi post (fun u => cB D ct A (MW ct ad u)) A) args s 0 0 A) A D 3 (MW ct ad st) 0 0 15 [(0, .ref (ad 0)), (1, .int x1), (2, .int x2)] [] := by
  unfold wX3_save_15_b at h
  refine j_iload_n K 2 dX3_save_15 rfl rfl ?_
  refine j_sipush K (7003 : Int32) dX3_save_16 (by decide) ?_
  refine j_icmp_ge K 46 dX3_save_19 (by decide) (fun hc => ?_) (fun hc => ?_)
  · refine j_lv K [0, 1] (lv' := [(0, .ref (ad 0)), (1, .int x1)]) rfl ?_
    exact kX3_save_46 K hr  x1 st (h.1 hc)
  · exact kX3_save_22 K hr L15 hL15 x1 x2 st (h.2 hc)
theorem kX3_save_15 {p : Program} {l : Launch} {e : Env} {s : State} {m : MethodId} {args : Array Value} {below : List Frame} {meth : Method} {c : Code} {A : Nat → Prop} {D : va_G} {ct : Nat → ClassId} {ad : Nat → Nat} {post : Int32 → MS → Prop} (K : CX p s m args meth c cX3_save 3 RX3 A D ct gT) (hr : meth.sig.returnType = (some .int))   (x1 : Int32) (x2 : Int32) (st : MS) (h : wX3_save_15 post  x1 x2 st) : jJ p l e { frames := 1, cells := 0, slots := 0, locals := 23 } s m args below meth c (MQ below (va_Qi post (fun u => cB D ct A (MW ct ad u)) A) args s 0 0 A) A D 3 (MW ct ad st) 0 0 15 [(0, .ref (ad 0)), (1, .int x1), (2, .int x2)] [] :=
  wloop_sound (V := Int32 × Int32 × MS) (Wk := fun v => jJ p l e { frames := 1, cells := 0, slots := 0, locals := 23 } s m args below meth c (MQ below (va_Qi post (fun u => cB D ct A (MW ct ad u)) A) args s 0 0 A) A D 3 (MW ct ad v.2.2) 0 0 15 [(0, .ref (ad 0)), (1, .int v.1), (2, .int v.2.1)] []) (fun L hL v hb => kX3_save_15_b K hr (fun x1 x2 st => L (x1, x2, st)) (fun x1 x2 st hx => hL (x1, x2, st) hx) v.1 v.2.1 v.2.2 hb) h
theorem kX3_save_13 {p : Program} {l : Launch} {e : Env} {s : State} {m : MethodId} {args : Array Value} {below : List Frame} {meth : Method} {c : Code} {A : Nat → Prop} {D : va_G} {ct : Nat → ClassId} {ad : Nat → Nat} {post : Int32 → MS → Prop} (K : CX p s m args meth c cX3_save 3 RX3 A D ct gT) (hr : meth.sig.returnType = (some .int))   (x1 : Int32) (st : MS) (h : wX3_save_13 post  x1 st) : jJ p l e { frames := 1, cells := 0, slots := 0, locals := 23 } s m args below meth c (MQ below (va_Qi post (fun u => cB D ct A (MW ct ad u)) A) args s 0 0 A) A D 3 (MW ct ad st) 0 0 13 [(0, .ref (ad 0)), (1, .int x1)] [] := by
  unfold wX3_save_13 at h
  refine j_iconst K (0 : Int32) dX3_save_13 (by decide) ?_
  refine j_istore_n K [(2, .int (0 : Int32)), (0, .ref (ad 0)), (1, .int x1)] dX3_save_14 rfl (by decide) rfl ?_
  refine j_lv K [1, 2, 0] (lv' := [(0, .ref (ad 0)), (1, .int x1), (2, .int (0 : Int32))]) rfl ?_
  exact kX3_save_15 K hr  x1 (0 : Int32) st h
theorem kX3_save_10 {p : Program} {l : Launch} {e : Env} {s : State} {m : MethodId} {args : Array Value} {below : List Frame} {meth : Method} {c : Code} {A : Nat → Prop} {D : va_G} {ct : Nat → ClassId} {ad : Nat → Nat} {post : Int32 → MS → Prop} (K : CX p s m args meth c cX3_save 3 RX3 A D ct gT) (hr : meth.sig.returnType = (some .int))    (st : MS) (h : wX3_save_10 post  st) : jJ p l e { frames := 1, cells := 0, slots := 0, locals := 23 } s m args below meth c (MQ below (va_Qi post (fun u => cB D ct A (MW ct ad u)) A) args s 0 0 A) A D 3 (MW ct ad st) 0 0 10 [] [] := by
  unfold wX3_save_10 at h
  refine j_bipush K (-2 : Int32) dX3_save_10 (by decide) ?_
  exact j_iret st K hr rfl h (Nat.le_of_ble_eq_true rfl) (Nat.le_of_ble_eq_true rfl) dX3_save_12
theorem kX3_save_0 {p : Program} {l : Launch} {e : Env} {s : State} {m : MethodId} {args : Array Value} {below : List Frame} {meth : Method} {c : Code} {A : Nat → Prop} {D : va_G} {ct : Nat → ClassId} {ad : Nat → Nat} {post : Int32 → MS → Prop} (K : CX p s m args meth c cX3_save 3 RX3 A D ct gT) (hr : meth.sig.returnType = (some .int))   (x1 : Int32) (st : MS) (h : wX3_save_0 post  x1 st) : jJ p l e { frames := 1, cells := 0, slots := 0, locals := 23 } s m args below meth c (MQ below (va_Qi post (fun u => cB D ct A (MW ct ad u)) A) args s 0 0 A) A D 3 (MW ct ad st) 0 0 0 [(0, .ref (ad 0)), (1, .int x1)] [] := by
  unfold wX3_save_0 at h
  refine j_iload_n K 1 dX3_save_0 rfl rfl ?_
  refine j_i2l K dX3_save_1 ?_
  refine j_iconst K (0 : Int32) dX3_save_2 (by decide) ?_
  refine j_iconst K (1 : Int32) dX3_save_3 (by decide) ?_
  refine j_callSi K (As := [.long (x1.toInt64), .int (0 : Int32), .int (1 : Int32)]) (rest := []) (ctX3_in (l := l) (D := D) (ct := ct) (G := gT) (ws := MW ct ad st) gT_ok (x1.toInt64) (0 : Int32) (1 : Int32)) gwX3_in gdX3_in ⟨Nat.le_of_ble_eq_true rfl, Nat.le_of_ble_eq_true rfl⟩ rfl rfl (Nat.le_of_ble_eq_true rfl) dX3_save_4 ⟨Nat.le_of_ble_eq_true rfl, Nat.le_of_ble_eq_true rfl⟩ (fun r_1 _ hq => ?_)
  replace h := h r_1 hq
  refine j_if_ne K 13 dX3_save_7 (by decide) (fun hc => ?_) (fun hc => ?_)
  · exact kX3_save_13 K hr  x1 st (h.1 hc)
  · refine j_lv K [] (lv' := []) rfl ?_
    exact kX3_save_10 K hr  st (h.2 hc)
theorem cgX3_save {l : Launch} {D : va_G} {ct : Nat → ClassId} {ad : Nat → Nat} {post : Int32 → MS → Prop} (x1 : Int32) (st : MS) (hw : wX3_save_0 post x1 st) : ∀ sz, Met l yX3_save (ws_ yX3_save cX3_save 3 (some .int)) { frames := 1, cells := 0, slots := 0, locals := 23 } (va_Pc [.ref (ad 0), .int x1] (cPre gT D ct (MW ct ad st) sz)) (va_Qi post (fun u => cB D ct (va_A (MW ct ad st) sz) (MW ct ad u)) (va_A (MW ct ad st) sz)) 0 0 (va_A (MW ct ad st) sz) := fun sz =>
  j_met (Qc := fun A => va_Qi post (fun u => cB D ct A (MW ct ad u)) A) (by decide) gT_ok (Nat.le_of_ble_eq_true rfl) (fun p e s m args below meth c A K hr _ _ => kX3_save_0 K hr x1 st hw)
-- X3_restore
theorem kX3_restore_62 {p : Program} {l : Launch} {e : Env} {s : State} {m : MethodId} {args : Array Value} {below : List Frame} {meth : Method} {c : Code} {A : Nat → Prop} {D : va_G} {ct : Nat → ClassId} {ad : Nat → Nat} {post : Int32 → MS → Prop} (K : CX p s m args meth c cX3_restore 3 RX3 A D ct gT) (hr : meth.sig.returnType = (some .int))    (st : MS) (h : wX3_restore_62 post  st) : jJ p l e { frames := 1, cells := 0, slots := 0, locals := 23 } s m args below meth c (MQ below (va_Qi post (fun u => cB D ct A (MW ct ad u)) A) args s 0 0 A) A D 3 (MW ct ad st) 0 0 62 [(0, .ref (ad 0))] [] := by
  unfold wX3_restore_62 at h
  refine j_aload_n K 0 dX3_restore_62 rfl rfl ?_
  refine j_aload_n K 0 dX3_restore_63 rfl rfl ?_
  refine mg_row K dX3_restore_64 ?_
  refine j_iconst K (2 : Int32) dX3_restore_67 (by decide) ?_
  obtain ⟨hc, h⟩ := h
  refine ml_row K hc dX3_restore_68 ?_
  obtain ⟨hp, h⟩ := h
  refine j_callVi K (As := [.int (st.1 0 ((2 : Int32)).toNatClampNeg)]) (rest := []) (ctX3_record (l := l) (D := D) (ct := ct) (ad := ad) (st.1 0 ((2 : Int32)).toNatClampNeg) st hp) gwX3_record gdX3_record ⟨Nat.le_of_ble_eq_true rfl, Nat.le_of_ble_eq_true rfl⟩ 0 rfl rfl rfl rfl rfl (Nat.le_of_ble_eq_true rfl) dX3_restore_69 ⟨Nat.le_of_ble_eq_true rfl, Nat.le_of_ble_eq_true rfl⟩ (fun r_1 st_2 hq => ?_)
  replace h := h r_1 st_2 hq
  exact j_iret st_2 K hr rfl h (Nat.le_of_ble_eq_true rfl) (Nat.le_of_ble_eq_true rfl) dX3_restore_72
theorem kX3_restore_38 {p : Program} {l : Launch} {e : Env} {s : State} {m : MethodId} {args : Array Value} {below : List Frame} {meth : Method} {c : Code} {A : Nat → Prop} {D : va_G} {ct : Nat → ClassId} {ad : Nat → Nat} {post : Int32 → MS → Prop} (K : CX p s m args meth c cX3_restore 3 RX3 A D ct gT) (hr : meth.sig.returnType = (some .int)) (L31 : Int32 → Int32 → MS → Prop) (hL31 : ∀ (x1 : Int32) (x2 : Int32) (st : MS), L31 x1 x2 st → jJ p l e { frames := 1, cells := 0, slots := 0, locals := 23 } s m args below meth c (MQ below (va_Qi post (fun u => cB D ct A (MW ct ad u)) A) args s 0 0 A) A D 3 (MW ct ad st) 0 0 31 [(0, .ref (ad 0)), (1, .int x1), (2, .int x2)] []) (x1 : Int32) (x2 : Int32) (st : MS) (h : wX3_restore_38 post L31 x1 x2 st) : jJ p l e { frames := 1, cells := 0, slots := 0, locals := 23 } s m args below meth c (MQ below (va_Qi post (fun u => cB D ct A (MW ct ad u)) A) args s 0 0 A) A D 3 (MW ct ad st) 0 0 38 [(0, .ref (ad 0)), (1, .int x1), (2, .int x2)] [] := by
  unfold wX3_restore_38 at h
  refine j_aload_n K 0 dX3_restore_38 rfl rfl ?_
  refine mg_row K dX3_restore_39 ?_
  refine j_iload_n K 2 dX3_restore_42 rfl rfl ?_
  refine j_aload_n K 0 dX3_restore_43 rfl rfl ?_
  refine mg_slots K dX3_restore_44 ?_
  refine j_sipush K (7003 : Int32) dX3_restore_47 (by decide) ?_
  refine j_iload_n K 1 dX3_restore_50 rfl rfl ?_
  refine j_imul K dX3_restore_51 ?_
  refine j_iload_n K 2 dX3_restore_52 rfl rfl ?_
  refine j_iadd K dX3_restore_53 ?_
  obtain ⟨hc, h⟩ := h
  refine ml_slots K hc dX3_restore_54 ?_
  obtain ⟨hc, h⟩ := h
  refine mt_row K hc dX3_restore_55 ?_
  refine j_iinc K 2 (x2 + (1 : Int32)) [(2, .int (x2 + (1 : Int32))), (0, .ref (ad 0)), (1, .int x1)] dX3_restore_56 rfl rfl (by decide) rfl ?_
  refine j_goto K 31 dX3_restore_59 (by decide) ?_
  refine j_lv K [1, 2, 0] (lv' := [(0, .ref (ad 0)), (1, .int x1), (2, .int (x2 + (1 : Int32)))]) rfl ?_
  exact hL31 x1 (x2 + (1 : Int32)) (mA st 0 (x2).toNatClampNeg (st.1 3 ((((7003 : Int32) * x1) + x2)).toNatClampNeg)) h
theorem kX3_restore_31_b {p : Program} {l : Launch} {e : Env} {s : State} {m : MethodId} {args : Array Value} {below : List Frame} {meth : Method} {c : Code} {A : Nat → Prop} {D : va_G} {ct : Nat → ClassId} {ad : Nat → Nat} {post : Int32 → MS → Prop} (K : CX p s m args meth c cX3_restore 3 RX3 A D ct gT) (hr : meth.sig.returnType = (some .int)) (L31 : Int32 → Int32 → MS → Prop) (hL31 : ∀ (x1 : Int32) (x2 : Int32) (st : MS), L31 x1 x2 st → jJ p l e { frames := 1, cells := 0, slots := 0, locals := 23 } s m args below meth c (MQ below (va_Qi post (fun u => cB D ct A (MW ct ad u)) A) args s 0 0 A) A D 3 (MW ct ad st) 0 0 31 [(0, .ref (ad 0)), (1, .int x1), (2, .int x2)] []) (x1 : Int32) (x2 : Int32) (st : MS) (h : wX3_restore_31_b post L31 x1 x2 st) : jJ p l e { frames := 1, cells := 0, slots := 0, locals := 23 } s m args below meth c (MQ below (va_Qi post (fun u => cB D ct A (MW ct ad u)) A) args s 0 0 A) A D 3 (MW ct ad st) 0 0 31 [(0, .ref (ad 0)), (1, .int x1), (2, .int x2)] [] := by
  unfold wX3_restore_31_b at h
  refine j_iload_n K 2 dX3_restore_31 rfl rfl ?_
  refine j_sipush K (7003 : Int32) dX3_restore_32 (by decide) ?_
  refine j_icmp_ge K 62 dX3_restore_35 (by decide) (fun hc => ?_) (fun hc => ?_)
  · refine j_lv K [0] (lv' := [(0, .ref (ad 0))]) rfl ?_
    exact kX3_restore_62 K hr  st (h.1 hc)
  · exact kX3_restore_38 K hr L31 hL31 x1 x2 st (h.2 hc)
theorem kX3_restore_31 {p : Program} {l : Launch} {e : Env} {s : State} {m : MethodId} {args : Array Value} {below : List Frame} {meth : Method} {c : Code} {A : Nat → Prop} {D : va_G} {ct : Nat → ClassId} {ad : Nat → Nat} {post : Int32 → MS → Prop} (K : CX p s m args meth c cX3_restore 3 RX3 A D ct gT) (hr : meth.sig.returnType = (some .int))   (x1 : Int32) (x2 : Int32) (st : MS) (h : wX3_restore_31 post  x1 x2 st) : jJ p l e { frames := 1, cells := 0, slots := 0, locals := 23 } s m args below meth c (MQ below (va_Qi post (fun u => cB D ct A (MW ct ad u)) A) args s 0 0 A) A D 3 (MW ct ad st) 0 0 31 [(0, .ref (ad 0)), (1, .int x1), (2, .int x2)] [] :=
  wloop_sound (V := Int32 × Int32 × MS) (Wk := fun v => jJ p l e { frames := 1, cells := 0, slots := 0, locals := 23 } s m args below meth c (MQ below (va_Qi post (fun u => cB D ct A (MW ct ad u)) A) args s 0 0 A) A D 3 (MW ct ad v.2.2) 0 0 31 [(0, .ref (ad 0)), (1, .int v.1), (2, .int v.2.1)] []) (fun L hL v hb => kX3_restore_31_b K hr (fun x1 x2 st => L (x1, x2, st)) (fun x1 x2 st hx => hL (x1, x2, st) hx) v.1 v.2.1 v.2.2 hb) h
theorem kX3_restore_25 {p : Program} {l : Launch} {e : Env} {s : State} {m : MethodId} {args : Array Value} {below : List Frame} {meth : Method} {c : Code} {A : Nat → Prop} {D : va_G} {ct : Nat → ClassId} {ad : Nat → Nat} {post : Int32 → MS → Prop} (K : CX p s m args meth c cX3_restore 3 RX3 A D ct gT) (hr : meth.sig.returnType = (some .int))   (x1 : Int32) (st : MS) (h : wX3_restore_25 post  x1 st) : jJ p l e { frames := 1, cells := 0, slots := 0, locals := 23 } s m args below meth c (MQ below (va_Qi post (fun u => cB D ct A (MW ct ad u)) A) args s 0 0 A) A D 3 (MW ct ad st) 0 0 25 [(0, .ref (ad 0)), (1, .int x1)] [] := by
  unfold wX3_restore_25 at h
  refine j_aload_n K 0 dX3_restore_25 rfl rfl ?_
  obtain ⟨hp, h⟩ := h
  refine j_callVv K (As := []) (rest := []) (ctX3_remember (l := l) (D := D) (ct := ct) (ad := ad)  st hp) gwX3_remember gdX3_remember ⟨Nat.le_of_ble_eq_true rfl, Nat.le_of_ble_eq_true rfl⟩ 0 rfl rfl rfl rfl rfl (Nat.le_of_ble_eq_true rfl) dX3_restore_26 ⟨Nat.le_of_ble_eq_true rfl, Nat.le_of_ble_eq_true rfl⟩ (fun st_1 hq => ?_)
  replace h := h st_1 hq
  refine j_iconst K (0 : Int32) dX3_restore_29 (by decide) ?_
  refine j_istore_n K [(2, .int (0 : Int32)), (0, .ref (ad 0)), (1, .int x1)] dX3_restore_30 rfl (by decide) rfl ?_
  refine j_lv K [1, 2, 0] (lv' := [(0, .ref (ad 0)), (1, .int x1), (2, .int (0 : Int32))]) rfl ?_
  exact kX3_restore_31 K hr  x1 (0 : Int32) st_1 h
theorem kX3_restore_22 {p : Program} {l : Launch} {e : Env} {s : State} {m : MethodId} {args : Array Value} {below : List Frame} {meth : Method} {c : Code} {A : Nat → Prop} {D : va_G} {ct : Nat → ClassId} {ad : Nat → Nat} {post : Int32 → MS → Prop} (K : CX p s m args meth c cX3_restore 3 RX3 A D ct gT) (hr : meth.sig.returnType = (some .int))    (st : MS) (h : wX3_restore_22 post  st) : jJ p l e { frames := 1, cells := 0, slots := 0, locals := 23 } s m args below meth c (MQ below (va_Qi post (fun u => cB D ct A (MW ct ad u)) A) args s 0 0 A) A D 3 (MW ct ad st) 0 0 22 [] [] := by
  unfold wX3_restore_22 at h
  refine j_bipush K (-5 : Int32) dX3_restore_22 (by decide) ?_
  exact j_iret st K hr rfl h (Nat.le_of_ble_eq_true rfl) (Nat.le_of_ble_eq_true rfl) dX3_restore_24
theorem kX3_restore_13 {p : Program} {l : Launch} {e : Env} {s : State} {m : MethodId} {args : Array Value} {below : List Frame} {meth : Method} {c : Code} {A : Nat → Prop} {D : va_G} {ct : Nat → ClassId} {ad : Nat → Nat} {post : Int32 → MS → Prop} (K : CX p s m args meth c cX3_restore 3 RX3 A D ct gT) (hr : meth.sig.returnType = (some .int))   (x1 : Int32) (st : MS) (h : wX3_restore_13 post  x1 st) : jJ p l e { frames := 1, cells := 0, slots := 0, locals := 23 } s m args below meth c (MQ below (va_Qi post (fun u => cB D ct A (MW ct ad u)) A) args s 0 0 A) A D 3 (MW ct ad st) 0 0 13 [(0, .ref (ad 0)), (1, .int x1)] [] := by
  unfold wX3_restore_13 at h
  refine j_aload_n K 0 dX3_restore_13 rfl rfl ?_
  refine mg_isSaved K dX3_restore_14 ?_
  refine j_iload_n K 1 dX3_restore_17 rfl rfl ?_
  obtain ⟨hc, h⟩ := h
  refine ml_isSaved K hc dX3_restore_18 ?_
  refine j_if_ne K 25 dX3_restore_19 (by decide) (fun hc => ?_) (fun hc => ?_)
  · exact kX3_restore_25 K hr  x1 st (h.1 hc)
  · refine j_lv K [] (lv' := []) rfl ?_
    exact kX3_restore_22 K hr  st (h.2 hc)
theorem kX3_restore_10 {p : Program} {l : Launch} {e : Env} {s : State} {m : MethodId} {args : Array Value} {below : List Frame} {meth : Method} {c : Code} {A : Nat → Prop} {D : va_G} {ct : Nat → ClassId} {ad : Nat → Nat} {post : Int32 → MS → Prop} (K : CX p s m args meth c cX3_restore 3 RX3 A D ct gT) (hr : meth.sig.returnType = (some .int))    (st : MS) (h : wX3_restore_10 post  st) : jJ p l e { frames := 1, cells := 0, slots := 0, locals := 23 } s m args below meth c (MQ below (va_Qi post (fun u => cB D ct A (MW ct ad u)) A) args s 0 0 A) A D 3 (MW ct ad st) 0 0 10 [] [] := by
  unfold wX3_restore_10 at h
  refine j_bipush K (-2 : Int32) dX3_restore_10 (by decide) ?_
  exact j_iret st K hr rfl h (Nat.le_of_ble_eq_true rfl) (Nat.le_of_ble_eq_true rfl) dX3_restore_12
theorem kX3_restore_0 {p : Program} {l : Launch} {e : Env} {s : State} {m : MethodId} {args : Array Value} {below : List Frame} {meth : Method} {c : Code} {A : Nat → Prop} {D : va_G} {ct : Nat → ClassId} {ad : Nat → Nat} {post : Int32 → MS → Prop} (K : CX p s m args meth c cX3_restore 3 RX3 A D ct gT) (hr : meth.sig.returnType = (some .int))   (x1 : Int32) (st : MS) (h : wX3_restore_0 post  x1 st) : jJ p l e { frames := 1, cells := 0, slots := 0, locals := 23 } s m args below meth c (MQ below (va_Qi post (fun u => cB D ct A (MW ct ad u)) A) args s 0 0 A) A D 3 (MW ct ad st) 0 0 0 [(0, .ref (ad 0)), (1, .int x1)] [] := by
  unfold wX3_restore_0 at h
  refine j_iload_n K 1 dX3_restore_0 rfl rfl ?_
  refine j_i2l K dX3_restore_1 ?_
  refine j_iconst K (0 : Int32) dX3_restore_2 (by decide) ?_
  refine j_iconst K (1 : Int32) dX3_restore_3 (by decide) ?_
  refine j_callSi K (As := [.long (x1.toInt64), .int (0 : Int32), .int (1 : Int32)]) (rest := []) (ctX3_in (l := l) (D := D) (ct := ct) (G := gT) (ws := MW ct ad st) gT_ok (x1.toInt64) (0 : Int32) (1 : Int32)) gwX3_in gdX3_in ⟨Nat.le_of_ble_eq_true rfl, Nat.le_of_ble_eq_true rfl⟩ rfl rfl (Nat.le_of_ble_eq_true rfl) dX3_restore_4 ⟨Nat.le_of_ble_eq_true rfl, Nat.le_of_ble_eq_true rfl⟩ (fun r_1 _ hq => ?_)
  replace h := h r_1 hq
  refine j_if_ne K 13 dX3_restore_7 (by decide) (fun hc => ?_) (fun hc => ?_)
  · exact kX3_restore_13 K hr  x1 st (h.1 hc)
  · refine j_lv K [] (lv' := []) rfl ?_
    exact kX3_restore_10 K hr  st (h.2 hc)
theorem cgX3_restore {l : Launch} {D : va_G} {ct : Nat → ClassId} {ad : Nat → Nat} {post : Int32 → MS → Prop} (x1 : Int32) (st : MS) (hw : wX3_restore_0 post x1 st) : ∀ sz, Met l yX3_restore (ws_ yX3_restore cX3_restore 3 (some .int)) { frames := 1, cells := 0, slots := 0, locals := 23 } (va_Pc [.ref (ad 0), .int x1] (cPre gT D ct (MW ct ad st) sz)) (va_Qi post (fun u => cB D ct (va_A (MW ct ad st) sz) (MW ct ad u)) (va_A (MW ct ad st) sz)) 0 0 (va_A (MW ct ad st) sz) := fun sz =>
  j_met (Qc := fun A => va_Qi post (fun u => cB D ct A (MW ct ad u)) A) (by decide) gT_ok (Nat.le_of_ble_eq_true rfl) (fun p e s m args below meth c A K hr _ _ => kX3_restore_0 K hr x1 st hw)
-- X3_set
theorem kX3_set_20 {p : Program} {l : Launch} {e : Env} {s : State} {m : MethodId} {args : Array Value} {below : List Frame} {meth : Method} {c : Code} {A : Nat → Prop} {D : va_G} {ct : Nat → ClassId} {ad : Nat → Nat} {post : Int32 → MS → Prop} (K : CX p s m args meth c cX3_set 4 RX3 A D ct gT) (hr : meth.sig.returnType = (some .int))    (st : MS) (h : wX3_set_20 post  st) : jJ p l e { frames := 1, cells := 0, slots := 0, locals := 23 } s m args below meth c (MQ below (va_Qi post (fun u => cB D ct A (MW ct ad u)) A) args s 0 0 A) A D 4 (MW ct ad st) 0 0 20 [] [] := by
  unfold wX3_set_20 at h
  refine j_bipush K (-2 : Int32) dX3_set_20 (by decide) ?_
  exact j_iret st K hr rfl h (Nat.le_of_ble_eq_true rfl) (Nat.le_of_ble_eq_true rfl) dX3_set_22
theorem kX3_set_23 {p : Program} {l : Launch} {e : Env} {s : State} {m : MethodId} {args : Array Value} {below : List Frame} {meth : Method} {c : Code} {A : Nat → Prop} {D : va_G} {ct : Nat → ClassId} {ad : Nat → Nat} {post : Int32 → MS → Prop} (K : CX p s m args meth c cX3_set 4 RX3 A D ct gT) (hr : meth.sig.returnType = (some .int))   (x1 : Int32) (x2 : Int32) (st : MS) (h : wX3_set_23 post  x1 x2 st) : jJ p l e { frames := 1, cells := 0, slots := 0, locals := 23 } s m args below meth c (MQ below (va_Qi post (fun u => cB D ct A (MW ct ad u)) A) args s 0 0 A) A D 4 (MW ct ad st) 0 0 23 [(0, .ref (ad 0)), (1, .int x1), (2, .int x2)] [] := by
  unfold wX3_set_23 at h
  refine j_aload_n K 0 dX3_set_23 rfl rfl ?_
  obtain ⟨hp, h⟩ := h
  refine j_callVv K (As := []) (rest := []) (ctX3_remember (l := l) (D := D) (ct := ct) (ad := ad)  st hp) gwX3_remember gdX3_remember ⟨Nat.le_of_ble_eq_true rfl, Nat.le_of_ble_eq_true rfl⟩ 0 rfl rfl rfl rfl rfl (Nat.le_of_ble_eq_true rfl) dX3_set_24 ⟨Nat.le_of_ble_eq_true rfl, Nat.le_of_ble_eq_true rfl⟩ (fun st_1 hq => ?_)
  replace h := h st_1 hq
  refine j_aload_n K 0 dX3_set_27 rfl rfl ?_
  refine mg_row K dX3_set_28 ?_
  refine j_iload_n K 1 dX3_set_31 rfl rfl ?_
  obtain ⟨hc, h⟩ := h
  refine ml_row K hc dX3_set_32 ?_
  refine j_istore_n K [(3, .int (st_1.1 0 (x1).toNatClampNeg)), (0, .ref (ad 0)), (1, .int x1), (2, .int x2)] dX3_set_33 rfl (by decide) rfl ?_
  refine j_aload_n K 1 dX3_set_34 rfl rfl ?_
  refine mg_row K dX3_set_35 ?_
  refine j_iload_n K 2 dX3_set_38 rfl rfl ?_
  refine j_iload_n K 3 dX3_set_39 rfl rfl ?_
  obtain ⟨hc, h⟩ := h
  refine mt_row K hc dX3_set_40 ?_
  refine j_aload_n K 1 dX3_set_41 rfl rfl ?_
  obtain ⟨hp, h⟩ := h
  refine j_callVv K (As := []) (rest := []) (ctX3_anew (l := l) (D := D) (ct := ct) (ad := ad)  (mA st_1 0 (x1).toNatClampNeg x2) hp) gwX3_anew gdX3_anew ⟨Nat.le_of_ble_eq_true rfl, Nat.le_of_ble_eq_true rfl⟩ 0 rfl rfl rfl rfl rfl (Nat.le_of_ble_eq_true rfl) dX3_set_42 ⟨Nat.le_of_ble_eq_true rfl, Nat.le_of_ble_eq_true rfl⟩ (fun st_2 hq => ?_)
  replace h := h st_2 hq
  refine j_aload_n K 1 dX3_set_45 rfl rfl ?_
  refine j_iload_n K 0 dX3_set_46 rfl rfl ?_
  obtain ⟨hp, h⟩ := h
  refine j_callVi K (As := [.int (st_1.1 0 (x1).toNatClampNeg)]) (rest := []) (ctX3_record (l := l) (D := D) (ct := ct) (ad := ad) (st_1.1 0 (x1).toNatClampNeg) st_2 hp) gwX3_record gdX3_record ⟨Nat.le_of_ble_eq_true rfl, Nat.le_of_ble_eq_true rfl⟩ 0 rfl rfl rfl rfl rfl (Nat.le_of_ble_eq_true rfl) dX3_set_47 ⟨Nat.le_of_ble_eq_true rfl, Nat.le_of_ble_eq_true rfl⟩ (fun r_3 st_4 hq => ?_)
  replace h := h r_3 st_4 hq
  exact j_iret st_4 K hr rfl h (Nat.le_of_ble_eq_true rfl) (Nat.le_of_ble_eq_true rfl) dX3_set_50
theorem kX3_set_10 {p : Program} {l : Launch} {e : Env} {s : State} {m : MethodId} {args : Array Value} {below : List Frame} {meth : Method} {c : Code} {A : Nat → Prop} {D : va_G} {ct : Nat → ClassId} {ad : Nat → Nat} {post : Int32 → MS → Prop} (K : CX p s m args meth c cX3_set 4 RX3 A D ct gT) (hr : meth.sig.returnType = (some .int))   (x1 : Int32) (x2 : Int32) (st : MS) (h : wX3_set_10 post  x1 x2 st) : jJ p l e { frames := 1, cells := 0, slots := 0, locals := 23 } s m args below meth c (MQ below (va_Qi post (fun u => cB D ct A (MW ct ad u)) A) args s 0 0 A) A D 4 (MW ct ad st) 0 0 10 [(0, .ref (ad 0)), (1, .int x1), (2, .int x2)] [] := by
  unfold wX3_set_10 at h
  refine j_iload_n K 2 dX3_set_10 rfl rfl ?_
  refine j_i2l K dX3_set_11 ?_
  refine j_iconst K (0 : Int32) dX3_set_12 (by decide) ?_
  refine j_iconst K (1 : Int32) dX3_set_13 (by decide) ?_
  refine j_callSi K (As := [.long (x2.toInt64), .int (0 : Int32), .int (1 : Int32)]) (rest := []) (ctX3_in (l := l) (D := D) (ct := ct) (G := gT) (ws := MW ct ad st) gT_ok (x2.toInt64) (0 : Int32) (1 : Int32)) gwX3_in gdX3_in ⟨Nat.le_of_ble_eq_true rfl, Nat.le_of_ble_eq_true rfl⟩ rfl rfl (Nat.le_of_ble_eq_true rfl) dX3_set_14 ⟨Nat.le_of_ble_eq_true rfl, Nat.le_of_ble_eq_true rfl⟩ (fun r_1 _ hq => ?_)
  replace h := h r_1 hq
  refine j_if_ne K 23 dX3_set_17 (by decide) (fun hc => ?_) (fun hc => ?_)
  · exact kX3_set_23 K hr  x1 x2 st (h.1 hc)
  · refine j_lv K [] (lv' := []) rfl ?_
    exact kX3_set_20 K hr  st (h.2 hc)
theorem kX3_set_0 {p : Program} {l : Launch} {e : Env} {s : State} {m : MethodId} {args : Array Value} {below : List Frame} {meth : Method} {c : Code} {A : Nat → Prop} {D : va_G} {ct : Nat → ClassId} {ad : Nat → Nat} {post : Int32 → MS → Prop} (K : CX p s m args meth c cX3_set 4 RX3 A D ct gT) (hr : meth.sig.returnType = (some .int))   (x1 : Int32) (x2 : Int32) (st : MS) (h : wX3_set_0 post  x1 x2 st) : jJ p l e { frames := 1, cells := 0, slots := 0, locals := 23 } s m args below meth c (MQ below (va_Qi post (fun u => cB D ct A (MW ct ad u)) A) args s 0 0 A) A D 4 (MW ct ad st) 0 0 0 [(0, .ref (ad 0)), (1, .int x1), (2, .int x2)] [] := by
  unfold wX3_set_0 at h
  refine j_iload_n K 1 dX3_set_0 rfl rfl ?_
  refine j_i2l K dX3_set_1 ?_
  refine j_iconst K (0 : Int32) dX3_set_2 (by decide) ?_
  refine j_iconst K (1 : Int32) dX3_set_3 (by decide) ?_
  refine j_callSi K (As := [.long (x1.toInt64), .int (0 : Int32), .int (1 : Int32)]) (rest := []) (ctX3_in (l := l) (D := D) (ct := ct) (G := gT) (ws := MW ct ad st) gT_ok (x1.toInt64) (0 : Int32) (1 : Int32)) gwX3_in gdX3_in ⟨Nat.le_of_ble_eq_true rfl, Nat.le_of_ble_eq_true rfl⟩ rfl rfl (Nat.le_of_ble_eq_true rfl) dX3_set_4 ⟨Nat.le_of_ble_eq_true rfl, Nat.le_of_ble_eq_true rfl⟩ (fun r_1 _ hq => ?_)
  replace h := h r_1 hq
  refine j_if_eq K 20 dX3_set_7 (by decide) (fun hc => ?_) (fun hc => ?_)
  · refine j_lv K [] (lv' := []) rfl ?_
    exact kX3_set_20 K hr  st (h.1 hc)
  · exact kX3_set_10 K hr  x1 x2 st (h.2 hc)
theorem cgX3_set {l : Launch} {D : va_G} {ct : Nat → ClassId} {ad : Nat → Nat} {post : Int32 → MS → Prop} (x1 : Int32) (x2 : Int32) (st : MS) (hw : wX3_set_0 post x1 x2 st) : ∀ sz, Met l yX3_set (ws_ yX3_set cX3_set 4 (some .int)) { frames := 1, cells := 0, slots := 0, locals := 23 } (va_Pc [.ref (ad 0), .int x1, .int x2] (cPre gT D ct (MW ct ad st) sz)) (va_Qi post (fun u => cB D ct (va_A (MW ct ad st) sz) (MW ct ad u)) (va_A (MW ct ad st) sz)) 0 0 (va_A (MW ct ad st) sz) := fun sz =>
  j_met (Qc := fun A => va_Qi post (fun u => cB D ct A (MW ct ad u)) A) (by decide) gT_ok (Nat.le_of_ble_eq_true rfl) (fun p e s m args below meth c A K hr _ _ => kX3_set_0 K hr x1 x2 st hw)
-- X3_begin
theorem kX3_begin_0 {p : Program} {l : Launch} {e : Env} {s : State} {m : MethodId} {args : Array Value} {below : List Frame} {meth : Method} {c : Code} {A : Nat → Prop} {D : va_G} {ct : Nat → ClassId} {ad : Nat → Nat} {post : Int32 → MS → Prop} (K : CX p s m args meth c cX3_begin 2 RX3 A D ct gT) (hr : meth.sig.returnType = (some .int))    (st : MS) (h : wX3_begin_0 post  st) : jJ p l e { frames := 1, cells := 0, slots := 0, locals := 22 } s m args below meth c (MQ below (va_Qi post (fun u => cB D ct A (MW ct ad u)) A) args s 0 0 A) A D 2 (MW ct ad st) 0 0 0 [(0, .ref (ad 0))] [] := by
  unfold wX3_begin_0 at h
  refine j_aload_n K 0 dX3_begin_0 rfl rfl ?_
  obtain ⟨hp, h⟩ := h
  refine j_callVv K (As := []) (rest := []) (ctX3_remember (l := l) (D := D) (ct := ct) (ad := ad)  st hp) gwX3_remember gdX3_remember ⟨Nat.le_of_ble_eq_true rfl, Nat.le_of_ble_eq_true rfl⟩ 0 rfl rfl rfl rfl rfl (Nat.le_of_ble_eq_true rfl) dX3_begin_1 ⟨Nat.le_of_ble_eq_true rfl, Nat.le_of_ble_eq_true rfl⟩ (fun st_1 hq => ?_)
  replace h := h st_1 hq
  refine j_aload_n K 0 dX3_begin_4 rfl rfl ?_
  refine mg_row K dX3_begin_5 ?_
  refine j_iconst K (2 : Int32) dX3_begin_8 (by decide) ?_
  obtain ⟨hc, h⟩ := h
  refine ml_row K hc dX3_begin_9 ?_
  refine j_istore_n K [(1, .int (st_1.1 0 ((2 : Int32)).toNatClampNeg)), (0, .ref (ad 0))] dX3_begin_10 rfl (by decide) rfl ?_
  refine j_aload_n K 1 dX3_begin_11 rfl rfl ?_
  obtain ⟨hp, h⟩ := h
  refine j_callVv K (As := []) (rest := []) (ctX3_anew (l := l) (D := D) (ct := ct) (ad := ad)  st_1 hp) gwX3_anew gdX3_anew ⟨Nat.le_of_ble_eq_true rfl, Nat.le_of_ble_eq_true rfl⟩ 0 rfl rfl rfl rfl rfl (Nat.le_of_ble_eq_true rfl) dX3_begin_12 ⟨Nat.le_of_ble_eq_true rfl, Nat.le_of_ble_eq_true rfl⟩ (fun st_2 hq => ?_)
  replace h := h st_2 hq
  refine j_aload_n K 1 dX3_begin_15 rfl rfl ?_
  refine j_iload_n K 0 dX3_begin_16 rfl rfl ?_
  obtain ⟨hp, h⟩ := h
  refine j_callVi K (As := [.int (st_1.1 0 ((2 : Int32)).toNatClampNeg)]) (rest := []) (ctX3_record (l := l) (D := D) (ct := ct) (ad := ad) (st_1.1 0 ((2 : Int32)).toNatClampNeg) st_2 hp) gwX3_record gdX3_record ⟨Nat.le_of_ble_eq_true rfl, Nat.le_of_ble_eq_true rfl⟩ 0 rfl rfl rfl rfl rfl (Nat.le_of_ble_eq_true rfl) dX3_begin_17 ⟨Nat.le_of_ble_eq_true rfl, Nat.le_of_ble_eq_true rfl⟩ (fun r_3 st_4 hq => ?_)
  replace h := h r_3 st_4 hq
  exact j_iret st_4 K hr rfl h (Nat.le_of_ble_eq_true rfl) (Nat.le_of_ble_eq_true rfl) dX3_begin_20
theorem cgX3_begin {l : Launch} {D : va_G} {ct : Nat → ClassId} {ad : Nat → Nat} {post : Int32 → MS → Prop}  (st : MS) (hw : wX3_begin_0 post  st) : ∀ sz, Met l yX3_begin (ws_ yX3_begin cX3_begin 2 (some .int)) { frames := 1, cells := 0, slots := 0, locals := 22 } (va_Pc [.ref (ad 0)] (cPre gT D ct (MW ct ad st) sz)) (va_Qi post (fun u => cB D ct (va_A (MW ct ad st) sz) (MW ct ad u)) (va_A (MW ct ad st) sz)) 0 0 (va_A (MW ct ad st) sz) := fun sz =>
  j_met (Qc := fun A => va_Qi post (fun u => cB D ct A (MW ct ad u)) A) (by decide) gT_ok (Nat.le_of_ble_eq_true rfl) (fun p e s m args below meth c A K hr _ _ => kX3_begin_0 K hr  st hw)
-- X3_place
theorem kX3_place_0 {p : Program} {l : Launch} {e : Env} {s : State} {m : MethodId} {args : Array Value} {below : List Frame} {meth : Method} {c : Code} {A : Nat → Prop} {D : va_G} {ct : Nat → ClassId} {ad : Nat → Nat} {post : Int32 → MS → Prop} (K : CX p s m args meth c cX3_place 2 RX3 A D ct gT) (hr : meth.sig.returnType = (some .int))   (x1 : Int32) (st : MS) (h : wX3_place_0 post  x1 st) : jJ p l e { frames := 9, cells := 0, slots := 0, locals := 196 } s m args below meth c (MQ below (va_Qi post (fun u => cB D ct A (MW ct ad u)) A) args s 0 0 A) A D 2 (MW ct ad st) 0 0 0 [(0, .ref (ad 0)), (1, .int x1)] [] := by
  unfold wX3_place_0 at h
  refine j_aload_n K 0 dX3_place_0 rfl rfl ?_
  obtain ⟨hp, h⟩ := h
  refine j_callVv K (As := []) (rest := []) (ctX3_remember (l := l) (D := D) (ct := ct) (ad := ad)  st hp) gwX3_remember gdX3_remember ⟨Nat.le_of_ble_eq_true rfl, Nat.le_of_ble_eq_true rfl⟩ 0 rfl rfl rfl rfl rfl (Nat.le_of_ble_eq_true rfl) dX3_place_1 ⟨Nat.le_of_ble_eq_true rfl, Nat.le_of_ble_eq_true rfl⟩ (fun st_1 hq => ?_)
  replace h := h st_1 hq
  refine j_aload_n K 0 dX3_place_4 rfl rfl ?_
  refine j_aload_n K 0 dX3_place_5 rfl rfl ?_
  refine j_iload_n K 1 dX3_place_6 rfl rfl ?_
  obtain ⟨hp, h⟩ := h
  refine j_callVi K (As := [.int x1]) (rest := [.ref (ad 0)]) (ctX3_places (l := l) (D := D) (ct := ct) (ad := ad) x1 st_1 hp) gwX3_places gdX3_places ⟨Nat.le_of_ble_eq_true rfl, Nat.le_of_ble_eq_true rfl⟩ 0 rfl rfl rfl rfl rfl (Nat.le_of_ble_eq_true rfl) dX3_place_7 ⟨Nat.le_of_ble_eq_true rfl, Nat.le_of_ble_eq_true rfl⟩ (fun r_2 st_3 hq => ?_)
  replace h := h r_2 st_3 hq
  obtain ⟨hp, h⟩ := h
  refine j_callVi K (As := [.int r_2]) (rest := []) (ctX3_record (l := l) (D := D) (ct := ct) (ad := ad) r_2 st_3 hp) gwX3_record gdX3_record ⟨Nat.le_of_ble_eq_true rfl, Nat.le_of_ble_eq_true rfl⟩ 0 rfl rfl rfl rfl rfl (Nat.le_of_ble_eq_true rfl) dX3_place_10 ⟨Nat.le_of_ble_eq_true rfl, Nat.le_of_ble_eq_true rfl⟩ (fun r_4 st_5 hq => ?_)
  replace h := h r_4 st_5 hq
  exact j_iret st_5 K hr rfl h (Nat.le_of_ble_eq_true rfl) (Nat.le_of_ble_eq_true rfl) dX3_place_13
theorem cgX3_place {l : Launch} {D : va_G} {ct : Nat → ClassId} {ad : Nat → Nat} {post : Int32 → MS → Prop} (x1 : Int32) (st : MS) (hw : wX3_place_0 post x1 st) : ∀ sz, Met l yX3_place (ws_ yX3_place cX3_place 2 (some .int)) { frames := 9, cells := 0, slots := 0, locals := 196 } (va_Pc [.ref (ad 0), .int x1] (cPre gT D ct (MW ct ad st) sz)) (va_Qi post (fun u => cB D ct (va_A (MW ct ad st) sz) (MW ct ad u)) (va_A (MW ct ad st) sz)) 0 0 (va_A (MW ct ad st) sz) := fun sz =>
  j_met (Qc := fun A => va_Qi post (fun u => cB D ct A (MW ct ad u)) A) (by decide) gT_ok (Nat.le_of_ble_eq_true rfl) (fun p e s m args below meth c A K hr _ _ => kX3_place_0 K hr x1 st hw)
-- X3_slide
theorem kX3_slide_0 {p : Program} {l : Launch} {e : Env} {s : State} {m : MethodId} {args : Array Value} {below : List Frame} {meth : Method} {c : Code} {A : Nat → Prop} {D : va_G} {ct : Nat → ClassId} {ad : Nat → Nat} {post : Int32 → MS → Prop} (K : CX p s m args meth c cX3_slide 3 RX3 A D ct gT) (hr : meth.sig.returnType = (some .int))   (x1 : Int32) (x2 : Int32) (st : MS) (h : wX3_slide_0 post  x1 x2 st) : jJ p l e { frames := 9, cells := 0, slots := 0, locals := 197 } s m args below meth c (MQ below (va_Qi post (fun u => cB D ct A (MW ct ad u)) A) args s 0 0 A) A D 3 (MW ct ad st) 0 0 0 [(0, .ref (ad 0)), (1, .int x1), (2, .int x2)] [] := by
  unfold wX3_slide_0 at h
  refine j_aload_n K 0 dX3_slide_0 rfl rfl ?_
  obtain ⟨hp, h⟩ := h
  refine j_callVv K (As := []) (rest := []) (ctX3_remember (l := l) (D := D) (ct := ct) (ad := ad)  st hp) gwX3_remember gdX3_remember ⟨Nat.le_of_ble_eq_true rfl, Nat.le_of_ble_eq_true rfl⟩ 0 rfl rfl rfl rfl rfl (Nat.le_of_ble_eq_true rfl) dX3_slide_1 ⟨Nat.le_of_ble_eq_true rfl, Nat.le_of_ble_eq_true rfl⟩ (fun st_1 hq => ?_)
  replace h := h st_1 hq
  refine j_aload_n K 0 dX3_slide_4 rfl rfl ?_
  refine j_aload_n K 0 dX3_slide_5 rfl rfl ?_
  refine j_iload_n K 1 dX3_slide_6 rfl rfl ?_
  refine j_iload_n K 2 dX3_slide_7 rfl rfl ?_
  obtain ⟨hp, h⟩ := h
  refine j_callVi K (As := [.int x1, .int x2]) (rest := [.ref (ad 0)]) (ctX3_slides (l := l) (D := D) (ct := ct) (ad := ad) x1 x2 st_1 hp) gwX3_slides gdX3_slides ⟨Nat.le_of_ble_eq_true rfl, Nat.le_of_ble_eq_true rfl⟩ 0 rfl rfl rfl rfl rfl (Nat.le_of_ble_eq_true rfl) dX3_slide_8 ⟨Nat.le_of_ble_eq_true rfl, Nat.le_of_ble_eq_true rfl⟩ (fun r_2 st_3 hq => ?_)
  replace h := h r_2 st_3 hq
  obtain ⟨hp, h⟩ := h
  refine j_callVi K (As := [.int r_2]) (rest := []) (ctX3_record (l := l) (D := D) (ct := ct) (ad := ad) r_2 st_3 hp) gwX3_record gdX3_record ⟨Nat.le_of_ble_eq_true rfl, Nat.le_of_ble_eq_true rfl⟩ 0 rfl rfl rfl rfl rfl (Nat.le_of_ble_eq_true rfl) dX3_slide_11 ⟨Nat.le_of_ble_eq_true rfl, Nat.le_of_ble_eq_true rfl⟩ (fun r_4 st_5 hq => ?_)
  replace h := h r_4 st_5 hq
  exact j_iret st_5 K hr rfl h (Nat.le_of_ble_eq_true rfl) (Nat.le_of_ble_eq_true rfl) dX3_slide_14
theorem cgX3_slide {l : Launch} {D : va_G} {ct : Nat → ClassId} {ad : Nat → Nat} {post : Int32 → MS → Prop} (x1 : Int32) (x2 : Int32) (st : MS) (hw : wX3_slide_0 post x1 x2 st) : ∀ sz, Met l yX3_slide (ws_ yX3_slide cX3_slide 3 (some .int)) { frames := 9, cells := 0, slots := 0, locals := 197 } (va_Pc [.ref (ad 0), .int x1, .int x2] (cPre gT D ct (MW ct ad st) sz)) (va_Qi post (fun u => cB D ct (va_A (MW ct ad st) sz) (MW ct ad u)) (va_A (MW ct ad st) sz)) 0 0 (va_A (MW ct ad st) sz) := fun sz =>
  j_met (Qc := fun A => va_Qi post (fun u => cB D ct A (MW ct ad u)) A) (by decide) gT_ok (Nat.le_of_ble_eq_true rfl) (fun p e s m args below meth c A K hr _ _ => kX3_slide_0 K hr x1 x2 st hw)
-- X3_pass
theorem kX3_pass_0 {p : Program} {l : Launch} {e : Env} {s : State} {m : MethodId} {args : Array Value} {below : List Frame} {meth : Method} {c : Code} {A : Nat → Prop} {D : va_G} {ct : Nat → ClassId} {ad : Nat → Nat} {post : Int32 → MS → Prop} (K : CX p s m args meth c cX3_pass 1 RX3 A D ct gT) (hr : meth.sig.returnType = (some .int))    (st : MS) (h : wX3_pass_0 post  st) : jJ p l e { frames := 8, cells := 0, slots := 0, locals := 175 } s m args below meth c (MQ below (va_Qi post (fun u => cB D ct A (MW ct ad u)) A) args s 0 0 A) A D 1 (MW ct ad st) 0 0 0 [(0, .ref (ad 0))] [] := by
  unfold wX3_pass_0 at h
  refine j_aload_n K 0 dX3_pass_0 rfl rfl ?_
  obtain ⟨hp, h⟩ := h
  refine j_callVv K (As := []) (rest := []) (ctX3_remember (l := l) (D := D) (ct := ct) (ad := ad)  st hp) gwX3_remember gdX3_remember ⟨Nat.le_of_ble_eq_true rfl, Nat.le_of_ble_eq_true rfl⟩ 0 rfl rfl rfl rfl rfl (Nat.le_of_ble_eq_true rfl) dX3_pass_1 ⟨Nat.le_of_ble_eq_true rfl, Nat.le_of_ble_eq_true rfl⟩ (fun st_1 hq => ?_)
  replace h := h st_1 hq
  refine j_aload_n K 0 dX3_pass_4 rfl rfl ?_
  refine j_aload_n K 0 dX3_pass_5 rfl rfl ?_
  refine j_bipush K (90 : Int32) dX3_pass_6 (by decide) ?_
  refine j_iconst K (0 : Int32) dX3_pass_8 (by decide) ?_
  obtain ⟨hp, h⟩ := h
  refine j_callVi K (As := [.int (90 : Int32), .int (0 : Int32)]) (rest := [.ref (ad 0)]) (ctX3_moves (l := l) (D := D) (ct := ct) (ad := ad) (90 : Int32) (0 : Int32) st_1 hp) gwX3_moves gdX3_moves ⟨Nat.le_of_ble_eq_true rfl, Nat.le_of_ble_eq_true rfl⟩ 0 rfl rfl rfl rfl rfl (Nat.le_of_ble_eq_true rfl) dX3_pass_9 ⟨Nat.le_of_ble_eq_true rfl, Nat.le_of_ble_eq_true rfl⟩ (fun r_2 st_3 hq => ?_)
  replace h := h r_2 st_3 hq
  obtain ⟨hp, h⟩ := h
  refine j_callVi K (As := [.int r_2]) (rest := []) (ctX3_record (l := l) (D := D) (ct := ct) (ad := ad) r_2 st_3 hp) gwX3_record gdX3_record ⟨Nat.le_of_ble_eq_true rfl, Nat.le_of_ble_eq_true rfl⟩ 0 rfl rfl rfl rfl rfl (Nat.le_of_ble_eq_true rfl) dX3_pass_12 ⟨Nat.le_of_ble_eq_true rfl, Nat.le_of_ble_eq_true rfl⟩ (fun r_4 st_5 hq => ?_)
  replace h := h r_4 st_5 hq
  exact j_iret st_5 K hr rfl h (Nat.le_of_ble_eq_true rfl) (Nat.le_of_ble_eq_true rfl) dX3_pass_15
theorem cgX3_pass {l : Launch} {D : va_G} {ct : Nat → ClassId} {ad : Nat → Nat} {post : Int32 → MS → Prop}  (st : MS) (hw : wX3_pass_0 post  st) : ∀ sz, Met l yX3_pass (ws_ yX3_pass cX3_pass 1 (some .int)) { frames := 8, cells := 0, slots := 0, locals := 175 } (va_Pc [.ref (ad 0)] (cPre gT D ct (MW ct ad st) sz)) (va_Qi post (fun u => cB D ct (va_A (MW ct ad st) sz) (MW ct ad u)) (va_A (MW ct ad st) sz)) 0 0 (va_A (MW ct ad st) sz) := fun sz =>
  j_met (Qc := fun A => va_Qi post (fun u => cB D ct A (MW ct ad u)) A) (by decide) gT_ok (Nat.le_of_ble_eq_true rfl) (fun p e s m args below meth c A K hr _ _ => kX3_pass_0 K hr  st hw)
-- X3_play
theorem kX3_play_0 {p : Program} {l : Launch} {e : Env} {s : State} {m : MethodId} {args : Array Value} {below : List Frame} {meth : Method} {c : Code} {A : Nat → Prop} {D : va_G} {ct : Nat → ClassId} {ad : Nat → Nat} {post : Int32 → MS → Prop} (K : CX p s m args meth c cX3_play 2 RX3 A D ct gT) (hr : meth.sig.returnType = (some .int))   (x1 : Int32) (st : MS) (h : wX3_play_0 post  x1 st) : jJ p l e { frames := 9, cells := 0, slots := 0, locals := 208 } s m args below meth c (MQ below (va_Qi post (fun u => cB D ct A (MW ct ad u)) A) args s 0 0 A) A D 2 (MW ct ad st) 0 0 0 [(0, .ref (ad 0)), (1, .int x1)] [] := by
  unfold wX3_play_0 at h
  refine j_aload_n K 0 dX3_play_0 rfl rfl ?_
  obtain ⟨hp, h⟩ := h
  refine j_callVv K (As := []) (rest := []) (ctX3_remember (l := l) (D := D) (ct := ct) (ad := ad)  st hp) gwX3_remember gdX3_remember ⟨Nat.le_of_ble_eq_true rfl, Nat.le_of_ble_eq_true rfl⟩ 0 rfl rfl rfl rfl rfl (Nat.le_of_ble_eq_true rfl) dX3_play_1 ⟨Nat.le_of_ble_eq_true rfl, Nat.le_of_ble_eq_true rfl⟩ (fun st_1 hq => ?_)
  replace h := h st_1 hq
  refine j_aload_n K 0 dX3_play_4 rfl rfl ?_
  refine j_aload_n K 0 dX3_play_5 rfl rfl ?_
  refine j_iload_n K 1 dX3_play_6 rfl rfl ?_
  obtain ⟨hp, h⟩ := h
  refine j_callVi K (As := [.int x1]) (rest := [.ref (ad 0)]) (ctX3_plays (l := l) (D := D) (ct := ct) (ad := ad) x1 st_1 hp) gwX3_plays gdX3_plays ⟨Nat.le_of_ble_eq_true rfl, Nat.le_of_ble_eq_true rfl⟩ 0 rfl rfl rfl rfl rfl (Nat.le_of_ble_eq_true rfl) dX3_play_7 ⟨Nat.le_of_ble_eq_true rfl, Nat.le_of_ble_eq_true rfl⟩ (fun r_2 st_3 hq => ?_)
  replace h := h r_2 st_3 hq
  obtain ⟨hp, h⟩ := h
  refine j_callVi K (As := [.int r_2]) (rest := []) (ctX3_record (l := l) (D := D) (ct := ct) (ad := ad) r_2 st_3 hp) gwX3_record gdX3_record ⟨Nat.le_of_ble_eq_true rfl, Nat.le_of_ble_eq_true rfl⟩ 0 rfl rfl rfl rfl rfl (Nat.le_of_ble_eq_true rfl) dX3_play_10 ⟨Nat.le_of_ble_eq_true rfl, Nat.le_of_ble_eq_true rfl⟩ (fun r_4 st_5 hq => ?_)
  replace h := h r_4 st_5 hq
  exact j_iret st_5 K hr rfl h (Nat.le_of_ble_eq_true rfl) (Nat.le_of_ble_eq_true rfl) dX3_play_13
theorem cgX3_play {l : Launch} {D : va_G} {ct : Nat → ClassId} {ad : Nat → Nat} {post : Int32 → MS → Prop} (x1 : Int32) (st : MS) (hw : wX3_play_0 post x1 st) : ∀ sz, Met l yX3_play (ws_ yX3_play cX3_play 2 (some .int)) { frames := 9, cells := 0, slots := 0, locals := 208 } (va_Pc [.ref (ad 0), .int x1] (cPre gT D ct (MW ct ad st) sz)) (va_Qi post (fun u => cB D ct (va_A (MW ct ad st) sz) (MW ct ad u)) (va_A (MW ct ad st) sz)) 0 0 (va_A (MW ct ad st) sz) := fun sz =>
  j_met (Qc := fun A => va_Qi post (fun u => cB D ct A (MW ct ad u)) A) (by decide) gT_ok (Nat.le_of_ble_eq_true rfl) (fun p e s m args below meth c A K hr _ _ => kX3_play_0 K hr x1 st hw)
-- X3_at
theorem kX3_at_43 {p : Program} {l : Launch} {e : Env} {s : State} {m : MethodId} {args : Array Value} {below : List Frame} {meth : Method} {c : Code} {A : Nat → Prop} {D : va_G} {ct : Nat → ClassId} {ad : Nat → Nat} {post : Int32 → MS → Prop} (K : CX p s m args meth c cX3_at 2 RX3 A D ct gT) (hr : meth.sig.returnType = (some .int))   (s0 : Int32) (st : MS) (h : wX3_at_43 post  s0 st) : jJ p l e { frames := 1, cells := 0, slots := 0, locals := 23 } s m args below meth c (MQ below (va_Qi post (fun u => cB D ct A (MW ct ad u)) A) args s 0 0 A) A D 2 (MW ct ad st) 0 0 43 [] [.int s0] := by
  unfold wX3_at_43 at h
  exact j_iret st K hr rfl h (Nat.le_of_ble_eq_true rfl) (Nat.le_of_ble_eq_true rfl) dX3_at_43
theorem kX3_at_35 {p : Program} {l : Launch} {e : Env} {s : State} {m : MethodId} {args : Array Value} {below : List Frame} {meth : Method} {c : Code} {A : Nat → Prop} {D : va_G} {ct : Nat → ClassId} {ad : Nat → Nat} {post : Int32 → MS → Prop} (K : CX p s m args meth c cX3_at 2 RX3 A D ct gT) (hr : meth.sig.returnType = (some .int))   (x1 : Int32) (st : MS) (h : wX3_at_35 post  x1 st) : jJ p l e { frames := 1, cells := 0, slots := 0, locals := 23 } s m args below meth c (MQ below (va_Qi post (fun u => cB D ct A (MW ct ad u)) A) args s 0 0 A) A D 2 (MW ct ad st) 0 0 35 [(0, .ref (ad 0)), (1, .int x1)] [] := by
  unfold wX3_at_35 at h
  refine j_aload_n K 0 dX3_at_35 rfl rfl ?_
  refine mg_cells K dX3_at_36 ?_
  refine j_iload_n K 1 dX3_at_39 rfl rfl ?_
  obtain ⟨hc, h⟩ := h
  refine ml_cells K hc dX3_at_40 ?_
  refine j_iconst K (1 : Int32) dX3_at_41 (by decide) ?_
  refine j_isub K dX3_at_42 ?_
  refine j_lv K [] (lv' := []) rfl ?_
  exact kX3_at_43 K hr  ((st.1 7 (x1).toNatClampNeg) - (1 : Int32)) st h
theorem kX3_at_30 {p : Program} {l : Launch} {e : Env} {s : State} {m : MethodId} {args : Array Value} {below : List Frame} {meth : Method} {c : Code} {A : Nat → Prop} {D : va_G} {ct : Nat → ClassId} {ad : Nat → Nat} {post : Int32 → MS → Prop} (K : CX p s m args meth c cX3_at 2 RX3 A D ct gT) (hr : meth.sig.returnType = (some .int))    (st : MS) (h : wX3_at_30 post  st) : jJ p l e { frames := 1, cells := 0, slots := 0, locals := 23 } s m args below meth c (MQ below (va_Qi post (fun u => cB D ct A (MW ct ad u)) A) args s 0 0 A) A D 2 (MW ct ad st) 0 0 30 [] [] := by
  unfold wX3_at_30 at h
  refine j_bipush K (-6 : Int32) dX3_at_30 (by decide) ?_
  refine j_goto K 43 dX3_at_32 (by decide) ?_
  exact kX3_at_43 K hr  (-6 : Int32) st h
theorem kX3_at_13 {p : Program} {l : Launch} {e : Env} {s : State} {m : MethodId} {args : Array Value} {below : List Frame} {meth : Method} {c : Code} {A : Nat → Prop} {D : va_G} {ct : Nat → ClassId} {ad : Nat → Nat} {post : Int32 → MS → Prop} (K : CX p s m args meth c cX3_at 2 RX3 A D ct gT) (hr : meth.sig.returnType = (some .int))   (x1 : Int32) (st : MS) (h : wX3_at_13 post  x1 st) : jJ p l e { frames := 1, cells := 0, slots := 0, locals := 23 } s m args below meth c (MQ below (va_Qi post (fun u => cB D ct A (MW ct ad u)) A) args s 0 0 A) A D 2 (MW ct ad st) 0 0 13 [(0, .ref (ad 0)), (1, .int x1)] [] := by
  unfold wX3_at_13 at h
  refine j_aload_n K 0 dX3_at_13 rfl rfl ?_
  refine j_aload_n K 0 dX3_at_14 rfl rfl ?_
  obtain ⟨hp, h⟩ := h
  refine j_callVi K (As := []) (rest := [.ref (ad 0)]) (ctX3_now (l := l) (D := D) (ct := ct) (ad := ad)  st hp) gwX3_now gdX3_now ⟨Nat.le_of_ble_eq_true rfl, Nat.le_of_ble_eq_true rfl⟩ 0 rfl rfl rfl rfl rfl (Nat.le_of_ble_eq_true rfl) dX3_at_15 ⟨Nat.le_of_ble_eq_true rfl, Nat.le_of_ble_eq_true rfl⟩ (fun r_1 st_2 hq => ?_)
  obtain ⟨hq, rfl⟩ := hq
  replace h := h r_1 hq
  obtain ⟨hp, h⟩ := h
  refine j_callVv K (As := [.int r_1]) (rest := []) (ctX3_open (l := l) (D := D) (ct := ct) (ad := ad) r_1 st hp) gwX3_open gdX3_open ⟨Nat.le_of_ble_eq_true rfl, Nat.le_of_ble_eq_true rfl⟩ 0 rfl rfl rfl rfl rfl (Nat.le_of_ble_eq_true rfl) dX3_at_18 ⟨Nat.le_of_ble_eq_true rfl, Nat.le_of_ble_eq_true rfl⟩ (fun st_3 hq => ?_)
  replace h := h st_3 hq
  refine j_aload_n K 0 dX3_at_21 rfl rfl ?_
  refine mg_cells K dX3_at_22 ?_
  refine j_iload_n K 1 dX3_at_25 rfl rfl ?_
  obtain ⟨hc, h⟩ := h
  refine ml_cells K hc dX3_at_26 ?_
  refine j_if_ne K 35 dX3_at_27 (by decide) (fun hc => ?_) (fun hc => ?_)
  · exact kX3_at_35 K hr  x1 st_3 (h.1 hc)
  · refine j_lv K [] (lv' := []) rfl ?_
    exact kX3_at_30 K hr  st_3 (h.2 hc)
theorem kX3_at_11 {p : Program} {l : Launch} {e : Env} {s : State} {m : MethodId} {args : Array Value} {below : List Frame} {meth : Method} {c : Code} {A : Nat → Prop} {D : va_G} {ct : Nat → ClassId} {ad : Nat → Nat} {post : Int32 → MS → Prop} (K : CX p s m args meth c cX3_at 2 RX3 A D ct gT) (hr : meth.sig.returnType = (some .int))    (st : MS) (h : wX3_at_11 post  st) : jJ p l e { frames := 1, cells := 0, slots := 0, locals := 23 } s m args below meth c (MQ below (va_Qi post (fun u => cB D ct A (MW ct ad u)) A) args s 0 0 A) A D 2 (MW ct ad st) 0 0 11 [] [] := by
  unfold wX3_at_11 at h
  refine j_iconst K (-1 : Int32) dX3_at_11 (by decide) ?_
  exact j_iret st K hr rfl h (Nat.le_of_ble_eq_true rfl) (Nat.le_of_ble_eq_true rfl) dX3_at_12
theorem kX3_at_0 {p : Program} {l : Launch} {e : Env} {s : State} {m : MethodId} {args : Array Value} {below : List Frame} {meth : Method} {c : Code} {A : Nat → Prop} {D : va_G} {ct : Nat → ClassId} {ad : Nat → Nat} {post : Int32 → MS → Prop} (K : CX p s m args meth c cX3_at 2 RX3 A D ct gT) (hr : meth.sig.returnType = (some .int))   (x1 : Int32) (st : MS) (h : wX3_at_0 post  x1 st) : jJ p l e { frames := 1, cells := 0, slots := 0, locals := 23 } s m args below meth c (MQ below (va_Qi post (fun u => cB D ct A (MW ct ad u)) A) args s 0 0 A) A D 2 (MW ct ad st) 0 0 0 [(0, .ref (ad 0)), (1, .int x1)] [] := by
  unfold wX3_at_0 at h
  refine j_iload_n K 1 dX3_at_0 rfl rfl ?_
  refine j_i2l K dX3_at_1 ?_
  refine j_iconst K (0 : Int32) dX3_at_2 (by decide) ?_
  refine j_bipush K (8 : Int32) dX3_at_3 (by decide) ?_
  refine j_callSi K (As := [.long (x1.toInt64), .int (0 : Int32), .int (8 : Int32)]) (rest := []) (ctX3_in (l := l) (D := D) (ct := ct) (G := gT) (ws := MW ct ad st) gT_ok (x1.toInt64) (0 : Int32) (8 : Int32)) gwX3_in gdX3_in ⟨Nat.le_of_ble_eq_true rfl, Nat.le_of_ble_eq_true rfl⟩ rfl rfl (Nat.le_of_ble_eq_true rfl) dX3_at_5 ⟨Nat.le_of_ble_eq_true rfl, Nat.le_of_ble_eq_true rfl⟩ (fun r_1 _ hq => ?_)
  replace h := h r_1 hq
  refine j_if_ne K 13 dX3_at_8 (by decide) (fun hc => ?_) (fun hc => ?_)
  · exact kX3_at_13 K hr  x1 st (h.1 hc)
  · refine j_lv K [] (lv' := []) rfl ?_
    exact kX3_at_11 K hr  st (h.2 hc)
theorem cgX3_at {l : Launch} {D : va_G} {ct : Nat → ClassId} {ad : Nat → Nat} {post : Int32 → MS → Prop} (x1 : Int32) (st : MS) (hw : wX3_at_0 post x1 st) : ∀ sz, Met l yX3_at (ws_ yX3_at cX3_at 2 (some .int)) { frames := 1, cells := 0, slots := 0, locals := 23 } (va_Pc [.ref (ad 0), .int x1] (cPre gT D ct (MW ct ad st) sz)) (va_Qi post (fun u => cB D ct (va_A (MW ct ad st) sz) (MW ct ad u)) (va_A (MW ct ad st) sz)) 0 0 (va_A (MW ct ad st) sz) := fun sz =>
  j_met (Qc := fun A => va_Qi post (fun u => cB D ct A (MW ct ad u)) A) (by decide) gT_ok (Nat.le_of_ble_eq_true rfl) (fun p e s m args below meth c A K hr _ _ => kX3_at_0 K hr x1 st hw)
-- X3_count
theorem kX3_count_72 {p : Program} {l : Launch} {e : Env} {s : State} {m : MethodId} {args : Array Value} {below : List Frame} {meth : Method} {c : Code} {A : Nat → Prop} {D : va_G} {ct : Nat → ClassId} {ad : Nat → Nat} {post : Int32 → MS → Prop} (K : CX p s m args meth c cX3_count 2 RX3 A D ct gT) (hr : meth.sig.returnType = (some .int))    (st : MS) (h : wX3_count_72 post  st) : jJ p l e { frames := 5, cells := 0, slots := 0, locals := 109 } s m args below meth c (MQ below (va_Qi post (fun u => cB D ct A (MW ct ad u)) A) args s 0 0 A) A D 2 (MW ct ad st) 0 0 72 [(0, .ref (ad 0))] [] := by
  unfold wX3_count_72 at h
  refine j_aload_n K 0 dX3_count_72 rfl rfl ?_
  refine mg_mover K dX3_count_73 ?_
  exact j_iret st K hr rfl h (Nat.le_of_ble_eq_true rfl) (Nat.le_of_ble_eq_true rfl) dX3_count_76
theorem kX3_count_77 {p : Program} {l : Launch} {e : Env} {s : State} {m : MethodId} {args : Array Value} {below : List Frame} {meth : Method} {c : Code} {A : Nat → Prop} {D : va_G} {ct : Nat → ClassId} {ad : Nat → Nat} {post : Int32 → MS → Prop} (K : CX p s m args meth c cX3_count 2 RX3 A D ct gT) (hr : meth.sig.returnType = (some .int))    (st : MS) (h : wX3_count_77 post  st) : jJ p l e { frames := 5, cells := 0, slots := 0, locals := 109 } s m args below meth c (MQ below (va_Qi post (fun u => cB D ct A (MW ct ad u)) A) args s 0 0 A) A D 2 (MW ct ad st) 0 0 77 [(0, .ref (ad 0))] [] := by
  unfold wX3_count_77 at h
  refine j_aload_n K 0 dX3_count_77 rfl rfl ?_
  refine mg_row K dX3_count_78 ?_
  refine j_iconst K (2 : Int32) dX3_count_81 (by decide) ?_
  obtain ⟨hc, h⟩ := h
  refine ml_row K hc dX3_count_82 ?_
  exact j_iret st K hr rfl h (Nat.le_of_ble_eq_true rfl) (Nat.le_of_ble_eq_true rfl) dX3_count_83
theorem kX3_count_84 {p : Program} {l : Launch} {e : Env} {s : State} {m : MethodId} {args : Array Value} {below : List Frame} {meth : Method} {c : Code} {A : Nat → Prop} {D : va_G} {ct : Nat → ClassId} {ad : Nat → Nat} {post : Int32 → MS → Prop} (K : CX p s m args meth c cX3_count 2 RX3 A D ct gT) (hr : meth.sig.returnType = (some .int))   (x1 : Int32) (st : MS) (h : wX3_count_84 post  x1 st) : jJ p l e { frames := 5, cells := 0, slots := 0, locals := 109 } s m args below meth c (MQ below (va_Qi post (fun u => cB D ct A (MW ct ad u)) A) args s 0 0 A) A D 2 (MW ct ad st) 0 0 84 [(0, .ref (ad 0)), (1, .int x1)] [] := by
  unfold wX3_count_84 at h
  refine j_aload_n K 0 dX3_count_84 rfl rfl ?_
  refine j_iload_n K 1 dX3_count_85 rfl rfl ?_
  refine j_iconst K (2 : Int32) dX3_count_86 (by decide) ?_
  refine j_isub K dX3_count_87 ?_
  obtain ⟨hp, h⟩ := h
  refine j_callVi K (As := [.int (x1 - (2 : Int32))]) (rest := []) (ctX3_men (l := l) (D := D) (ct := ct) (ad := ad) (x1 - (2 : Int32)) st hp) gwX3_men gdX3_men ⟨Nat.le_of_ble_eq_true rfl, Nat.le_of_ble_eq_true rfl⟩ 0 rfl rfl rfl rfl rfl (Nat.le_of_ble_eq_true rfl) dX3_count_88 ⟨Nat.le_of_ble_eq_true rfl, Nat.le_of_ble_eq_true rfl⟩ (fun r_1 st_2 hq => ?_)
  obtain ⟨hq, rfl⟩ := hq
  replace h := h r_1 hq
  exact j_iret st K hr rfl h (Nat.le_of_ble_eq_true rfl) (Nat.le_of_ble_eq_true rfl) dX3_count_91
theorem kX3_count_104 {p : Program} {l : Launch} {e : Env} {s : State} {m : MethodId} {args : Array Value} {below : List Frame} {meth : Method} {c : Code} {A : Nat → Prop} {D : va_G} {ct : Nat → ClassId} {ad : Nat → Nat} {post : Int32 → MS → Prop} (K : CX p s m args meth c cX3_count 2 RX3 A D ct gT) (hr : meth.sig.returnType = (some .int))   (s0 : Int32) (st : MS) (h : wX3_count_104 post  s0 st) : jJ p l e { frames := 5, cells := 0, slots := 0, locals := 109 } s m args below meth c (MQ below (va_Qi post (fun u => cB D ct A (MW ct ad u)) A) args s 0 0 A) A D 2 (MW ct ad st) 0 0 104 [] [.int s0] := by
  unfold wX3_count_104 at h
  exact j_iret st K hr rfl h (Nat.le_of_ble_eq_true rfl) (Nat.le_of_ble_eq_true rfl) dX3_count_104
theorem kX3_count_103 {p : Program} {l : Launch} {e : Env} {s : State} {m : MethodId} {args : Array Value} {below : List Frame} {meth : Method} {c : Code} {A : Nat → Prop} {D : va_G} {ct : Nat → ClassId} {ad : Nat → Nat} {post : Int32 → MS → Prop} (K : CX p s m args meth c cX3_count 2 RX3 A D ct gT) (hr : meth.sig.returnType = (some .int))    (st : MS) (h : wX3_count_103 post  st) : jJ p l e { frames := 5, cells := 0, slots := 0, locals := 109 } s m args below meth c (MQ below (va_Qi post (fun u => cB D ct A (MW ct ad u)) A) args s 0 0 A) A D 2 (MW ct ad st) 0 0 103 [] [] := by
  unfold wX3_count_103 at h
  refine j_iconst K (0 : Int32) dX3_count_103 (by decide) ?_
  exact kX3_count_104 K hr  (0 : Int32) st h
theorem kX3_count_99 {p : Program} {l : Launch} {e : Env} {s : State} {m : MethodId} {args : Array Value} {below : List Frame} {meth : Method} {c : Code} {A : Nat → Prop} {D : va_G} {ct : Nat → ClassId} {ad : Nat → Nat} {post : Int32 → MS → Prop} (K : CX p s m args meth c cX3_count 2 RX3 A D ct gT) (hr : meth.sig.returnType = (some .int))    (st : MS) (h : wX3_count_99 post  st) : jJ p l e { frames := 5, cells := 0, slots := 0, locals := 109 } s m args below meth c (MQ below (va_Qi post (fun u => cB D ct A (MW ct ad u)) A) args s 0 0 A) A D 2 (MW ct ad st) 0 0 99 [] [] := by
  unfold wX3_count_99 at h
  refine j_iconst K (1 : Int32) dX3_count_99 (by decide) ?_
  refine j_goto K 104 dX3_count_100 (by decide) ?_
  exact kX3_count_104 K hr  (1 : Int32) st h
theorem kX3_count_92 {p : Program} {l : Launch} {e : Env} {s : State} {m : MethodId} {args : Array Value} {below : List Frame} {meth : Method} {c : Code} {A : Nat → Prop} {D : va_G} {ct : Nat → ClassId} {ad : Nat → Nat} {post : Int32 → MS → Prop} (K : CX p s m args meth c cX3_count 2 RX3 A D ct gT) (hr : meth.sig.returnType = (some .int))    (st : MS) (h : wX3_count_92 post  st) : jJ p l e { frames := 5, cells := 0, slots := 0, locals := 109 } s m args below meth c (MQ below (va_Qi post (fun u => cB D ct A (MW ct ad u)) A) args s 0 0 A) A D 2 (MW ct ad st) 0 0 92 [(0, .ref (ad 0))] [] := by
  unfold wX3_count_92 at h
  refine j_aload_n K 0 dX3_count_92 rfl rfl ?_
  obtain ⟨hp, h⟩ := h
  refine j_callVi K (As := []) (rest := []) (ctX3_isOver (l := l) (D := D) (ct := ct) (ad := ad)  st hp) gwX3_isOver gdX3_isOver ⟨Nat.le_of_ble_eq_true rfl, Nat.le_of_ble_eq_true rfl⟩ 0 rfl rfl rfl rfl rfl (Nat.le_of_ble_eq_true rfl) dX3_count_93 ⟨Nat.le_of_ble_eq_true rfl, Nat.le_of_ble_eq_true rfl⟩ (fun r_1 st_2 hq => ?_)
  replace h := h r_1 st_2 hq
  refine j_if_eq K 103 dX3_count_96 (by decide) (fun hc => ?_) (fun hc => ?_)
  · refine j_lv K [] (lv' := []) rfl ?_
    exact kX3_count_103 K hr  st_2 (h.1 hc)
  · refine j_lv K [] (lv' := []) rfl ?_
    exact kX3_count_99 K hr  st_2 (h.2 hc)
theorem kX3_count_123 {p : Program} {l : Launch} {e : Env} {s : State} {m : MethodId} {args : Array Value} {below : List Frame} {meth : Method} {c : Code} {A : Nat → Prop} {D : va_G} {ct : Nat → ClassId} {ad : Nat → Nat} {post : Int32 → MS → Prop} (K : CX p s m args meth c cX3_count 2 RX3 A D ct gT) (hr : meth.sig.returnType = (some .int))   (s0 : Int32) (st : MS) (h : wX3_count_123 post  s0 st) : jJ p l e { frames := 5, cells := 0, slots := 0, locals := 109 } s m args below meth c (MQ below (va_Qi post (fun u => cB D ct A (MW ct ad u)) A) args s 0 0 A) A D 2 (MW ct ad st) 0 0 123 [] [.int s0] := by
  unfold wX3_count_123 at h
  exact j_iret st K hr rfl h (Nat.le_of_ble_eq_true rfl) (Nat.le_of_ble_eq_true rfl) dX3_count_123
theorem kX3_count_121 {p : Program} {l : Launch} {e : Env} {s : State} {m : MethodId} {args : Array Value} {below : List Frame} {meth : Method} {c : Code} {A : Nat → Prop} {D : va_G} {ct : Nat → ClassId} {ad : Nat → Nat} {post : Int32 → MS → Prop} (K : CX p s m args meth c cX3_count 2 RX3 A D ct gT) (hr : meth.sig.returnType = (some .int))    (st : MS) (h : wX3_count_121 post  st) : jJ p l e { frames := 5, cells := 0, slots := 0, locals := 109 } s m args below meth c (MQ below (va_Qi post (fun u => cB D ct A (MW ct ad u)) A) args s 0 0 A) A D 2 (MW ct ad st) 0 0 121 [] [] := by
  unfold wX3_count_121 at h
  refine j_bipush K (-6 : Int32) dX3_count_121 (by decide) ?_
  exact kX3_count_123 K hr  (-6 : Int32) st h
theorem kX3_count_112 {p : Program} {l : Launch} {e : Env} {s : State} {m : MethodId} {args : Array Value} {below : List Frame} {meth : Method} {c : Code} {A : Nat → Prop} {D : va_G} {ct : Nat → ClassId} {ad : Nat → Nat} {post : Int32 → MS → Prop} (K : CX p s m args meth c cX3_count 2 RX3 A D ct gT) (hr : meth.sig.returnType = (some .int))    (st : MS) (h : wX3_count_112 post  st) : jJ p l e { frames := 5, cells := 0, slots := 0, locals := 109 } s m args below meth c (MQ below (va_Qi post (fun u => cB D ct A (MW ct ad u)) A) args s 0 0 A) A D 2 (MW ct ad st) 0 0 112 [(0, .ref (ad 0))] [] := by
  unfold wX3_count_112 at h
  refine j_iconst K (1 : Int32) dX3_count_112 (by decide) ?_
  refine j_aload_n K 0 dX3_count_113 rfl rfl ?_
  refine mg_mover K dX3_count_114 ?_
  refine j_isub K dX3_count_117 ?_
  refine j_goto K 123 dX3_count_118 (by decide) ?_
  refine j_lv K [] (lv' := []) rfl ?_
  exact kX3_count_123 K hr  ((1 : Int32) - (st.2 3)) st h
theorem kX3_count_105 {p : Program} {l : Launch} {e : Env} {s : State} {m : MethodId} {args : Array Value} {below : List Frame} {meth : Method} {c : Code} {A : Nat → Prop} {D : va_G} {ct : Nat → ClassId} {ad : Nat → Nat} {post : Int32 → MS → Prop} (K : CX p s m args meth c cX3_count 2 RX3 A D ct gT) (hr : meth.sig.returnType = (some .int))    (st : MS) (h : wX3_count_105 post  st) : jJ p l e { frames := 5, cells := 0, slots := 0, locals := 109 } s m args below meth c (MQ below (va_Qi post (fun u => cB D ct A (MW ct ad u)) A) args s 0 0 A) A D 2 (MW ct ad st) 0 0 105 [(0, .ref (ad 0))] [] := by
  unfold wX3_count_105 at h
  refine j_aload_n K 0 dX3_count_105 rfl rfl ?_
  obtain ⟨hp, h⟩ := h
  refine j_callVi K (As := []) (rest := []) (ctX3_hasLost (l := l) (D := D) (ct := ct) (ad := ad)  st hp) gwX3_hasLost gdX3_hasLost ⟨Nat.le_of_ble_eq_true rfl, Nat.le_of_ble_eq_true rfl⟩ 0 rfl rfl rfl rfl rfl (Nat.le_of_ble_eq_true rfl) dX3_count_106 ⟨Nat.le_of_ble_eq_true rfl, Nat.le_of_ble_eq_true rfl⟩ (fun r_1 st_2 hq => ?_)
  replace h := h r_1 st_2 hq
  refine j_if_eq K 121 dX3_count_109 (by decide) (fun hc => ?_) (fun hc => ?_)
  · refine j_lv K [] (lv' := []) rfl ?_
    exact kX3_count_121 K hr  st_2 (h.1 hc)
  · exact kX3_count_112 K hr  st_2 (h.2 hc)
theorem kX3_count_136 {p : Program} {l : Launch} {e : Env} {s : State} {m : MethodId} {args : Array Value} {below : List Frame} {meth : Method} {c : Code} {A : Nat → Prop} {D : va_G} {ct : Nat → ClassId} {ad : Nat → Nat} {post : Int32 → MS → Prop} (K : CX p s m args meth c cX3_count 2 RX3 A D ct gT) (hr : meth.sig.returnType = (some .int))   (s0 : Int32) (st : MS) (h : wX3_count_136 post  s0 st) : jJ p l e { frames := 5, cells := 0, slots := 0, locals := 109 } s m args below meth c (MQ below (va_Qi post (fun u => cB D ct A (MW ct ad u)) A) args s 0 0 A) A D 2 (MW ct ad st) 0 0 136 [] [.int s0] := by
  unfold wX3_count_136 at h
  exact j_iret st K hr rfl h (Nat.le_of_ble_eq_true rfl) (Nat.le_of_ble_eq_true rfl) dX3_count_136
theorem kX3_count_135 {p : Program} {l : Launch} {e : Env} {s : State} {m : MethodId} {args : Array Value} {below : List Frame} {meth : Method} {c : Code} {A : Nat → Prop} {D : va_G} {ct : Nat → ClassId} {ad : Nat → Nat} {post : Int32 → MS → Prop} (K : CX p s m args meth c cX3_count 2 RX3 A D ct gT) (hr : meth.sig.returnType = (some .int))    (st : MS) (h : wX3_count_135 post  st) : jJ p l e { frames := 5, cells := 0, slots := 0, locals := 109 } s m args below meth c (MQ below (va_Qi post (fun u => cB D ct A (MW ct ad u)) A) args s 0 0 A) A D 2 (MW ct ad st) 0 0 135 [] [] := by
  unfold wX3_count_135 at h
  refine j_iconst K (0 : Int32) dX3_count_135 (by decide) ?_
  exact kX3_count_136 K hr  (0 : Int32) st h
theorem kX3_count_131 {p : Program} {l : Launch} {e : Env} {s : State} {m : MethodId} {args : Array Value} {below : List Frame} {meth : Method} {c : Code} {A : Nat → Prop} {D : va_G} {ct : Nat → ClassId} {ad : Nat → Nat} {post : Int32 → MS → Prop} (K : CX p s m args meth c cX3_count 2 RX3 A D ct gT) (hr : meth.sig.returnType = (some .int))    (st : MS) (h : wX3_count_131 post  st) : jJ p l e { frames := 5, cells := 0, slots := 0, locals := 109 } s m args below meth c (MQ below (va_Qi post (fun u => cB D ct A (MW ct ad u)) A) args s 0 0 A) A D 2 (MW ct ad st) 0 0 131 [] [] := by
  unfold wX3_count_131 at h
  refine j_iconst K (1 : Int32) dX3_count_131 (by decide) ?_
  refine j_goto K 136 dX3_count_132 (by decide) ?_
  exact kX3_count_136 K hr  (1 : Int32) st h
theorem kX3_count_124 {p : Program} {l : Launch} {e : Env} {s : State} {m : MethodId} {args : Array Value} {below : List Frame} {meth : Method} {c : Code} {A : Nat → Prop} {D : va_G} {ct : Nat → ClassId} {ad : Nat → Nat} {post : Int32 → MS → Prop} (K : CX p s m args meth c cX3_count 2 RX3 A D ct gT) (hr : meth.sig.returnType = (some .int))    (st : MS) (h : wX3_count_124 post  st) : jJ p l e { frames := 5, cells := 0, slots := 0, locals := 109 } s m args below meth c (MQ below (va_Qi post (fun u => cB D ct A (MW ct ad u)) A) args s 0 0 A) A D 2 (MW ct ad st) 0 0 124 [(0, .ref (ad 0))] [] := by
  unfold wX3_count_124 at h
  refine j_aload_n K 0 dX3_count_124 rfl rfl ?_
  obtain ⟨hp, h⟩ := h
  refine j_callVi K (As := []) (rest := []) (ctX3_isDrawn (l := l) (D := D) (ct := ct) (ad := ad)  st hp) gwX3_isDrawn gdX3_isDrawn ⟨Nat.le_of_ble_eq_true rfl, Nat.le_of_ble_eq_true rfl⟩ 0 rfl rfl rfl rfl rfl (Nat.le_of_ble_eq_true rfl) dX3_count_125 ⟨Nat.le_of_ble_eq_true rfl, Nat.le_of_ble_eq_true rfl⟩ (fun r_1 st_2 hq => ?_)
  replace h := h r_1 st_2 hq
  refine j_if_eq K 135 dX3_count_128 (by decide) (fun hc => ?_) (fun hc => ?_)
  · refine j_lv K [] (lv' := []) rfl ?_
    exact kX3_count_135 K hr  st_2 (h.1 hc)
  · refine j_lv K [] (lv' := []) rfl ?_
    exact kX3_count_131 K hr  st_2 (h.2 hc)
theorem kX3_count_137 {p : Program} {l : Launch} {e : Env} {s : State} {m : MethodId} {args : Array Value} {below : List Frame} {meth : Method} {c : Code} {A : Nat → Prop} {D : va_G} {ct : Nat → ClassId} {ad : Nat → Nat} {post : Int32 → MS → Prop} (K : CX p s m args meth c cX3_count 2 RX3 A D ct gT) (hr : meth.sig.returnType = (some .int))    (st : MS) (h : wX3_count_137 post  st) : jJ p l e { frames := 5, cells := 0, slots := 0, locals := 109 } s m args below meth c (MQ below (va_Qi post (fun u => cB D ct A (MW ct ad u)) A) args s 0 0 A) A D 2 (MW ct ad st) 0 0 137 [(0, .ref (ad 0))] [] := by
  unfold wX3_count_137 at h
  refine j_aload_n K 0 dX3_count_137 rfl rfl ?_
  obtain ⟨hp, h⟩ := h
  refine j_callVi K (As := []) (rest := []) (ctX3_often (l := l) (D := D) (ct := ct) (ad := ad)  st hp) gwX3_often gdX3_often ⟨Nat.le_of_ble_eq_true rfl, Nat.le_of_ble_eq_true rfl⟩ 0 rfl rfl rfl rfl rfl (Nat.le_of_ble_eq_true rfl) dX3_count_138 ⟨Nat.le_of_ble_eq_true rfl, Nat.le_of_ble_eq_true rfl⟩ (fun r_1 st_2 hq => ?_)
  obtain ⟨hq, rfl⟩ := hq
  replace h := h r_1 hq
  exact j_iret st K hr rfl h (Nat.le_of_ble_eq_true rfl) (Nat.le_of_ble_eq_true rfl) dX3_count_141
theorem kX3_count_142 {p : Program} {l : Launch} {e : Env} {s : State} {m : MethodId} {args : Array Value} {below : List Frame} {meth : Method} {c : Code} {A : Nat → Prop} {D : va_G} {ct : Nat → ClassId} {ad : Nat → Nat} {post : Int32 → MS → Prop} (K : CX p s m args meth c cX3_count 2 RX3 A D ct gT) (hr : meth.sig.returnType = (some .int))   (x1 : Int32) (st : MS) (h : wX3_count_142 post  x1 st) : jJ p l e { frames := 5, cells := 0, slots := 0, locals := 109 } s m args below meth c (MQ below (va_Qi post (fun u => cB D ct A (MW ct ad u)) A) args s 0 0 A) A D 2 (MW ct ad st) 0 0 142 [(0, .ref (ad 0)), (1, .int x1)] [] := by
  unfold wX3_count_142 at h
  refine j_aload_n K 0 dX3_count_142 rfl rfl ?_
  refine mg_row K dX3_count_143 ?_
  refine j_iload_n K 1 dX3_count_146 rfl rfl ?_
  refine j_bipush K (8 : Int32) dX3_count_147 (by decide) ?_
  refine j_isub K dX3_count_149 ?_
  obtain ⟨hc, h⟩ := h
  refine ml_row K hc dX3_count_150 ?_
  exact j_iret st K hr rfl h (Nat.le_of_ble_eq_true rfl) (Nat.le_of_ble_eq_true rfl) dX3_count_151
theorem kX3_count_152 {p : Program} {l : Launch} {e : Env} {s : State} {m : MethodId} {args : Array Value} {below : List Frame} {meth : Method} {c : Code} {A : Nat → Prop} {D : va_G} {ct : Nat → ClassId} {ad : Nat → Nat} {post : Int32 → MS → Prop} (K : CX p s m args meth c cX3_count 2 RX3 A D ct gT) (hr : meth.sig.returnType = (some .int))    (st : MS) (h : wX3_count_152 post  st) : jJ p l e { frames := 5, cells := 0, slots := 0, locals := 109 } s m args below meth c (MQ below (va_Qi post (fun u => cB D ct A (MW ct ad u)) A) args s 0 0 A) A D 2 (MW ct ad st) 0 0 152 [(0, .ref (ad 0))] [] := by
  unfold wX3_count_152 at h
  refine j_aload_n K 0 dX3_count_152 rfl rfl ?_
  refine mg_length K dX3_count_153 ?_
  exact j_iret st K hr rfl h (Nat.le_of_ble_eq_true rfl) (Nat.le_of_ble_eq_true rfl) dX3_count_156
theorem kX3_count_157 {p : Program} {l : Launch} {e : Env} {s : State} {m : MethodId} {args : Array Value} {below : List Frame} {meth : Method} {c : Code} {A : Nat → Prop} {D : va_G} {ct : Nat → ClassId} {ad : Nat → Nat} {post : Int32 → MS → Prop} (K : CX p s m args meth c cX3_count 2 RX3 A D ct gT) (hr : meth.sig.returnType = (some .int))    (st : MS) (h : wX3_count_157 post  st) : jJ p l e { frames := 5, cells := 0, slots := 0, locals := 109 } s m args below meth c (MQ below (va_Qi post (fun u => cB D ct A (MW ct ad u)) A) args s 0 0 A) A D 2 (MW ct ad st) 0 0 157 [(0, .ref (ad 0))] [] := by
  unfold wX3_count_157 at h
  refine j_aload_n K 0 dX3_count_157 rfl rfl ?_
  refine mg_states K dX3_count_158 ?_
  exact j_iret st K hr rfl h (Nat.le_of_ble_eq_true rfl) (Nat.le_of_ble_eq_true rfl) dX3_count_161
theorem kX3_count_162 {p : Program} {l : Launch} {e : Env} {s : State} {m : MethodId} {args : Array Value} {below : List Frame} {meth : Method} {c : Code} {A : Nat → Prop} {D : va_G} {ct : Nat → ClassId} {ad : Nat → Nat} {post : Int32 → MS → Prop} (K : CX p s m args meth c cX3_count 2 RX3 A D ct gT) (hr : meth.sig.returnType = (some .int))    (st : MS) (h : wX3_count_162 post  st) : jJ p l e { frames := 5, cells := 0, slots := 0, locals := 109 } s m args below meth c (MQ below (va_Qi post (fun u => cB D ct A (MW ct ad u)) A) args s 0 0 A) A D 2 (MW ct ad st) 0 0 162 [] [] := by
  unfold wX3_count_162 at h
  refine j_bipush K (-2 : Int32) dX3_count_162 (by decide) ?_
  exact j_iret st K hr rfl h (Nat.le_of_ble_eq_true rfl) (Nat.le_of_ble_eq_true rfl) dX3_count_164
theorem kX3_count_0 {p : Program} {l : Launch} {e : Env} {s : State} {m : MethodId} {args : Array Value} {below : List Frame} {meth : Method} {c : Code} {A : Nat → Prop} {D : va_G} {ct : Nat → ClassId} {ad : Nat → Nat} {post : Int32 → MS → Prop} (K : CX p s m args meth c cX3_count 2 RX3 A D ct gT) (hr : meth.sig.returnType = (some .int))   (x1 : Int32) (st : MS) (h : wX3_count_0 post  x1 st) : jJ p l e { frames := 5, cells := 0, slots := 0, locals := 109 } s m args below meth c (MQ below (va_Qi post (fun u => cB D ct A (MW ct ad u)) A) args s 0 0 A) A D 2 (MW ct ad st) 0 0 0 [(0, .ref (ad 0)), (1, .int x1)] [] := by
  unfold wX3_count_0 at h
  refine j_aload_n K 0 dX3_count_0 rfl rfl ?_
  refine j_aload_n K 0 dX3_count_1 rfl rfl ?_
  obtain ⟨hp, h⟩ := h
  refine j_callVi K (As := []) (rest := [.ref (ad 0)]) (ctX3_now (l := l) (D := D) (ct := ct) (ad := ad)  st hp) gwX3_now gdX3_now ⟨Nat.le_of_ble_eq_true rfl, Nat.le_of_ble_eq_true rfl⟩ 0 rfl rfl rfl rfl rfl (Nat.le_of_ble_eq_true rfl) dX3_count_2 ⟨Nat.le_of_ble_eq_true rfl, Nat.le_of_ble_eq_true rfl⟩ (fun r_1 st_2 hq => ?_)
  obtain ⟨hq, rfl⟩ := hq
  replace h := h r_1 hq
  obtain ⟨hp, h⟩ := h
  refine j_callVv K (As := [.int r_1]) (rest := []) (ctX3_open (l := l) (D := D) (ct := ct) (ad := ad) r_1 st hp) gwX3_open gdX3_open ⟨Nat.le_of_ble_eq_true rfl, Nat.le_of_ble_eq_true rfl⟩ 0 rfl rfl rfl rfl rfl (Nat.le_of_ble_eq_true rfl) dX3_count_5 ⟨Nat.le_of_ble_eq_true rfl, Nat.le_of_ble_eq_true rfl⟩ (fun st_3 hq => ?_)
  replace h := h st_3 hq
  refine j_iload_n K 1 dX3_count_8 rfl rfl ?_
  rcases Classical.em (x1 = (0 : Int32)) with hc | hc0
  · refine j_tableIn K (off := 63) 72 dX3_count_9 (by rw [hc]; decide) (by rw [hc]; decide) (by rw [hc]; rfl) (by decide) ?_
    refine j_lv K [0] (lv' := [(0, .ref (ad 0))]) rfl ?_
    exact kX3_count_72 K hr  st_3 (h.1 hc)
  rcases Classical.em (x1 = (1 : Int32)) with hc | hc1
  · refine j_tableIn K (off := 68) 77 dX3_count_9 (by rw [hc]; decide) (by rw [hc]; decide) (by rw [hc]; rfl) (by decide) ?_
    refine j_lv K [0] (lv' := [(0, .ref (ad 0))]) rfl ?_
    exact kX3_count_77 K hr  st_3 (h.2.1 hc)
  rcases Classical.em (x1 = (2 : Int32)) with hc | hc2
  · refine j_tableIn K (off := 75) 84 dX3_count_9 (by rw [hc]; decide) (by rw [hc]; decide) (by rw [hc]; rfl) (by decide) ?_
    exact kX3_count_84 K hr  x1 st_3 (h.2.2.1 hc)
  rcases Classical.em (x1 = (3 : Int32)) with hc | hc3
  · refine j_tableIn K (off := 75) 84 dX3_count_9 (by rw [hc]; decide) (by rw [hc]; decide) (by rw [hc]; rfl) (by decide) ?_
    exact kX3_count_84 K hr  x1 st_3 (h.2.2.2.1 hc)
  rcases Classical.em (x1 = (4 : Int32)) with hc | hc4
  · refine j_tableIn K (off := 83) 92 dX3_count_9 (by rw [hc]; decide) (by rw [hc]; decide) (by rw [hc]; rfl) (by decide) ?_
    refine j_lv K [0] (lv' := [(0, .ref (ad 0))]) rfl ?_
    exact kX3_count_92 K hr  st_3 (h.2.2.2.2.1 hc)
  rcases Classical.em (x1 = (5 : Int32)) with hc | hc5
  · refine j_tableIn K (off := 96) 105 dX3_count_9 (by rw [hc]; decide) (by rw [hc]; decide) (by rw [hc]; rfl) (by decide) ?_
    refine j_lv K [0] (lv' := [(0, .ref (ad 0))]) rfl ?_
    exact kX3_count_105 K hr  st_3 (h.2.2.2.2.2.1 hc)
  rcases Classical.em (x1 = (6 : Int32)) with hc | hc6
  · refine j_tableIn K (off := 115) 124 dX3_count_9 (by rw [hc]; decide) (by rw [hc]; decide) (by rw [hc]; rfl) (by decide) ?_
    refine j_lv K [0] (lv' := [(0, .ref (ad 0))]) rfl ?_
    exact kX3_count_124 K hr  st_3 (h.2.2.2.2.2.2.1 hc)
  rcases Classical.em (x1 = (7 : Int32)) with hc | hc7
  · refine j_tableIn K (off := 128) 137 dX3_count_9 (by rw [hc]; decide) (by rw [hc]; decide) (by rw [hc]; rfl) (by decide) ?_
    refine j_lv K [0] (lv' := [(0, .ref (ad 0))]) rfl ?_
    exact kX3_count_137 K hr  st_3 (h.2.2.2.2.2.2.2.1 hc)
  rcases Classical.em (x1 = (8 : Int32)) with hc | hc8
  · refine j_tableIn K (off := 133) 142 dX3_count_9 (by rw [hc]; decide) (by rw [hc]; decide) (by rw [hc]; rfl) (by decide) ?_
    exact kX3_count_142 K hr  x1 st_3 (h.2.2.2.2.2.2.2.2.1 hc)
  rcases Classical.em (x1 = (9 : Int32)) with hc | hc9
  · refine j_tableIn K (off := 133) 142 dX3_count_9 (by rw [hc]; decide) (by rw [hc]; decide) (by rw [hc]; rfl) (by decide) ?_
    exact kX3_count_142 K hr  x1 st_3 (h.2.2.2.2.2.2.2.2.2.1 hc)
  rcases Classical.em (x1 = (10 : Int32)) with hc | hc10
  · refine j_tableIn K (off := 143) 152 dX3_count_9 (by rw [hc]; decide) (by rw [hc]; decide) (by rw [hc]; rfl) (by decide) ?_
    refine j_lv K [0] (lv' := [(0, .ref (ad 0))]) rfl ?_
    exact kX3_count_152 K hr  st_3 (h.2.2.2.2.2.2.2.2.2.2.1 hc)
  rcases Classical.em (x1 = (11 : Int32)) with hc | hc11
  · refine j_tableIn K (off := 148) 157 dX3_count_9 (by rw [hc]; decide) (by rw [hc]; decide) (by rw [hc]; rfl) (by decide) ?_
    refine j_lv K [0] (lv' := [(0, .ref (ad 0))]) rfl ?_
    exact kX3_count_157 K hr  st_3 (h.2.2.2.2.2.2.2.2.2.2.2.1 hc)
  refine j_tableOut K 162 dX3_count_9 (by have hh := sw_out_12 hc0 hc1 hc2 hc3 hc4 hc5 hc6 hc7 hc8 hc9 hc10 hc11; exact hh) (by decide) ?_
  refine j_lv K [] (lv' := []) rfl ?_
  exact kX3_count_162 K hr  st_3 (h.2.2.2.2.2.2.2.2.2.2.2.2 hc0 hc1 hc2 hc3 hc4 hc5 hc6 hc7 hc8 hc9 hc10 hc11)
theorem cgX3_count {l : Launch} {D : va_G} {ct : Nat → ClassId} {ad : Nat → Nat} {post : Int32 → MS → Prop} (x1 : Int32) (st : MS) (hw : wX3_count_0 post x1 st) : ∀ sz, Met l yX3_count (ws_ yX3_count cX3_count 2 (some .int)) { frames := 5, cells := 0, slots := 0, locals := 109 } (va_Pc [.ref (ad 0), .int x1] (cPre gT D ct (MW ct ad st) sz)) (va_Qi post (fun u => cB D ct (va_A (MW ct ad st) sz) (MW ct ad u)) (va_A (MW ct ad st) sz)) 0 0 (va_A (MW ct ad st) sz) := fun sz =>
  j_met (Qc := fun A => va_Qi post (fun u => cB D ct A (MW ct ad u)) A) (by decide) gT_ok (Nat.le_of_ble_eq_true rfl) (fun p e s m args below meth c A K hr _ _ => kX3_count_0 K hr x1 st hw)
-- X3_neighbours
theorem kX3_neighbours_48 {p : Program} {l : Launch} {e : Env} {s : State} {m : MethodId} {args : Array Value} {below : List Frame} {meth : Method} {c : Code} {A : Nat → Prop} {D : va_G} {ct : Nat → ClassId} {ad : Nat → Nat} {post : Int32 → MS → Prop} (K : CX p s m args meth c cX3_neighbours 4 RX3 A D ct gT) (hr : meth.sig.returnType = (some .int))   (x2 : Int32) (st : MS) (h : wX3_neighbours_48 post  x2 st) : jJ p l e { frames := 1, cells := 0, slots := 0, locals := 25 } s m args below meth c (MQ below (va_Qi post (fun u => cB D ct A (MW ct ad u)) A) args s 0 0 A) A D 4 (MW ct ad st) 0 0 48 [(2, .int x2)] [] := by
  unfold wX3_neighbours_48 at h
  refine j_iload_n K 0 dX3_neighbours_48 rfl rfl ?_
  exact j_iret st K hr rfl h (Nat.le_of_ble_eq_true rfl) (Nat.le_of_ble_eq_true rfl) dX3_neighbours_49
theorem kX3_neighbours_40 {p : Program} {l : Launch} {e : Env} {s : State} {m : MethodId} {args : Array Value} {below : List Frame} {meth : Method} {c : Code} {A : Nat → Prop} {D : va_G} {ct : Nat → ClassId} {ad : Nat → Nat} {post : Int32 → MS → Prop} (K : CX p s m args meth c cX3_neighbours 4 RX3 A D ct gT) (hr : meth.sig.returnType = (some .int)) (L17 : Int32 → Int32 → Int32 → MS → Prop) (hL17 : ∀ (x1 : Int32) (x2 : Int32) (x3 : Int32) (st : MS), L17 x1 x2 x3 st → jJ p l e { frames := 1, cells := 0, slots := 0, locals := 25 } s m args below meth c (MQ below (va_Qi post (fun u => cB D ct A (MW ct ad u)) A) args s 0 0 A) A D 4 (MW ct ad st) 0 0 17 [(0, .ref (ad 0)), (1, .int x1), (2, .int x2), (3, .int x3)] []) (x1 : Int32) (x3 : Int32) (s0 : Int32) (s1 : Int32) (st : MS) (h : wX3_neighbours_40 post L17 x1 x3 s0 s1 st) : jJ p l e { frames := 1, cells := 0, slots := 0, locals := 25 } s m args below meth c (MQ below (va_Qi post (fun u => cB D ct A (MW ct ad u)) A) args s 0 0 A) A D 4 (MW ct ad st) 0 0 40 [(0, .ref (ad 0)), (1, .int x1), (3, .int x3)] [.int s1, .int s0] := by
  unfold wX3_neighbours_40 at h
  refine j_ior K dX3_neighbours_40 ?_
  refine j_istore_n K [(2, .int (s0 ||| s1)), (0, .ref (ad 0)), (1, .int x1), (3, .int x3)] dX3_neighbours_41 rfl (by decide) rfl ?_
  refine j_iinc K 3 (x3 + (1 : Int32)) [(3, .int (x3 + (1 : Int32))), (2, .int (s0 ||| s1)), (0, .ref (ad 0)), (1, .int x1)] dX3_neighbours_42 rfl rfl (by decide) rfl ?_
  refine j_goto K 17 dX3_neighbours_45 (by decide) ?_
  refine j_lv K [2, 3, 1, 0] (lv' := [(0, .ref (ad 0)), (1, .int x1), (2, .int (s0 ||| s1)), (3, .int (x3 + (1 : Int32)))]) rfl ?_
  exact hL17 x1 (s0 ||| s1) (x3 + (1 : Int32)) st h
theorem kX3_neighbours_39 {p : Program} {l : Launch} {e : Env} {s : State} {m : MethodId} {args : Array Value} {below : List Frame} {meth : Method} {c : Code} {A : Nat → Prop} {D : va_G} {ct : Nat → ClassId} {ad : Nat → Nat} {post : Int32 → MS → Prop} (K : CX p s m args meth c cX3_neighbours 4 RX3 A D ct gT) (hr : meth.sig.returnType = (some .int)) (L17 : Int32 → Int32 → Int32 → MS → Prop) (hL17 : ∀ (x1 : Int32) (x2 : Int32) (x3 : Int32) (st : MS), L17 x1 x2 x3 st → jJ p l e { frames := 1, cells := 0, slots := 0, locals := 25 } s m args below meth c (MQ below (va_Qi post (fun u => cB D ct A (MW ct ad u)) A) args s 0 0 A) A D 4 (MW ct ad st) 0 0 17 [(0, .ref (ad 0)), (1, .int x1), (2, .int x2), (3, .int x3)] []) (x1 : Int32) (x3 : Int32) (s0 : Int32) (st : MS) (h : wX3_neighbours_39 post L17 x1 x3 s0 st) : jJ p l e { frames := 1, cells := 0, slots := 0, locals := 25 } s m args below meth c (MQ below (va_Qi post (fun u => cB D ct A (MW ct ad u)) A) args s 0 0 A) A D 4 (MW ct ad st) 0 0 39 [(0, .ref (ad 0)), (1, .int x1), (3, .int x3)] [.int s0] := by
  unfold wX3_neighbours_39 at h
  refine j_iconst K (0 : Int32) dX3_neighbours_39 (by decide) ?_
  exact kX3_neighbours_40 K hr L17 hL17 x1 x3 s0 (0 : Int32) st h
theorem kX3_neighbours_33 {p : Program} {l : Launch} {e : Env} {s : State} {m : MethodId} {args : Array Value} {below : List Frame} {meth : Method} {c : Code} {A : Nat → Prop} {D : va_G} {ct : Nat → ClassId} {ad : Nat → Nat} {post : Int32 → MS → Prop} (K : CX p s m args meth c cX3_neighbours 4 RX3 A D ct gT) (hr : meth.sig.returnType = (some .int)) (L17 : Int32 → Int32 → Int32 → MS → Prop) (hL17 : ∀ (x1 : Int32) (x2 : Int32) (x3 : Int32) (st : MS), L17 x1 x2 x3 st → jJ p l e { frames := 1, cells := 0, slots := 0, locals := 25 } s m args below meth c (MQ below (va_Qi post (fun u => cB D ct A (MW ct ad u)) A) args s 0 0 A) A D 4 (MW ct ad st) 0 0 17 [(0, .ref (ad 0)), (1, .int x1), (2, .int x2), (3, .int x3)] []) (x1 : Int32) (x3 : Int32) (s0 : Int32) (st : MS) (h : wX3_neighbours_33 post L17 x1 x3 s0 st) : jJ p l e { frames := 1, cells := 0, slots := 0, locals := 25 } s m args below meth c (MQ below (va_Qi post (fun u => cB D ct A (MW ct ad u)) A) args s 0 0 A) A D 4 (MW ct ad st) 0 0 33 [(0, .ref (ad 0)), (1, .int x1), (3, .int x3)] [.int s0] := by
  unfold wX3_neighbours_33 at h
  refine j_iconst K (1 : Int32) dX3_neighbours_33 (by decide) ?_
  refine j_iload_n K 2 dX3_neighbours_34 rfl rfl ?_
  refine j_ishl K dX3_neighbours_35 ?_
  refine j_goto K 40 dX3_neighbours_36 (by decide) ?_
  exact kX3_neighbours_40 K hr L17 hL17 x1 x3 s0 ((1 : Int32) <<< (x3 &&& 31)) st h
theorem kX3_neighbours_23 {p : Program} {l : Launch} {e : Env} {s : State} {m : MethodId} {args : Array Value} {below : List Frame} {meth : Method} {c : Code} {A : Nat → Prop} {D : va_G} {ct : Nat → ClassId} {ad : Nat → Nat} {post : Int32 → MS → Prop} (K : CX p s m args meth c cX3_neighbours 4 RX3 A D ct gT) (hr : meth.sig.returnType = (some .int)) (L17 : Int32 → Int32 → Int32 → MS → Prop) (hL17 : ∀ (x1 : Int32) (x2 : Int32) (x3 : Int32) (st : MS), L17 x1 x2 x3 st → jJ p l e { frames := 1, cells := 0, slots := 0, locals := 25 } s m args below meth c (MQ below (va_Qi post (fun u => cB D ct A (MW ct ad u)) A) args s 0 0 A) A D 4 (MW ct ad st) 0 0 17 [(0, .ref (ad 0)), (1, .int x1), (2, .int x2), (3, .int x3)] []) (x1 : Int32) (x2 : Int32) (x3 : Int32) (st : MS) (h : wX3_neighbours_23 post L17 x1 x2 x3 st) : jJ p l e { frames := 1, cells := 0, slots := 0, locals := 25 } s m args below meth c (MQ below (va_Qi post (fun u => cB D ct A (MW ct ad u)) A) args s 0 0 A) A D 4 (MW ct ad st) 0 0 23 [(0, .ref (ad 0)), (1, .int x1), (2, .int x2), (3, .int x3)] [] := by
  unfold wX3_neighbours_23 at h
  refine j_iload_n K 2 dX3_neighbours_23 rfl rfl ?_
  refine j_aload_n K 0 dX3_neighbours_24 rfl rfl ?_
  refine j_iload_n K 1 dX3_neighbours_25 rfl rfl ?_
  refine j_iload_n K 3 dX3_neighbours_26 rfl rfl ?_
  obtain ⟨hp, h⟩ := h
  refine j_callVi K (As := [.int x1, .int x3]) (rest := [.int x2]) (ctX3_areNeighbours (l := l) (D := D) (ct := ct) (ad := ad) x1 x3 st hp) gwX3_areNeighbours gdX3_areNeighbours ⟨Nat.le_of_ble_eq_true rfl, Nat.le_of_ble_eq_true rfl⟩ 0 rfl rfl rfl rfl rfl (Nat.le_of_ble_eq_true rfl) dX3_neighbours_27 ⟨Nat.le_of_ble_eq_true rfl, Nat.le_of_ble_eq_true rfl⟩ (fun r_1 st_2 hq => ?_)
  obtain ⟨hq, rfl⟩ := hq
  replace h := h r_1 hq
  refine j_if_eq K 39 dX3_neighbours_30 (by decide) (fun hc => ?_) (fun hc => ?_)
  · refine j_lv K [0, 1, 3] (lv' := [(0, .ref (ad 0)), (1, .int x1), (3, .int x3)]) rfl ?_
    exact kX3_neighbours_39 K hr L17 hL17 x1 x3 x2 st (h.1 hc)
  · refine j_lv K [0, 1, 3] (lv' := [(0, .ref (ad 0)), (1, .int x1), (3, .int x3)]) rfl ?_
    exact kX3_neighbours_33 K hr L17 hL17 x1 x3 x2 st (h.2 hc)
theorem kX3_neighbours_17_b {p : Program} {l : Launch} {e : Env} {s : State} {m : MethodId} {args : Array Value} {below : List Frame} {meth : Method} {c : Code} {A : Nat → Prop} {D : va_G} {ct : Nat → ClassId} {ad : Nat → Nat} {post : Int32 → MS → Prop} (K : CX p s m args meth c cX3_neighbours 4 RX3 A D ct gT) (hr : meth.sig.returnType = (some .int)) (L17 : Int32 → Int32 → Int32 → MS → Prop) (hL17 : ∀ (x1 : Int32) (x2 : Int32) (x3 : Int32) (st : MS), L17 x1 x2 x3 st → jJ p l e { frames := 1, cells := 0, slots := 0, locals := 25 } s m args below meth c (MQ below (va_Qi post (fun u => cB D ct A (MW ct ad u)) A) args s 0 0 A) A D 4 (MW ct ad st) 0 0 17 [(0, .ref (ad 0)), (1, .int x1), (2, .int x2), (3, .int x3)] []) (x1 : Int32) (x2 : Int32) (x3 : Int32) (st : MS) (h : wX3_neighbours_17_b post L17 x1 x2 x3 st) : jJ p l e { frames := 1, cells := 0, slots := 0, locals := 25 } s m args below meth c (MQ below (va_Qi post (fun u => cB D ct A (MW ct ad u)) A) args s 0 0 A) A D 4 (MW ct ad st) 0 0 17 [(0, .ref (ad 0)), (1, .int x1), (2, .int x2), (3, .int x3)] [] := by
  unfold wX3_neighbours_17_b at h
  refine j_iload_n K 3 dX3_neighbours_17 rfl rfl ?_
  refine j_bipush K (9 : Int32) dX3_neighbours_18 (by decide) ?_
  refine j_icmp_ge K 48 dX3_neighbours_20 (by decide) (fun hc => ?_) (fun hc => ?_)
  · refine j_lv K [2] (lv' := [(2, .int x2)]) rfl ?_
    exact kX3_neighbours_48 K hr  x2 st (h.1 hc)
  · exact kX3_neighbours_23 K hr L17 hL17 x1 x2 x3 st (h.2 hc)
theorem kX3_neighbours_17 {p : Program} {l : Launch} {e : Env} {s : State} {m : MethodId} {args : Array Value} {below : List Frame} {meth : Method} {c : Code} {A : Nat → Prop} {D : va_G} {ct : Nat → ClassId} {ad : Nat → Nat} {post : Int32 → MS → Prop} (K : CX p s m args meth c cX3_neighbours 4 RX3 A D ct gT) (hr : meth.sig.returnType = (some .int))   (x1 : Int32) (x2 : Int32) (x3 : Int32) (st : MS) (h : wX3_neighbours_17 post  x1 x2 x3 st) : jJ p l e { frames := 1, cells := 0, slots := 0, locals := 25 } s m args below meth c (MQ below (va_Qi post (fun u => cB D ct A (MW ct ad u)) A) args s 0 0 A) A D 4 (MW ct ad st) 0 0 17 [(0, .ref (ad 0)), (1, .int x1), (2, .int x2), (3, .int x3)] [] :=
  wloop_sound (V := Int32 × Int32 × Int32 × MS) (Wk := fun v => jJ p l e { frames := 1, cells := 0, slots := 0, locals := 25 } s m args below meth c (MQ below (va_Qi post (fun u => cB D ct A (MW ct ad u)) A) args s 0 0 A) A D 4 (MW ct ad v.2.2.2) 0 0 17 [(0, .ref (ad 0)), (1, .int v.1), (2, .int v.2.1), (3, .int v.2.2.1)] []) (fun L hL v hb => kX3_neighbours_17_b K hr (fun x1 x2 x3 st => L (x1, x2, x3, st)) (fun x1 x2 x3 st hx => hL (x1, x2, x3, st) hx) v.1 v.2.1 v.2.2.1 v.2.2.2 hb) h
theorem kX3_neighbours_13 {p : Program} {l : Launch} {e : Env} {s : State} {m : MethodId} {args : Array Value} {below : List Frame} {meth : Method} {c : Code} {A : Nat → Prop} {D : va_G} {ct : Nat → ClassId} {ad : Nat → Nat} {post : Int32 → MS → Prop} (K : CX p s m args meth c cX3_neighbours 4 RX3 A D ct gT) (hr : meth.sig.returnType = (some .int))   (x1 : Int32) (st : MS) (h : wX3_neighbours_13 post  x1 st) : jJ p l e { frames := 1, cells := 0, slots := 0, locals := 25 } s m args below meth c (MQ below (va_Qi post (fun u => cB D ct A (MW ct ad u)) A) args s 0 0 A) A D 4 (MW ct ad st) 0 0 13 [(0, .ref (ad 0)), (1, .int x1)] [] := by
  unfold wX3_neighbours_13 at h
  refine j_iconst K (0 : Int32) dX3_neighbours_13 (by decide) ?_
  refine j_istore_n K [(2, .int (0 : Int32)), (0, .ref (ad 0)), (1, .int x1)] dX3_neighbours_14 rfl (by decide) rfl ?_
  refine j_iconst K (0 : Int32) dX3_neighbours_15 (by decide) ?_
  refine j_istore_n K [(3, .int (0 : Int32)), (2, .int (0 : Int32)), (0, .ref (ad 0)), (1, .int x1)] dX3_neighbours_16 rfl (by decide) rfl ?_
  refine j_lv K [2, 3, 1, 0] (lv' := [(0, .ref (ad 0)), (1, .int x1), (2, .int (0 : Int32)), (3, .int (0 : Int32))]) rfl ?_
  exact kX3_neighbours_17 K hr  x1 (0 : Int32) (0 : Int32) st h
theorem kX3_neighbours_11 {p : Program} {l : Launch} {e : Env} {s : State} {m : MethodId} {args : Array Value} {below : List Frame} {meth : Method} {c : Code} {A : Nat → Prop} {D : va_G} {ct : Nat → ClassId} {ad : Nat → Nat} {post : Int32 → MS → Prop} (K : CX p s m args meth c cX3_neighbours 4 RX3 A D ct gT) (hr : meth.sig.returnType = (some .int))    (st : MS) (h : wX3_neighbours_11 post  st) : jJ p l e { frames := 1, cells := 0, slots := 0, locals := 25 } s m args below meth c (MQ below (va_Qi post (fun u => cB D ct A (MW ct ad u)) A) args s 0 0 A) A D 4 (MW ct ad st) 0 0 11 [] [] := by
  unfold wX3_neighbours_11 at h
  refine j_iconst K (-1 : Int32) dX3_neighbours_11 (by decide) ?_
  exact j_iret st K hr rfl h (Nat.le_of_ble_eq_true rfl) (Nat.le_of_ble_eq_true rfl) dX3_neighbours_12
theorem kX3_neighbours_0 {p : Program} {l : Launch} {e : Env} {s : State} {m : MethodId} {args : Array Value} {below : List Frame} {meth : Method} {c : Code} {A : Nat → Prop} {D : va_G} {ct : Nat → ClassId} {ad : Nat → Nat} {post : Int32 → MS → Prop} (K : CX p s m args meth c cX3_neighbours 4 RX3 A D ct gT) (hr : meth.sig.returnType = (some .int))   (x1 : Int32) (st : MS) (h : wX3_neighbours_0 post  x1 st) : jJ p l e { frames := 1, cells := 0, slots := 0, locals := 25 } s m args below meth c (MQ below (va_Qi post (fun u => cB D ct A (MW ct ad u)) A) args s 0 0 A) A D 4 (MW ct ad st) 0 0 0 [(0, .ref (ad 0)), (1, .int x1)] [] := by
  unfold wX3_neighbours_0 at h
  refine j_iload_n K 1 dX3_neighbours_0 rfl rfl ?_
  refine j_i2l K dX3_neighbours_1 ?_
  refine j_iconst K (0 : Int32) dX3_neighbours_2 (by decide) ?_
  refine j_bipush K (8 : Int32) dX3_neighbours_3 (by decide) ?_
  refine j_callSi K (As := [.long (x1.toInt64), .int (0 : Int32), .int (8 : Int32)]) (rest := []) (ctX3_in (l := l) (D := D) (ct := ct) (G := gT) (ws := MW ct ad st) gT_ok (x1.toInt64) (0 : Int32) (8 : Int32)) gwX3_in gdX3_in ⟨Nat.le_of_ble_eq_true rfl, Nat.le_of_ble_eq_true rfl⟩ rfl rfl (Nat.le_of_ble_eq_true rfl) dX3_neighbours_5 ⟨Nat.le_of_ble_eq_true rfl, Nat.le_of_ble_eq_true rfl⟩ (fun r_1 _ hq => ?_)
  replace h := h r_1 hq
  refine j_if_ne K 13 dX3_neighbours_8 (by decide) (fun hc => ?_) (fun hc => ?_)
  · exact kX3_neighbours_13 K hr  x1 st (h.1 hc)
  · refine j_lv K [] (lv' := []) rfl ?_
    exact kX3_neighbours_11 K hr  st (h.2 hc)
theorem cgX3_neighbours {l : Launch} {D : va_G} {ct : Nat → ClassId} {ad : Nat → Nat} {post : Int32 → MS → Prop} (x1 : Int32) (st : MS) (hw : wX3_neighbours_0 post x1 st) : ∀ sz, Met l yX3_neighbours (ws_ yX3_neighbours cX3_neighbours 4 (some .int)) { frames := 1, cells := 0, slots := 0, locals := 25 } (va_Pc [.ref (ad 0), .int x1] (cPre gT D ct (MW ct ad st) sz)) (va_Qi post (fun u => cB D ct (va_A (MW ct ad st) sz) (MW ct ad u)) (va_A (MW ct ad st) sz)) 0 0 (va_A (MW ct ad st) sz) := fun sz =>
  j_met (Qc := fun A => va_Qi post (fun u => cB D ct A (MW ct ad u)) A) (by decide) gT_ok (Nat.le_of_ble_eq_true rfl) (fun p e s m args below meth c A K hr _ _ => kX3_neighbours_0 K hr x1 st hw)
-- X3_move
theorem kX3_move_29 {p : Program} {l : Launch} {e : Env} {s : State} {m : MethodId} {args : Array Value} {below : List Frame} {meth : Method} {c : Code} {A : Nat → Prop} {D : va_G} {ct : Nat → ClassId} {ad : Nat → Nat} {post : Int32 → MS → Prop} (K : CX p s m args meth c cX3_move 2 RX3 A D ct gT) (hr : meth.sig.returnType = (some .int))   (s0 : Int32) (st : MS) (h : wX3_move_29 post  s0 st) : jJ p l e { frames := 6, cells := 0, slots := 0, locals := 130 } s m args below meth c (MQ below (va_Qi post (fun u => cB D ct A (MW ct ad u)) A) args s 0 0 A) A D 2 (MW ct ad st) 0 0 29 [] [.int s0] := by
  unfold wX3_move_29 at h
  exact j_iret st K hr rfl h (Nat.le_of_ble_eq_true rfl) (Nat.le_of_ble_eq_true rfl) dX3_move_29
theorem kX3_move_28 {p : Program} {l : Launch} {e : Env} {s : State} {m : MethodId} {args : Array Value} {below : List Frame} {meth : Method} {c : Code} {A : Nat → Prop} {D : va_G} {ct : Nat → ClassId} {ad : Nat → Nat} {post : Int32 → MS → Prop} (K : CX p s m args meth c cX3_move 2 RX3 A D ct gT) (hr : meth.sig.returnType = (some .int))    (st : MS) (h : wX3_move_28 post  st) : jJ p l e { frames := 6, cells := 0, slots := 0, locals := 130 } s m args below meth c (MQ below (va_Qi post (fun u => cB D ct A (MW ct ad u)) A) args s 0 0 A) A D 2 (MW ct ad st) 0 0 28 [] [] := by
  unfold wX3_move_28 at h
  refine j_iconst K (-1 : Int32) dX3_move_28 (by decide) ?_
  exact kX3_move_29 K hr  (-1 : Int32) st h
theorem kX3_move_19 {p : Program} {l : Launch} {e : Env} {s : State} {m : MethodId} {args : Array Value} {below : List Frame} {meth : Method} {c : Code} {A : Nat → Prop} {D : va_G} {ct : Nat → ClassId} {ad : Nat → Nat} {post : Int32 → MS → Prop} (K : CX p s m args meth c cX3_move 2 RX3 A D ct gT) (hr : meth.sig.returnType = (some .int))   (x1 : Int32) (st : MS) (h : wX3_move_19 post  x1 st) : jJ p l e { frames := 6, cells := 0, slots := 0, locals := 130 } s m args below meth c (MQ below (va_Qi post (fun u => cB D ct A (MW ct ad u)) A) args s 0 0 A) A D 2 (MW ct ad st) 0 0 19 [(0, .ref (ad 0)), (1, .int x1)] [] := by
  unfold wX3_move_19 at h
  refine j_aload_n K 0 dX3_move_19 rfl rfl ?_
  refine mg_list K dX3_move_20 ?_
  refine j_iload_n K 1 dX3_move_23 rfl rfl ?_
  obtain ⟨hc, h⟩ := h
  refine ml_list K hc dX3_move_24 ?_
  refine j_goto K 29 dX3_move_25 (by decide) ?_
  refine j_lv K [] (lv' := []) rfl ?_
  exact kX3_move_29 K hr  (st.1 8 (x1).toNatClampNeg) st h
theorem kX3_move_0 {p : Program} {l : Launch} {e : Env} {s : State} {m : MethodId} {args : Array Value} {below : List Frame} {meth : Method} {c : Code} {A : Nat → Prop} {D : va_G} {ct : Nat → ClassId} {ad : Nat → Nat} {post : Int32 → MS → Prop} (K : CX p s m args meth c cX3_move 2 RX3 A D ct gT) (hr : meth.sig.returnType = (some .int))   (x1 : Int32) (st : MS) (h : wX3_move_0 post  x1 st) : jJ p l e { frames := 6, cells := 0, slots := 0, locals := 130 } s m args below meth c (MQ below (va_Qi post (fun u => cB D ct A (MW ct ad u)) A) args s 0 0 A) A D 2 (MW ct ad st) 0 0 0 [(0, .ref (ad 0)), (1, .int x1)] [] := by
  unfold wX3_move_0 at h
  refine j_aload_n K 0 dX3_move_0 rfl rfl ?_
  obtain ⟨hp, h⟩ := h
  refine j_callVv K (As := []) (rest := []) (ctX3_lookNow (l := l) (D := D) (ct := ct) (ad := ad)  st hp) gwX3_lookNow gdX3_lookNow ⟨Nat.le_of_ble_eq_true rfl, Nat.le_of_ble_eq_true rfl⟩ 0 rfl rfl rfl rfl rfl (Nat.le_of_ble_eq_true rfl) dX3_move_1 ⟨Nat.le_of_ble_eq_true rfl, Nat.le_of_ble_eq_true rfl⟩ (fun st_1 hq => ?_)
  replace h := h st_1 hq
  refine j_iload_n K 1 dX3_move_4 rfl rfl ?_
  refine j_i2l K dX3_move_5 ?_
  refine j_iconst K (0 : Int32) dX3_move_6 (by decide) ?_
  refine j_aload_n K 0 dX3_move_7 rfl rfl ?_
  refine mg_many K dX3_move_8 ?_
  refine j_iconst K (1 : Int32) dX3_move_11 (by decide) ?_
  refine j_isub K dX3_move_12 ?_
  refine j_callSi K (As := [.long (x1.toInt64), .int (0 : Int32), .int ((st_1.2 4) - (1 : Int32))]) (rest := []) (ctX3_in (l := l) (D := D) (ct := ct) (G := gT) (ws := MW ct ad st_1) gT_ok (x1.toInt64) (0 : Int32) ((st_1.2 4) - (1 : Int32))) gwX3_in gdX3_in ⟨Nat.le_of_ble_eq_true rfl, Nat.le_of_ble_eq_true rfl⟩ rfl rfl (Nat.le_of_ble_eq_true rfl) dX3_move_13 ⟨Nat.le_of_ble_eq_true rfl, Nat.le_of_ble_eq_true rfl⟩ (fun r_2 _ hq => ?_)
  replace h := h r_2 hq
  refine j_if_eq K 28 dX3_move_16 (by decide) (fun hc => ?_) (fun hc => ?_)
  · refine j_lv K [] (lv' := []) rfl ?_
    exact kX3_move_28 K hr  st_1 (h.1 hc)
  · exact kX3_move_19 K hr  x1 st_1 (h.2 hc)
theorem cgX3_move {l : Launch} {D : va_G} {ct : Nat → ClassId} {ad : Nat → Nat} {post : Int32 → MS → Prop} (x1 : Int32) (st : MS) (hw : wX3_move_0 post x1 st) : ∀ sz, Met l yX3_move (ws_ yX3_move cX3_move 2 (some .int)) { frames := 6, cells := 0, slots := 0, locals := 130 } (va_Pc [.ref (ad 0), .int x1] (cPre gT D ct (MW ct ad st) sz)) (va_Qi post (fun u => cB D ct (va_A (MW ct ad st) sz) (MW ct ad u)) (va_A (MW ct ad st) sz)) 0 0 (va_A (MW ct ad st) sz) := fun sz =>
  j_met (Qc := fun A => va_Qi post (fun u => cB D ct A (MW ct ad u)) A) (by decide) gT_ok (Nat.le_of_ble_eq_true rfl) (fun p e s m args below meth c A K hr _ _ => kX3_move_0 K hr x1 st hw)
-- X3_worth
theorem kX3_worth_0 {p : Program} {l : Launch} {e : Env} {s : State} {m : MethodId} {args : Array Value} {below : List Frame} {meth : Method} {c : Code} {A : Nat → Prop} {D : va_G} {ct : Nat → ClassId} {ad : Nat → Nat} {post : Int32 → MS → Prop} (K : CX p s m args meth c cX3_worth 1 RX3 A D ct gT) (hr : meth.sig.returnType = (some .int))    (st : MS) (h : wX3_worth_0 post  st) : jJ p l e { frames := 7, cells := 0, slots := 0, locals := 163 } s m args below meth c (MQ below (va_Qi post (fun u => cB D ct A (MW ct ad u)) A) args s 0 0 A) A D 1 (MW ct ad st) 0 0 0 [(0, .ref (ad 0))] [] := by
  unfold wX3_worth_0 at h
  refine j_aload_n K 0 dX3_worth_0 rfl rfl ?_
  refine j_aload_n K 0 dX3_worth_1 rfl rfl ?_
  obtain ⟨hp, h⟩ := h
  refine j_callVi K (As := []) (rest := [.ref (ad 0)]) (ctX3_now (l := l) (D := D) (ct := ct) (ad := ad)  st hp) gwX3_now gdX3_now ⟨Nat.le_of_ble_eq_true rfl, Nat.le_of_ble_eq_true rfl⟩ 0 rfl rfl rfl rfl rfl (Nat.le_of_ble_eq_true rfl) dX3_worth_2 ⟨Nat.le_of_ble_eq_true rfl, Nat.le_of_ble_eq_true rfl⟩ (fun r_1 st_2 hq => ?_)
  obtain ⟨hq, rfl⟩ := hq
  replace h := h r_1 hq
  obtain ⟨hp, h⟩ := h
  refine j_callVi K (As := [.int r_1]) (rest := []) (ctX3_worthAt (l := l) (D := D) (ct := ct) (ad := ad) r_1 st hp) gwX3_worthAt gdX3_worthAt ⟨Nat.le_of_ble_eq_true rfl, Nat.le_of_ble_eq_true rfl⟩ 0 rfl rfl rfl rfl rfl (Nat.le_of_ble_eq_true rfl) dX3_worth_5 ⟨Nat.le_of_ble_eq_true rfl, Nat.le_of_ble_eq_true rfl⟩ (fun r_3 st_4 hq => ?_)
  replace h := h r_3 st_4 hq
  refine j_bipush K (100 : Int32) dX3_worth_8 (by decide) ?_
  refine j_iadd K dX3_worth_10 ?_
  exact j_iret st_4 K hr rfl h (Nat.le_of_ble_eq_true rfl) (Nat.le_of_ble_eq_true rfl) dX3_worth_11
theorem cgX3_worth {l : Launch} {D : va_G} {ct : Nat → ClassId} {ad : Nat → Nat} {post : Int32 → MS → Prop}  (st : MS) (hw : wX3_worth_0 post  st) : ∀ sz, Met l yX3_worth (ws_ yX3_worth cX3_worth 1 (some .int)) { frames := 7, cells := 0, slots := 0, locals := 163 } (va_Pc [.ref (ad 0)] (cPre gT D ct (MW ct ad st) sz)) (va_Qi post (fun u => cB D ct (va_A (MW ct ad st) sz) (MW ct ad u)) (va_A (MW ct ad st) sz)) 0 0 (va_A (MW ct ad st) sz) := fun sz =>
  j_met (Qc := fun A => va_Qi post (fun u => cB D ct A (MW ct ad u)) A) (by decide) gT_ok (Nat.le_of_ble_eq_true rfl) (fun p e s m args below meth c A K hr _ _ => kX3_worth_0 K hr  st hw)
-- X3_behind
theorem kX3_behind_10 {p : Program} {l : Launch} {e : Env} {s : State} {m : MethodId} {args : Array Value} {below : List Frame} {meth : Method} {c : Code} {A : Nat → Prop} {D : va_G} {ct : Nat → ClassId} {ad : Nat → Nat} {post : Int32 → MS → Prop} (K : CX p s m args meth c cX3_behind 3 RX3 A D ct gT) (hr : meth.sig.returnType = (some .int))   (x1 : Int32) (st : MS) (h : wX3_behind_10 post  x1 st) : jJ p l e { frames := 7, cells := 0, slots := 0, locals := 163 } s m args below meth c (MQ below (va_Qi post (fun u => cB D ct A (MW ct ad u)) A) args s 0 0 A) A D 3 (MW ct ad st) 0 0 10 [(0, .ref (ad 0)), (1, .int x1)] [] := by
  unfold wX3_behind_10 at h
  refine j_aload_n K 0 dX3_behind_10 rfl rfl ?_
  refine j_aload_n K 0 dX3_behind_11 rfl rfl ?_
  obtain ⟨hp, h⟩ := h
  refine j_callVi K (As := []) (rest := [.ref (ad 0)]) (ctX3_now (l := l) (D := D) (ct := ct) (ad := ad)  st hp) gwX3_now gdX3_now ⟨Nat.le_of_ble_eq_true rfl, Nat.le_of_ble_eq_true rfl⟩ 0 rfl rfl rfl rfl rfl (Nat.le_of_ble_eq_true rfl) dX3_behind_12 ⟨Nat.le_of_ble_eq_true rfl, Nat.le_of_ble_eq_true rfl⟩ (fun r_1 st_2 hq => ?_)
  obtain ⟨hq, rfl⟩ := hq
  replace h := h r_1 hq
  obtain ⟨hp, h⟩ := h
  refine j_callVv K (As := [.int r_1]) (rest := []) (ctX3_open (l := l) (D := D) (ct := ct) (ad := ad) r_1 st hp) gwX3_open gdX3_open ⟨Nat.le_of_ble_eq_true rfl, Nat.le_of_ble_eq_true rfl⟩ 0 rfl rfl rfl rfl rfl (Nat.le_of_ble_eq_true rfl) dX3_behind_15 ⟨Nat.le_of_ble_eq_true rfl, Nat.le_of_ble_eq_true rfl⟩ (fun st_3 hq => ?_)
  replace h := h st_3 hq
  refine j_aload_n K 0 dX3_behind_18 rfl rfl ?_
  refine j_iload_n K 1 dX3_behind_19 rfl rfl ?_
  obtain ⟨hp, h⟩ := h
  refine j_callVi K (As := [.int x1]) (rest := []) (ctX3_next (l := l) (D := D) (ct := ct) (ad := ad) x1 st_3 hp) gwX3_next gdX3_next ⟨Nat.le_of_ble_eq_true rfl, Nat.le_of_ble_eq_true rfl⟩ 0 rfl rfl rfl rfl rfl (Nat.le_of_ble_eq_true rfl) dX3_behind_20 ⟨Nat.le_of_ble_eq_true rfl, Nat.le_of_ble_eq_true rfl⟩ (fun r_4 st_5 hq => ?_)
  replace h := h r_4 st_5 hq
  refine j_istore_n K [(2, .int r_4), (0, .ref (ad 0)), (1, .int x1)] dX3_behind_23 rfl (by decide) rfl ?_
  refine j_aload_n K 1 dX3_behind_24 rfl rfl ?_
  refine j_iload_n K 0 dX3_behind_25 rfl rfl ?_
  obtain ⟨hp, h⟩ := h
  refine j_callVi K (As := [.int r_4]) (rest := []) (ctX3_worthAt (l := l) (D := D) (ct := ct) (ad := ad) r_4 st_5 hp) gwX3_worthAt gdX3_worthAt ⟨Nat.le_of_ble_eq_true rfl, Nat.le_of_ble_eq_true rfl⟩ 0 rfl rfl rfl rfl rfl (Nat.le_of_ble_eq_true rfl) dX3_behind_26 ⟨Nat.le_of_ble_eq_true rfl, Nat.le_of_ble_eq_true rfl⟩ (fun r_6 st_7 hq => ?_)
  replace h := h r_6 st_7 hq
  refine j_bipush K (100 : Int32) dX3_behind_29 (by decide) ?_
  refine j_iadd K dX3_behind_31 ?_
  exact j_iret st_7 K hr rfl h (Nat.le_of_ble_eq_true rfl) (Nat.le_of_ble_eq_true rfl) dX3_behind_32
theorem kX3_behind_8 {p : Program} {l : Launch} {e : Env} {s : State} {m : MethodId} {args : Array Value} {below : List Frame} {meth : Method} {c : Code} {A : Nat → Prop} {D : va_G} {ct : Nat → ClassId} {ad : Nat → Nat} {post : Int32 → MS → Prop} (K : CX p s m args meth c cX3_behind 3 RX3 A D ct gT) (hr : meth.sig.returnType = (some .int))    (st : MS) (h : wX3_behind_8 post  st) : jJ p l e { frames := 7, cells := 0, slots := 0, locals := 163 } s m args below meth c (MQ below (va_Qi post (fun u => cB D ct A (MW ct ad u)) A) args s 0 0 A) A D 3 (MW ct ad st) 0 0 8 [] [] := by
  unfold wX3_behind_8 at h
  refine j_iconst K (-1 : Int32) dX3_behind_8 (by decide) ?_
  exact j_iret st K hr rfl h (Nat.le_of_ble_eq_true rfl) (Nat.le_of_ble_eq_true rfl) dX3_behind_9
theorem kX3_behind_0 {p : Program} {l : Launch} {e : Env} {s : State} {m : MethodId} {args : Array Value} {below : List Frame} {meth : Method} {c : Code} {A : Nat → Prop} {D : va_G} {ct : Nat → ClassId} {ad : Nat → Nat} {post : Int32 → MS → Prop} (K : CX p s m args meth c cX3_behind 3 RX3 A D ct gT) (hr : meth.sig.returnType = (some .int))   (x1 : Int32) (st : MS) (h : wX3_behind_0 post  x1 st) : jJ p l e { frames := 7, cells := 0, slots := 0, locals := 163 } s m args below meth c (MQ below (va_Qi post (fun u => cB D ct A (MW ct ad u)) A) args s 0 0 A) A D 3 (MW ct ad st) 0 0 0 [(0, .ref (ad 0)), (1, .int x1)] [] := by
  unfold wX3_behind_0 at h
  refine j_aload_n K 0 dX3_behind_0 rfl rfl ?_
  refine j_iload_n K 1 dX3_behind_1 rfl rfl ?_
  obtain ⟨hp, h⟩ := h
  refine j_callVi K (As := [.int x1]) (rest := []) (ctX3_isMove (l := l) (D := D) (ct := ct) (ad := ad) x1 st hp) gwX3_isMove gdX3_isMove ⟨Nat.le_of_ble_eq_true rfl, Nat.le_of_ble_eq_true rfl⟩ 0 rfl rfl rfl rfl rfl (Nat.le_of_ble_eq_true rfl) dX3_behind_2 ⟨Nat.le_of_ble_eq_true rfl, Nat.le_of_ble_eq_true rfl⟩ (fun r_1 st_2 hq => ?_)
  replace h := h r_1 st_2 hq
  refine j_if_ne K 10 dX3_behind_5 (by decide) (fun hc => ?_) (fun hc => ?_)
  · exact kX3_behind_10 K hr  x1 st_2 (h.1 hc)
  · refine j_lv K [] (lv' := []) rfl ?_
    exact kX3_behind_8 K hr  st_2 (h.2 hc)
theorem cgX3_behind {l : Launch} {D : va_G} {ct : Nat → ClassId} {ad : Nat → Nat} {post : Int32 → MS → Prop} (x1 : Int32) (st : MS) (hw : wX3_behind_0 post x1 st) : ∀ sz, Met l yX3_behind (ws_ yX3_behind cX3_behind 3 (some .int)) { frames := 7, cells := 0, slots := 0, locals := 163 } (va_Pc [.ref (ad 0), .int x1] (cPre gT D ct (MW ct ad st) sz)) (va_Qi post (fun u => cB D ct (va_A (MW ct ad st) sz) (MW ct ad u)) (va_A (MW ct ad st) sz)) 0 0 (va_A (MW ct ad st) sz) := fun sz =>
  j_met (Qc := fun A => va_Qi post (fun u => cB D ct A (MW ct ad u)) A) (by decide) gT_ok (Nat.le_of_ble_eq_true rfl) (fun p e s m args below meth c A K hr _ _ => kX3_behind_0 K hr x1 st hw)
-- X3_best
theorem kX3_best_16 {p : Program} {l : Launch} {e : Env} {s : State} {m : MethodId} {args : Array Value} {below : List Frame} {meth : Method} {c : Code} {A : Nat → Prop} {D : va_G} {ct : Nat → ClassId} {ad : Nat → Nat} {post : Int32 → MS → Prop} (K : CX p s m args meth c cX3_best 1 RX3 A D ct gT) (hr : meth.sig.returnType = (some .int))   (s0 : Int32) (st : MS) (h : wX3_best_16 post  s0 st) : jJ p l e { frames := 8, cells := 0, slots := 0, locals := 186 } s m args below meth c (MQ below (va_Qi post (fun u => cB D ct A (MW ct ad u)) A) args s 0 0 A) A D 1 (MW ct ad st) 0 0 16 [] [.int s0] := by
  unfold wX3_best_16 at h
  exact j_iret st K hr rfl h (Nat.le_of_ble_eq_true rfl) (Nat.le_of_ble_eq_true rfl) dX3_best_16
theorem kX3_best_12 {p : Program} {l : Launch} {e : Env} {s : State} {m : MethodId} {args : Array Value} {below : List Frame} {meth : Method} {c : Code} {A : Nat → Prop} {D : va_G} {ct : Nat → ClassId} {ad : Nat → Nat} {post : Int32 → MS → Prop} (K : CX p s m args meth c cX3_best 1 RX3 A D ct gT) (hr : meth.sig.returnType = (some .int))    (st : MS) (h : wX3_best_12 post  st) : jJ p l e { frames := 8, cells := 0, slots := 0, locals := 186 } s m args below meth c (MQ below (va_Qi post (fun u => cB D ct A (MW ct ad u)) A) args s 0 0 A) A D 1 (MW ct ad st) 0 0 12 [(0, .ref (ad 0))] [] := by
  unfold wX3_best_12 at h
  refine j_aload_n K 0 dX3_best_12 rfl rfl ?_
  obtain ⟨hp, h⟩ := h
  refine j_callVi K (As := []) (rest := []) (ctX3_bestMove (l := l) (D := D) (ct := ct) (ad := ad)  st hp) gwX3_bestMove gdX3_bestMove ⟨Nat.le_of_ble_eq_true rfl, Nat.le_of_ble_eq_true rfl⟩ 0 rfl rfl rfl rfl rfl (Nat.le_of_ble_eq_true rfl) dX3_best_13 ⟨Nat.le_of_ble_eq_true rfl, Nat.le_of_ble_eq_true rfl⟩ (fun r_1 st_2 hq => ?_)
  replace h := h r_1 st_2 hq
  refine j_lv K [] (lv' := []) rfl ?_
  exact kX3_best_16 K hr  r_1 st_2 h
theorem kX3_best_7 {p : Program} {l : Launch} {e : Env} {s : State} {m : MethodId} {args : Array Value} {below : List Frame} {meth : Method} {c : Code} {A : Nat → Prop} {D : va_G} {ct : Nat → ClassId} {ad : Nat → Nat} {post : Int32 → MS → Prop} (K : CX p s m args meth c cX3_best 1 RX3 A D ct gT) (hr : meth.sig.returnType = (some .int))    (st : MS) (h : wX3_best_7 post  st) : jJ p l e { frames := 8, cells := 0, slots := 0, locals := 186 } s m args below meth c (MQ below (va_Qi post (fun u => cB D ct A (MW ct ad u)) A) args s 0 0 A) A D 1 (MW ct ad st) 0 0 7 [] [] := by
  unfold wX3_best_7 at h
  refine j_bipush K (-5 : Int32) dX3_best_7 (by decide) ?_
  refine j_goto K 16 dX3_best_9 (by decide) ?_
  exact kX3_best_16 K hr  (-5 : Int32) st h
theorem kX3_best_0 {p : Program} {l : Launch} {e : Env} {s : State} {m : MethodId} {args : Array Value} {below : List Frame} {meth : Method} {c : Code} {A : Nat → Prop} {D : va_G} {ct : Nat → ClassId} {ad : Nat → Nat} {post : Int32 → MS → Prop} (K : CX p s m args meth c cX3_best 1 RX3 A D ct gT) (hr : meth.sig.returnType = (some .int))    (st : MS) (h : wX3_best_0 post  st) : jJ p l e { frames := 8, cells := 0, slots := 0, locals := 186 } s m args below meth c (MQ below (va_Qi post (fun u => cB D ct A (MW ct ad u)) A) args s 0 0 A) A D 1 (MW ct ad st) 0 0 0 [(0, .ref (ad 0))] [] := by
  unfold wX3_best_0 at h
  refine j_aload_n K 0 dX3_best_0 rfl rfl ?_
  obtain ⟨hp, h⟩ := h
  refine j_callVi K (As := []) (rest := []) (ctX3_isOver (l := l) (D := D) (ct := ct) (ad := ad)  st hp) gwX3_isOver gdX3_isOver ⟨Nat.le_of_ble_eq_true rfl, Nat.le_of_ble_eq_true rfl⟩ 0 rfl rfl rfl rfl rfl (Nat.le_of_ble_eq_true rfl) dX3_best_1 ⟨Nat.le_of_ble_eq_true rfl, Nat.le_of_ble_eq_true rfl⟩ (fun r_1 st_2 hq => ?_)
  replace h := h r_1 st_2 hq
  refine j_if_eq K 12 dX3_best_4 (by decide) (fun hc => ?_) (fun hc => ?_)
  · exact kX3_best_12 K hr  st_2 (h.1 hc)
  · refine j_lv K [] (lv' := []) rfl ?_
    exact kX3_best_7 K hr  st_2 (h.2 hc)
theorem cgX3_best {l : Launch} {D : va_G} {ct : Nat → ClassId} {ad : Nat → Nat} {post : Int32 → MS → Prop}  (st : MS) (hw : wX3_best_0 post  st) : ∀ sz, Met l yX3_best (ws_ yX3_best cX3_best 1 (some .int)) { frames := 8, cells := 0, slots := 0, locals := 186 } (va_Pc [.ref (ad 0)] (cPre gT D ct (MW ct ad st) sz)) (va_Qi post (fun u => cB D ct (va_A (MW ct ad st) sz) (MW ct ad u)) (va_A (MW ct ad st) sz)) 0 0 (va_A (MW ct ad st) sz) := fun sz =>
  j_met (Qc := fun A => va_Qi post (fun u => cB D ct A (MW ct ad u)) A) (by decide) gT_ok (Nat.le_of_ble_eq_true rfl) (fun p e s m args below meth c A K hr _ _ => kX3_best_0 K hr  st hw)
-- X3_worthOf
theorem kX3_worthOf_40 {p : Program} {l : Launch} {e : Env} {s : State} {m : MethodId} {args : Array Value} {below : List Frame} {meth : Method} {c : Code} {A : Nat → Prop} {D : va_G} {ct : Nat → ClassId} {ad : Nat → Nat} {post : Int32 → MS → Prop} (K : CX p s m args meth c cX3_worthOf 5 RX3 A D ct gT) (hr : meth.sig.returnType = (some .int))    (st : MS) (h : wX3_worthOf_40 post  st) : jJ p l e { frames := 7, cells := 0, slots := 0, locals := 163 } s m args below meth c (MQ below (va_Qi post (fun u => cB D ct A (MW ct ad u)) A) args s 0 0 A) A D 5 (MW ct ad st) 0 0 40 [] [] := by
  unfold wX3_worthOf_40 at h
  refine j_bipush K (-2 : Int32) dX3_worthOf_40 (by decide) ?_
  exact j_iret st K hr rfl h (Nat.le_of_ble_eq_true rfl) (Nat.le_of_ble_eq_true rfl) dX3_worthOf_42
theorem kX3_worthOf_113 {p : Program} {l : Launch} {e : Env} {s : State} {m : MethodId} {args : Array Value} {below : List Frame} {meth : Method} {c : Code} {A : Nat → Prop} {D : va_G} {ct : Nat → ClassId} {ad : Nat → Nat} {post : Int32 → MS → Prop} (K : CX p s m args meth c cX3_worthOf 5 RX3 A D ct gT) (hr : meth.sig.returnType = (some .int))   (s0 : Int32) (st : MS) (h : wX3_worthOf_113 post  s0 st) : jJ p l e { frames := 7, cells := 0, slots := 0, locals := 163 } s m args below meth c (MQ below (va_Qi post (fun u => cB D ct A (MW ct ad u)) A) args s 0 0 A) A D 5 (MW ct ad st) 0 0 113 [] [.int s0] := by
  unfold wX3_worthOf_113 at h
  exact j_iret st K hr rfl h (Nat.le_of_ble_eq_true rfl) (Nat.le_of_ble_eq_true rfl) dX3_worthOf_113
theorem kX3_worthOf_111 {p : Program} {l : Launch} {e : Env} {s : State} {m : MethodId} {args : Array Value} {below : List Frame} {meth : Method} {c : Code} {A : Nat → Prop} {D : va_G} {ct : Nat → ClassId} {ad : Nat → Nat} {post : Int32 → MS → Prop} (K : CX p s m args meth c cX3_worthOf 5 RX3 A D ct gT) (hr : meth.sig.returnType = (some .int))    (st : MS) (h : wX3_worthOf_111 post  st) : jJ p l e { frames := 7, cells := 0, slots := 0, locals := 163 } s m args below meth c (MQ below (va_Qi post (fun u => cB D ct A (MW ct ad u)) A) args s 0 0 A) A D 5 (MW ct ad st) 0 0 111 [] [] := by
  unfold wX3_worthOf_111 at h
  refine j_bipush K (-2 : Int32) dX3_worthOf_111 (by decide) ?_
  exact kX3_worthOf_113 K hr  (-2 : Int32) st h
theorem kX3_worthOf_99 {p : Program} {l : Launch} {e : Env} {s : State} {m : MethodId} {args : Array Value} {below : List Frame} {meth : Method} {c : Code} {A : Nat → Prop} {D : va_G} {ct : Nat → ClassId} {ad : Nat → Nat} {post : Int32 → MS → Prop} (K : CX p s m args meth c cX3_worthOf 5 RX3 A D ct gT) (hr : meth.sig.returnType = (some .int))   (x4 : Int32) (st : MS) (h : wX3_worthOf_99 post  x4 st) : jJ p l e { frames := 7, cells := 0, slots := 0, locals := 163 } s m args below meth c (MQ below (va_Qi post (fun u => cB D ct A (MW ct ad u)) A) args s 0 0 A) A D 5 (MW ct ad st) 0 0 99 [(0, .ref (ad 0)), (4, .int x4)] [] := by
  unfold wX3_worthOf_99 at h
  refine j_aload_n K 0 dX3_worthOf_99 rfl rfl ?_
  refine j_iload K 1 dX3_worthOf_100 rfl ?_
  obtain ⟨hp, h⟩ := h
  refine j_callVi K (As := [.int x4]) (rest := []) (ctX3_worthAt (l := l) (D := D) (ct := ct) (ad := ad) x4 st hp) gwX3_worthAt gdX3_worthAt ⟨Nat.le_of_ble_eq_true rfl, Nat.le_of_ble_eq_true rfl⟩ 0 rfl rfl rfl rfl rfl (Nat.le_of_ble_eq_true rfl) dX3_worthOf_102 ⟨Nat.le_of_ble_eq_true rfl, Nat.le_of_ble_eq_true rfl⟩ (fun r_1 st_2 hq => ?_)
  replace h := h r_1 st_2 hq
  refine j_bipush K (100 : Int32) dX3_worthOf_105 (by decide) ?_
  refine j_iadd K dX3_worthOf_107 ?_
  refine j_goto K 113 dX3_worthOf_108 (by decide) ?_
  refine j_lv K [] (lv' := []) rfl ?_
  exact kX3_worthOf_113 K hr  (r_1 + (100 : Int32)) st_2 h
theorem kX3_worthOf_81 {p : Program} {l : Launch} {e : Env} {s : State} {m : MethodId} {args : Array Value} {below : List Frame} {meth : Method} {c : Code} {A : Nat → Prop} {D : va_G} {ct : Nat → ClassId} {ad : Nat → Nat} {post : Int32 → MS → Prop} (K : CX p s m args meth c cX3_worthOf 5 RX3 A D ct gT) (hr : meth.sig.returnType = (some .int))   (x3 : Int32) (st : MS) (h : wX3_worthOf_81 post  x3 st) : jJ p l e { frames := 7, cells := 0, slots := 0, locals := 163 } s m args below meth c (MQ below (va_Qi post (fun u => cB D ct A (MW ct ad u)) A) args s 0 0 A) A D 5 (MW ct ad st) 0 0 81 [(0, .ref (ad 0)), (3, .int x3)] [] := by
  unfold wX3_worthOf_81 at h
  refine j_aload_n K 0 dX3_worthOf_81 rfl rfl ?_
  refine j_iload_n K 1 dX3_worthOf_82 rfl rfl ?_
  refine mp_mover K dX3_worthOf_83 ?_
  refine j_aload_n K 0 dX3_worthOf_86 rfl rfl ?_
  obtain ⟨hp, h⟩ := h
  refine j_callVi K (As := []) (rest := []) (ctX3_code (l := l) (D := D) (ct := ct) (ad := ad)  (mF st 3 x3) hp) gwX3_code gdX3_code ⟨Nat.le_of_ble_eq_true rfl, Nat.le_of_ble_eq_true rfl⟩ 0 rfl rfl rfl rfl rfl (Nat.le_of_ble_eq_true rfl) dX3_worthOf_87 ⟨Nat.le_of_ble_eq_true rfl, Nat.le_of_ble_eq_true rfl⟩ (fun r_1 st_2 hq => ?_)
  obtain ⟨hq, rfl⟩ := hq
  replace h := h r_1 hq
  refine j_istore K [(4, .int r_1), (0, .ref (ad 0)), (3, .int x3)] dX3_worthOf_90 (by decide) rfl ?_
  refine j_aload_n K 1 dX3_worthOf_92 rfl rfl ?_
  obtain ⟨hp, h⟩ := h
  refine j_callVi K (As := []) (rest := []) (ctX3_isLegal (l := l) (D := D) (ct := ct) (ad := ad)  (mF st 3 x3) hp) gwX3_isLegal gdX3_isLegal ⟨Nat.le_of_ble_eq_true rfl, Nat.le_of_ble_eq_true rfl⟩ 0 rfl rfl rfl rfl rfl (Nat.le_of_ble_eq_true rfl) dX3_worthOf_93 ⟨Nat.le_of_ble_eq_true rfl, Nat.le_of_ble_eq_true rfl⟩ (fun r_3 st_4 hq => ?_)
  obtain ⟨hq, rfl⟩ := hq
  replace h := h r_3 hq
  refine j_if_eq K 111 dX3_worthOf_96 (by decide) (fun hc => ?_) (fun hc => ?_)
  · refine j_lv K [] (lv' := []) rfl ?_
    exact kX3_worthOf_111 K hr  (mF st 3 x3) (h.1 hc)
  · refine j_lv K [1, 0] (lv' := [(0, .ref (ad 0)), (4, .int r_1)]) rfl ?_
    exact kX3_worthOf_99 K hr  r_1 (mF st 3 x3) (h.2 hc)
theorem kX3_worthOf_53 {p : Program} {l : Launch} {e : Env} {s : State} {m : MethodId} {args : Array Value} {below : List Frame} {meth : Method} {c : Code} {A : Nat → Prop} {D : va_G} {ct : Nat → ClassId} {ad : Nat → Nat} {post : Int32 → MS → Prop} (K : CX p s m args meth c cX3_worthOf 5 RX3 A D ct gT) (hr : meth.sig.returnType = (some .int)) (L46 : Int32 → Int32 → Int32 → Int32 → MS → Prop) (hL46 : ∀ (x1 : Int32) (x2 : Int32) (x3 : Int32) (x4 : Int32) (st : MS), L46 x1 x2 x3 x4 st → jJ p l e { frames := 7, cells := 0, slots := 0, locals := 163 } s m args below meth c (MQ below (va_Qi post (fun u => cB D ct A (MW ct ad u)) A) args s 0 0 A) A D 5 (MW ct ad st) 0 0 46 [(0, .ref (ad 0)), (1, .int x1), (2, .int x2), (3, .int x3), (4, .int x4)] []) (x1 : Int32) (x2 : Int32) (x3 : Int32) (x4 : Int32) (st : MS) (h : wX3_worthOf_53 post L46 x1 x2 x3 x4 st) : jJ p l e { frames := 7, cells := 0, slots := 0, locals := 163 } s m args below meth c (MQ below (va_Qi post (fun u => cB D ct A (MW ct ad u)) A) args s 0 0 A) A D 5 (MW ct ad st) 0 0 53 [(0, .ref (ad 0)), (1, .int x1), (2, .int x2), (3, .int x3), (4, .int x4)] [] := by
  unfold wX3_worthOf_53 at h
  refine j_aload_n K 0 dX3_worthOf_53 rfl rfl ?_
  refine mg_cells K dX3_worthOf_54 ?_
  refine j_iload K 4 dX3_worthOf_57 rfl ?_
  refine j_iload_n K 1 dX3_worthOf_59 rfl rfl ?_
  refine j_iload K 4 dX3_worthOf_60 rfl ?_
  refine j_ishr K dX3_worthOf_62 ?_
  refine j_iconst K (1 : Int32) dX3_worthOf_63 (by decide) ?_
  refine j_iand K dX3_worthOf_64 ?_
  refine j_iconst K (2 : Int32) dX3_worthOf_65 (by decide) ?_
  refine j_iload_n K 2 dX3_worthOf_66 rfl rfl ?_
  refine j_iload K 4 dX3_worthOf_67 rfl ?_
  refine j_ishr K dX3_worthOf_69 ?_
  refine j_iconst K (1 : Int32) dX3_worthOf_70 (by decide) ?_
  refine j_iand K dX3_worthOf_71 ?_
  refine j_imul K dX3_worthOf_72 ?_
  refine j_iadd K dX3_worthOf_73 ?_
  obtain ⟨hc, h⟩ := h
  refine mt_cells K hc dX3_worthOf_74 ?_
  refine j_iinc K 4 (x4 + (1 : Int32)) [(4, .int (x4 + (1 : Int32))), (0, .ref (ad 0)), (1, .int x1), (2, .int x2), (3, .int x3)] dX3_worthOf_75 rfl rfl (by decide) rfl ?_
  refine j_goto K 46 dX3_worthOf_78 (by decide) ?_
  refine j_lv K [1, 2, 3, 4, 0] (lv' := [(0, .ref (ad 0)), (1, .int x1), (2, .int x2), (3, .int x3), (4, .int (x4 + (1 : Int32)))]) rfl ?_
  exact hL46 x1 x2 x3 (x4 + (1 : Int32)) (mA st 7 (x4).toNatClampNeg (((x1 >>> (x4 &&& 31)) &&& (1 : Int32)) + ((2 : Int32) * ((x2 >>> (x4 &&& 31)) &&& (1 : Int32))))) h
theorem kX3_worthOf_46_b {p : Program} {l : Launch} {e : Env} {s : State} {m : MethodId} {args : Array Value} {below : List Frame} {meth : Method} {c : Code} {A : Nat → Prop} {D : va_G} {ct : Nat → ClassId} {ad : Nat → Nat} {post : Int32 → MS → Prop} (K : CX p s m args meth c cX3_worthOf 5 RX3 A D ct gT) (hr : meth.sig.returnType = (some .int)) (L46 : Int32 → Int32 → Int32 → Int32 → MS → Prop) (hL46 : ∀ (x1 : Int32) (x2 : Int32) (x3 : Int32) (x4 : Int32) (st : MS), L46 x1 x2 x3 x4 st → jJ p l e { frames := 7, cells := 0, slots := 0, locals := 163 } s m args below meth c (MQ below (va_Qi post (fun u => cB D ct A (MW ct ad u)) A) args s 0 0 A) A D 5 (MW ct ad st) 0 0 46 [(0, .ref (ad 0)), (1, .int x1), (2, .int x2), (3, .int x3), (4, .int x4)] []) (x1 : Int32) (x2 : Int32) (x3 : Int32) (x4 : Int32) (st : MS) (h : wX3_worthOf_46_b post L46 x1 x2 x3 x4 st) : jJ p l e { frames := 7, cells := 0, slots := 0, locals := 163 } s m args below meth c (MQ below (va_Qi post (fun u => cB D ct A (MW ct ad u)) A) args s 0 0 A) A D 5 (MW ct ad st) 0 0 46 [(0, .ref (ad 0)), (1, .int x1), (2, .int x2), (3, .int x3), (4, .int x4)] [] := by
  unfold wX3_worthOf_46_b at h
  refine j_iload K 4 dX3_worthOf_46 rfl ?_
  refine j_bipush K (9 : Int32) dX3_worthOf_48 (by decide) ?_
  refine j_icmp_ge K 81 dX3_worthOf_50 (by decide) (fun hc => ?_) (fun hc => ?_)
  · refine j_lv K [0, 3] (lv' := [(0, .ref (ad 0)), (3, .int x3)]) rfl ?_
    exact kX3_worthOf_81 K hr  x3 st (h.1 hc)
  · exact kX3_worthOf_53 K hr L46 hL46 x1 x2 x3 x4 st (h.2 hc)
theorem kX3_worthOf_46 {p : Program} {l : Launch} {e : Env} {s : State} {m : MethodId} {args : Array Value} {below : List Frame} {meth : Method} {c : Code} {A : Nat → Prop} {D : va_G} {ct : Nat → ClassId} {ad : Nat → Nat} {post : Int32 → MS → Prop} (K : CX p s m args meth c cX3_worthOf 5 RX3 A D ct gT) (hr : meth.sig.returnType = (some .int))   (x1 : Int32) (x2 : Int32) (x3 : Int32) (x4 : Int32) (st : MS) (h : wX3_worthOf_46 post  x1 x2 x3 x4 st) : jJ p l e { frames := 7, cells := 0, slots := 0, locals := 163 } s m args below meth c (MQ below (va_Qi post (fun u => cB D ct A (MW ct ad u)) A) args s 0 0 A) A D 5 (MW ct ad st) 0 0 46 [(0, .ref (ad 0)), (1, .int x1), (2, .int x2), (3, .int x3), (4, .int x4)] [] :=
  wloop_sound (V := Int32 × Int32 × Int32 × Int32 × MS) (Wk := fun v => jJ p l e { frames := 7, cells := 0, slots := 0, locals := 163 } s m args below meth c (MQ below (va_Qi post (fun u => cB D ct A (MW ct ad u)) A) args s 0 0 A) A D 5 (MW ct ad v.2.2.2.2) 0 0 46 [(0, .ref (ad 0)), (1, .int v.1), (2, .int v.2.1), (3, .int v.2.2.1), (4, .int v.2.2.2.1)] []) (fun L hL v hb => kX3_worthOf_46_b K hr (fun x1 x2 x3 x4 st => L (x1, x2, x3, x4, st)) (fun x1 x2 x3 x4 st hx => hL (x1, x2, x3, x4, st) hx) v.1 v.2.1 v.2.2.1 v.2.2.2.1 v.2.2.2.2 hb) h
theorem kX3_worthOf_43 {p : Program} {l : Launch} {e : Env} {s : State} {m : MethodId} {args : Array Value} {below : List Frame} {meth : Method} {c : Code} {A : Nat → Prop} {D : va_G} {ct : Nat → ClassId} {ad : Nat → Nat} {post : Int32 → MS → Prop} (K : CX p s m args meth c cX3_worthOf 5 RX3 A D ct gT) (hr : meth.sig.returnType = (some .int))   (x1 : Int32) (x2 : Int32) (x3 : Int32) (st : MS) (h : wX3_worthOf_43 post  x1 x2 x3 st) : jJ p l e { frames := 7, cells := 0, slots := 0, locals := 163 } s m args below meth c (MQ below (va_Qi post (fun u => cB D ct A (MW ct ad u)) A) args s 0 0 A) A D 5 (MW ct ad st) 0 0 43 [(0, .ref (ad 0)), (1, .int x1), (2, .int x2), (3, .int x3)] [] := by
  unfold wX3_worthOf_43 at h
  refine j_iconst K (0 : Int32) dX3_worthOf_43 (by decide) ?_
  refine j_istore K [(4, .int (0 : Int32)), (0, .ref (ad 0)), (1, .int x1), (2, .int x2), (3, .int x3)] dX3_worthOf_44 (by decide) rfl ?_
  refine j_lv K [1, 2, 3, 4, 0] (lv' := [(0, .ref (ad 0)), (1, .int x1), (2, .int x2), (3, .int x3), (4, .int (0 : Int32))]) rfl ?_
  exact kX3_worthOf_46 K hr  x1 x2 x3 (0 : Int32) st h
theorem kX3_worthOf_34 {p : Program} {l : Launch} {e : Env} {s : State} {m : MethodId} {args : Array Value} {below : List Frame} {meth : Method} {c : Code} {A : Nat → Prop} {D : va_G} {ct : Nat → ClassId} {ad : Nat → Nat} {post : Int32 → MS → Prop} (K : CX p s m args meth c cX3_worthOf 5 RX3 A D ct gT) (hr : meth.sig.returnType = (some .int))   (x1 : Int32) (x2 : Int32) (x3 : Int32) (st : MS) (h : wX3_worthOf_34 post  x1 x2 x3 st) : jJ p l e { frames := 7, cells := 0, slots := 0, locals := 163 } s m args below meth c (MQ below (va_Qi post (fun u => cB D ct A (MW ct ad u)) A) args s 0 0 A) A D 5 (MW ct ad st) 0 0 34 [(0, .ref (ad 0)), (1, .int x1), (2, .int x2), (3, .int x3)] [] := by
  unfold wX3_worthOf_34 at h
  refine j_iload_n K 1 dX3_worthOf_34 rfl rfl ?_
  refine j_iload_n K 2 dX3_worthOf_35 rfl rfl ?_
  refine j_iand K dX3_worthOf_36 ?_
  refine j_if_eq K 43 dX3_worthOf_37 (by decide) (fun hc => ?_) (fun hc => ?_)
  · exact kX3_worthOf_43 K hr  x1 x2 x3 st (h.1 hc)
  · refine j_lv K [] (lv' := []) rfl ?_
    exact kX3_worthOf_40 K hr  st (h.2 hc)
theorem kX3_worthOf_24 {p : Program} {l : Launch} {e : Env} {s : State} {m : MethodId} {args : Array Value} {below : List Frame} {meth : Method} {c : Code} {A : Nat → Prop} {D : va_G} {ct : Nat → ClassId} {ad : Nat → Nat} {post : Int32 → MS → Prop} (K : CX p s m args meth c cX3_worthOf 5 RX3 A D ct gT) (hr : meth.sig.returnType = (some .int))   (x1 : Int32) (x2 : Int32) (x3 : Int32) (st : MS) (h : wX3_worthOf_24 post  x1 x2 x3 st) : jJ p l e { frames := 7, cells := 0, slots := 0, locals := 163 } s m args below meth c (MQ below (va_Qi post (fun u => cB D ct A (MW ct ad u)) A) args s 0 0 A) A D 5 (MW ct ad st) 0 0 24 [(0, .ref (ad 0)), (1, .int x1), (2, .int x2), (3, .int x3)] [] := by
  unfold wX3_worthOf_24 at h
  refine j_iload_n K 3 dX3_worthOf_24 rfl rfl ?_
  refine j_i2l K dX3_worthOf_25 ?_
  refine j_iconst K (0 : Int32) dX3_worthOf_26 (by decide) ?_
  refine j_iconst K (1 : Int32) dX3_worthOf_27 (by decide) ?_
  refine j_callSi K (As := [.long (x3.toInt64), .int (0 : Int32), .int (1 : Int32)]) (rest := []) (ctX3_in (l := l) (D := D) (ct := ct) (G := gT) (ws := MW ct ad st) gT_ok (x3.toInt64) (0 : Int32) (1 : Int32)) gwX3_in gdX3_in ⟨Nat.le_of_ble_eq_true rfl, Nat.le_of_ble_eq_true rfl⟩ rfl rfl (Nat.le_of_ble_eq_true rfl) dX3_worthOf_28 ⟨Nat.le_of_ble_eq_true rfl, Nat.le_of_ble_eq_true rfl⟩ (fun r_1 _ hq => ?_)
  replace h := h r_1 hq
  refine j_if_eq K 40 dX3_worthOf_31 (by decide) (fun hc => ?_) (fun hc => ?_)
  · refine j_lv K [] (lv' := []) rfl ?_
    exact kX3_worthOf_40 K hr  st (h.1 hc)
  · exact kX3_worthOf_34 K hr  x1 x2 x3 st (h.2 hc)
theorem kX3_worthOf_12 {p : Program} {l : Launch} {e : Env} {s : State} {m : MethodId} {args : Array Value} {below : List Frame} {meth : Method} {c : Code} {A : Nat → Prop} {D : va_G} {ct : Nat → ClassId} {ad : Nat → Nat} {post : Int32 → MS → Prop} (K : CX p s m args meth c cX3_worthOf 5 RX3 A D ct gT) (hr : meth.sig.returnType = (some .int))   (x1 : Int32) (x2 : Int32) (x3 : Int32) (st : MS) (h : wX3_worthOf_12 post  x1 x2 x3 st) : jJ p l e { frames := 7, cells := 0, slots := 0, locals := 163 } s m args below meth c (MQ below (va_Qi post (fun u => cB D ct A (MW ct ad u)) A) args s 0 0 A) A D 5 (MW ct ad st) 0 0 12 [(0, .ref (ad 0)), (1, .int x1), (2, .int x2), (3, .int x3)] [] := by
  unfold wX3_worthOf_12 at h
  refine j_iload_n K 2 dX3_worthOf_12 rfl rfl ?_
  refine j_i2l K dX3_worthOf_13 ?_
  refine j_iconst K (0 : Int32) dX3_worthOf_14 (by decide) ?_
  refine j_sipush K (511 : Int32) dX3_worthOf_15 (by decide) ?_
  refine j_callSi K (As := [.long (x2.toInt64), .int (0 : Int32), .int (511 : Int32)]) (rest := []) (ctX3_in (l := l) (D := D) (ct := ct) (G := gT) (ws := MW ct ad st) gT_ok (x2.toInt64) (0 : Int32) (511 : Int32)) gwX3_in gdX3_in ⟨Nat.le_of_ble_eq_true rfl, Nat.le_of_ble_eq_true rfl⟩ rfl rfl (Nat.le_of_ble_eq_true rfl) dX3_worthOf_18 ⟨Nat.le_of_ble_eq_true rfl, Nat.le_of_ble_eq_true rfl⟩ (fun r_1 _ hq => ?_)
  replace h := h r_1 hq
  refine j_if_eq K 40 dX3_worthOf_21 (by decide) (fun hc => ?_) (fun hc => ?_)
  · refine j_lv K [] (lv' := []) rfl ?_
    exact kX3_worthOf_40 K hr  st (h.1 hc)
  · exact kX3_worthOf_24 K hr  x1 x2 x3 st (h.2 hc)
theorem kX3_worthOf_0 {p : Program} {l : Launch} {e : Env} {s : State} {m : MethodId} {args : Array Value} {below : List Frame} {meth : Method} {c : Code} {A : Nat → Prop} {D : va_G} {ct : Nat → ClassId} {ad : Nat → Nat} {post : Int32 → MS → Prop} (K : CX p s m args meth c cX3_worthOf 5 RX3 A D ct gT) (hr : meth.sig.returnType = (some .int))   (x1 : Int32) (x2 : Int32) (x3 : Int32) (st : MS) (h : wX3_worthOf_0 post  x1 x2 x3 st) : jJ p l e { frames := 7, cells := 0, slots := 0, locals := 163 } s m args below meth c (MQ below (va_Qi post (fun u => cB D ct A (MW ct ad u)) A) args s 0 0 A) A D 5 (MW ct ad st) 0 0 0 [(0, .ref (ad 0)), (1, .int x1), (2, .int x2), (3, .int x3)] [] := by
  unfold wX3_worthOf_0 at h
  refine j_iload_n K 1 dX3_worthOf_0 rfl rfl ?_
  refine j_i2l K dX3_worthOf_1 ?_
  refine j_iconst K (0 : Int32) dX3_worthOf_2 (by decide) ?_
  refine j_sipush K (511 : Int32) dX3_worthOf_3 (by decide) ?_
  refine j_callSi K (As := [.long (x1.toInt64), .int (0 : Int32), .int (511 : Int32)]) (rest := []) (ctX3_in (l := l) (D := D) (ct := ct) (G := gT) (ws := MW ct ad st) gT_ok (x1.toInt64) (0 : Int32) (511 : Int32)) gwX3_in gdX3_in ⟨Nat.le_of_ble_eq_true rfl, Nat.le_of_ble_eq_true rfl⟩ rfl rfl (Nat.le_of_ble_eq_true rfl) dX3_worthOf_6 ⟨Nat.le_of_ble_eq_true rfl, Nat.le_of_ble_eq_true rfl⟩ (fun r_1 _ hq => ?_)
  replace h := h r_1 hq
  refine j_if_eq K 40 dX3_worthOf_9 (by decide) (fun hc => ?_) (fun hc => ?_)
  · refine j_lv K [] (lv' := []) rfl ?_
    exact kX3_worthOf_40 K hr  st (h.1 hc)
  · exact kX3_worthOf_12 K hr  x1 x2 x3 st (h.2 hc)
theorem cgX3_worthOf {l : Launch} {D : va_G} {ct : Nat → ClassId} {ad : Nat → Nat} {post : Int32 → MS → Prop} (x1 : Int32) (x2 : Int32) (x3 : Int32) (st : MS) (hw : wX3_worthOf_0 post x1 x2 x3 st) : ∀ sz, Met l yX3_worthOf (ws_ yX3_worthOf cX3_worthOf 5 (some .int)) { frames := 7, cells := 0, slots := 0, locals := 163 } (va_Pc [.ref (ad 0), .int x1, .int x2, .int x3] (cPre gT D ct (MW ct ad st) sz)) (va_Qi post (fun u => cB D ct (va_A (MW ct ad st) sz) (MW ct ad u)) (va_A (MW ct ad st) sz)) 0 0 (va_A (MW ct ad st) sz) := fun sz =>
  j_met (Qc := fun A => va_Qi post (fun u => cB D ct A (MW ct ad u)) A) (by decide) gT_ok (Nat.le_of_ble_eq_true rfl) (fun p e s m args below meth c A K hr _ _ => kX3_worthOf_0 K hr x1 x2 x3 st hw)
-- X3_tally
theorem gwX3_tally : GoodIn lw_all (wsV RX3 162 RX3 yX3_tally (ws_ yX3_tally cX3_tally 8 (some .int))) := lw_V q1231 q1224 q1225 q84 q1226
theorem gdX3_tally : yX3_tally.cls = RX3 ∧ yX3_tally.cls ≠ "java/lang/invoke/MethodHandle" ∧ yX3_tally.cls ≠ "java/lang/invoke/VarHandle" ∧ (parseMethodDescriptor yX3_tally.desc).map (fun d => d.parameters.length) = some 1 := by decide +kernel
theorem kX3_tally_165 {p : Program} {l : Launch} {e : Env} {s : State} {m : MethodId} {args : Array Value} {below : List Frame} {meth : Method} {c : Code} {A : Nat → Prop} {D : va_G} {ct : Nat → ClassId} {ad : Nat → Nat} {post : Int32 → MS → Prop} (K : CX p s m args meth c cX3_tally 8 RX3 A D ct gT) (hr : meth.sig.returnType = (some .int))   (s0 : Int32) (st : MS) (h : wX3_tally_165 post  s0 st) : jJ p l e { frames := 6, cells := 0, slots := 0, locals := 142 } s m args below meth c (MQ below (va_Qi post (fun u => cB D ct A (MW ct ad u)) A) args s 0 0 A) A D 8 (MW ct ad st) 0 0 165 [] [.int s0] := by
  unfold wX3_tally_165 at h
  exact j_iret st K hr rfl h (Nat.le_of_ble_eq_true rfl) (Nat.le_of_ble_eq_true rfl) dX3_tally_165
theorem kX3_tally_163 {p : Program} {l : Launch} {e : Env} {s : State} {m : MethodId} {args : Array Value} {below : List Frame} {meth : Method} {c : Code} {A : Nat → Prop} {D : va_G} {ct : Nat → ClassId} {ad : Nat → Nat} {post : Int32 → MS → Prop} (K : CX p s m args meth c cX3_tally 8 RX3 A D ct gT) (hr : meth.sig.returnType = (some .int))   (x4 : Int32) (st : MS) (h : wX3_tally_163 post  x4 st) : jJ p l e { frames := 6, cells := 0, slots := 0, locals := 142 } s m args below meth c (MQ below (va_Qi post (fun u => cB D ct A (MW ct ad u)) A) args s 0 0 A) A D 8 (MW ct ad st) 0 0 163 [(4, .int x4)] [] := by
  unfold wX3_tally_163 at h
  refine j_iload K 0 dX3_tally_163 rfl ?_
  refine j_lv K [] (lv' := []) rfl ?_
  exact kX3_tally_165 K hr  x4 st h
theorem kX3_tally_159 {p : Program} {l : Launch} {e : Env} {s : State} {m : MethodId} {args : Array Value} {below : List Frame} {meth : Method} {c : Code} {A : Nat → Prop} {D : va_G} {ct : Nat → ClassId} {ad : Nat → Nat} {post : Int32 → MS → Prop} (K : CX p s m args meth c cX3_tally 8 RX3 A D ct gT) (hr : meth.sig.returnType = (some .int))   (x3 : Int32) (st : MS) (h : wX3_tally_159 post  x3 st) : jJ p l e { frames := 6, cells := 0, slots := 0, locals := 142 } s m args below meth c (MQ below (va_Qi post (fun u => cB D ct A (MW ct ad u)) A) args s 0 0 A) A D 8 (MW ct ad st) 0 0 159 [(3, .int x3)] [] := by
  unfold wX3_tally_159 at h
  refine j_iload_n K 0 dX3_tally_159 rfl rfl ?_
  refine j_goto K 165 dX3_tally_160 (by decide) ?_
  refine j_lv K [] (lv' := []) rfl ?_
  exact kX3_tally_165 K hr  x3 st h
theorem kX3_tally_154 {p : Program} {l : Launch} {e : Env} {s : State} {m : MethodId} {args : Array Value} {below : List Frame} {meth : Method} {c : Code} {A : Nat → Prop} {D : va_G} {ct : Nat → ClassId} {ad : Nat → Nat} {post : Int32 → MS → Prop} (K : CX p s m args meth c cX3_tally 8 RX3 A D ct gT) (hr : meth.sig.returnType = (some .int))   (x1 : Int32) (x3 : Int32) (x4 : Int32) (st : MS) (h : wX3_tally_154 post  x1 x3 x4 st) : jJ p l e { frames := 6, cells := 0, slots := 0, locals := 142 } s m args below meth c (MQ below (va_Qi post (fun u => cB D ct A (MW ct ad u)) A) args s 0 0 A) A D 8 (MW ct ad st) 0 0 154 [(1, .int x1), (3, .int x3), (4, .int x4)] [] := by
  unfold wX3_tally_154 at h
  refine j_iload_n K 0 dX3_tally_154 rfl rfl ?_
  refine j_iconst K (4 : Int32) dX3_tally_155 (by decide) ?_
  refine j_icmp_ge K 163 dX3_tally_156 (by decide) (fun hc => ?_) (fun hc => ?_)
  · refine j_lv K [2] (lv' := [(4, .int x4)]) rfl ?_
    exact kX3_tally_163 K hr  x4 st (h.1 hc)
  · refine j_lv K [1] (lv' := [(3, .int x3)]) rfl ?_
    exact kX3_tally_159 K hr  x3 st (h.2 hc)
theorem kX3_tally_148 {p : Program} {l : Launch} {e : Env} {s : State} {m : MethodId} {args : Array Value} {below : List Frame} {meth : Method} {c : Code} {A : Nat → Prop} {D : va_G} {ct : Nat → ClassId} {ad : Nat → Nat} {post : Int32 → MS → Prop} (K : CX p s m args meth c cX3_tally 8 RX3 A D ct gT) (hr : meth.sig.returnType = (some .int)) (L26 : Int32 → Int32 → Int32 → Int32 → Int32 → MS → Prop) (hL26 : ∀ (x1 : Int32) (x2 : Int32) (x3 : Int32) (x4 : Int32) (x5 : Int32) (st : MS), L26 x1 x2 x3 x4 x5 st → jJ p l e { frames := 6, cells := 0, slots := 0, locals := 142 } s m args below meth c (MQ below (va_Qi post (fun u => cB D ct A (MW ct ad u)) A) args s 0 0 A) A D 8 (MW ct ad st) 0 0 26 [(0, .ref (ad 0)), (1, .int x1), (2, .int x2), (3, .int x3), (4, .int x4), (5, .int x5)] []) (x1 : Int32) (x2 : Int32) (x3 : Int32) (x4 : Int32) (x5 : Int32) (st : MS) (h : wX3_tally_148 post L26 x1 x2 x3 x4 x5 st) : jJ p l e { frames := 6, cells := 0, slots := 0, locals := 142 } s m args below meth c (MQ below (va_Qi post (fun u => cB D ct A (MW ct ad u)) A) args s 0 0 A) A D 8 (MW ct ad st) 0 0 148 [(0, .ref (ad 0)), (1, .int x1), (2, .int x2), (3, .int x3), (4, .int x4), (5, .int x5)] [] := by
  unfold wX3_tally_148 at h
  refine j_iinc K 5 (x5 + (1 : Int32)) [(5, .int (x5 + (1 : Int32))), (0, .ref (ad 0)), (1, .int x1), (2, .int x2), (3, .int x3), (4, .int x4)] dX3_tally_148 rfl rfl (by decide) rfl ?_
  refine j_goto K 26 dX3_tally_151 (by decide) ?_
  refine j_lv K [1, 2, 3, 4, 5, 0] (lv' := [(0, .ref (ad 0)), (1, .int x1), (2, .int x2), (3, .int x3), (4, .int x4), (5, .int (x5 + (1 : Int32)))]) rfl ?_
  exact hL26 x1 x2 x3 x4 (x5 + (1 : Int32)) st h
theorem kX3_tally_146 {p : Program} {l : Launch} {e : Env} {s : State} {m : MethodId} {args : Array Value} {below : List Frame} {meth : Method} {c : Code} {A : Nat → Prop} {D : va_G} {ct : Nat → ClassId} {ad : Nat → Nat} {post : Int32 → MS → Prop} (K : CX p s m args meth c cX3_tally 8 RX3 A D ct gT) (hr : meth.sig.returnType = (some .int)) (L26 : Int32 → Int32 → Int32 → Int32 → Int32 → MS → Prop) (hL26 : ∀ (x1 : Int32) (x2 : Int32) (x3 : Int32) (x4 : Int32) (x5 : Int32) (st : MS), L26 x1 x2 x3 x4 x5 st → jJ p l e { frames := 6, cells := 0, slots := 0, locals := 142 } s m args below meth c (MQ below (va_Qi post (fun u => cB D ct A (MW ct ad u)) A) args s 0 0 A) A D 8 (MW ct ad st) 0 0 26 [(0, .ref (ad 0)), (1, .int x1), (2, .int x2), (3, .int x3), (4, .int x4), (5, .int x5)] []) (x1 : Int32) (x2 : Int32) (x3 : Int32) (x5 : Int32) (s0 : Int32) (st : MS) (h : wX3_tally_146 post L26 x1 x2 x3 x5 s0 st) : jJ p l e { frames := 6, cells := 0, slots := 0, locals := 142 } s m args below meth c (MQ below (va_Qi post (fun u => cB D ct A (MW ct ad u)) A) args s 0 0 A) A D 8 (MW ct ad st) 0 0 146 [(0, .ref (ad 0)), (1, .int x1), (2, .int x2), (3, .int x3), (5, .int x5)] [.int s0] := by
  unfold wX3_tally_146 at h
  refine j_istore K [(4, .int s0), (0, .ref (ad 0)), (1, .int x1), (2, .int x2), (3, .int x3), (5, .int x5)] dX3_tally_146 (by decide) rfl ?_
  refine j_lv K [1, 2, 3, 4, 0, 5] (lv' := [(0, .ref (ad 0)), (1, .int x1), (2, .int x2), (3, .int x3), (4, .int s0), (5, .int x5)]) rfl ?_
  exact kX3_tally_148 K hr L26 hL26 x1 x2 x3 s0 x5 st h
theorem kX3_tally_144 {p : Program} {l : Launch} {e : Env} {s : State} {m : MethodId} {args : Array Value} {below : List Frame} {meth : Method} {c : Code} {A : Nat → Prop} {D : va_G} {ct : Nat → ClassId} {ad : Nat → Nat} {post : Int32 → MS → Prop} (K : CX p s m args meth c cX3_tally 8 RX3 A D ct gT) (hr : meth.sig.returnType = (some .int)) (L26 : Int32 → Int32 → Int32 → Int32 → Int32 → MS → Prop) (hL26 : ∀ (x1 : Int32) (x2 : Int32) (x3 : Int32) (x4 : Int32) (x5 : Int32) (st : MS), L26 x1 x2 x3 x4 x5 st → jJ p l e { frames := 6, cells := 0, slots := 0, locals := 142 } s m args below meth c (MQ below (va_Qi post (fun u => cB D ct A (MW ct ad u)) A) args s 0 0 A) A D 8 (MW ct ad st) 0 0 26 [(0, .ref (ad 0)), (1, .int x1), (2, .int x2), (3, .int x3), (4, .int x4), (5, .int x5)] []) (x1 : Int32) (x2 : Int32) (x3 : Int32) (x4 : Int32) (x5 : Int32) (st : MS) (h : wX3_tally_144 post L26 x1 x2 x3 x4 x5 st) : jJ p l e { frames := 6, cells := 0, slots := 0, locals := 142 } s m args below meth c (MQ below (va_Qi post (fun u => cB D ct A (MW ct ad u)) A) args s 0 0 A) A D 8 (MW ct ad st) 0 0 144 [(0, .ref (ad 0)), (1, .int x1), (2, .int x2), (3, .int x3), (4, .int x4), (5, .int x5)] [] := by
  unfold wX3_tally_144 at h
  refine j_iload K 4 dX3_tally_144 rfl ?_
  refine j_lv K [0, 1, 2, 3, 5] (lv' := [(0, .ref (ad 0)), (1, .int x1), (2, .int x2), (3, .int x3), (5, .int x5)]) rfl ?_
  exact kX3_tally_146 K hr L26 hL26 x1 x2 x3 x5 x4 st h
theorem kX3_tally_139 {p : Program} {l : Launch} {e : Env} {s : State} {m : MethodId} {args : Array Value} {below : List Frame} {meth : Method} {c : Code} {A : Nat → Prop} {D : va_G} {ct : Nat → ClassId} {ad : Nat → Nat} {post : Int32 → MS → Prop} (K : CX p s m args meth c cX3_tally 8 RX3 A D ct gT) (hr : meth.sig.returnType = (some .int)) (L26 : Int32 → Int32 → Int32 → Int32 → Int32 → MS → Prop) (hL26 : ∀ (x1 : Int32) (x2 : Int32) (x3 : Int32) (x4 : Int32) (x5 : Int32) (st : MS), L26 x1 x2 x3 x4 x5 st → jJ p l e { frames := 6, cells := 0, slots := 0, locals := 142 } s m args below meth c (MQ below (va_Qi post (fun u => cB D ct A (MW ct ad u)) A) args s 0 0 A) A D 8 (MW ct ad st) 0 0 26 [(0, .ref (ad 0)), (1, .int x1), (2, .int x2), (3, .int x3), (4, .int x4), (5, .int x5)] []) (x1 : Int32) (x2 : Int32) (x3 : Int32) (x5 : Int32) (x7 : Int32) (st : MS) (h : wX3_tally_139 post L26 x1 x2 x3 x5 x7 st) : jJ p l e { frames := 6, cells := 0, slots := 0, locals := 142 } s m args below meth c (MQ below (va_Qi post (fun u => cB D ct A (MW ct ad u)) A) args s 0 0 A) A D 8 (MW ct ad st) 0 0 139 [(0, .ref (ad 0)), (1, .int x1), (2, .int x2), (3, .int x3), (5, .int x5), (7, .int x7)] [] := by
  unfold wX3_tally_139 at h
  refine j_iload K 5 dX3_tally_139 rfl ?_
  refine j_goto K 146 dX3_tally_141 (by decide) ?_
  refine j_lv K [0, 1, 2, 3, 4] (lv' := [(0, .ref (ad 0)), (1, .int x1), (2, .int x2), (3, .int x3), (5, .int x5)]) rfl ?_
  exact kX3_tally_146 K hr L26 hL26 x1 x2 x3 x5 x7 st h
theorem kX3_tally_130 {p : Program} {l : Launch} {e : Env} {s : State} {m : MethodId} {args : Array Value} {below : List Frame} {meth : Method} {c : Code} {A : Nat → Prop} {D : va_G} {ct : Nat → ClassId} {ad : Nat → Nat} {post : Int32 → MS → Prop} (K : CX p s m args meth c cX3_tally 8 RX3 A D ct gT) (hr : meth.sig.returnType = (some .int)) (L26 : Int32 → Int32 → Int32 → Int32 → Int32 → MS → Prop) (hL26 : ∀ (x1 : Int32) (x2 : Int32) (x3 : Int32) (x4 : Int32) (x5 : Int32) (st : MS), L26 x1 x2 x3 x4 x5 st → jJ p l e { frames := 6, cells := 0, slots := 0, locals := 142 } s m args below meth c (MQ below (va_Qi post (fun u => cB D ct A (MW ct ad u)) A) args s 0 0 A) A D 8 (MW ct ad st) 0 0 26 [(0, .ref (ad 0)), (1, .int x1), (2, .int x2), (3, .int x3), (4, .int x4), (5, .int x5)] []) (x1 : Int32) (x2 : Int32) (x3 : Int32) (x4 : Int32) (x5 : Int32) (s0 : Int32) (st : MS) (h : wX3_tally_130 post L26 x1 x2 x3 x4 x5 s0 st) : jJ p l e { frames := 6, cells := 0, slots := 0, locals := 142 } s m args below meth c (MQ below (va_Qi post (fun u => cB D ct A (MW ct ad u)) A) args s 0 0 A) A D 8 (MW ct ad st) 0 0 130 [(0, .ref (ad 0)), (1, .int x1), (2, .int x2), (3, .int x3), (4, .int x4), (5, .int x5)] [.int s0] := by
  unfold wX3_tally_130 at h
  refine j_istore K [(7, .int s0), (0, .ref (ad 0)), (1, .int x1), (2, .int x2), (3, .int x3), (4, .int x4), (5, .int x5)] dX3_tally_130 (by decide) rfl ?_
  refine j_iload K 0 dX3_tally_132 rfl ?_
  refine j_iload K 5 dX3_tally_134 rfl ?_
  refine j_icmp_le K 144 dX3_tally_136 (by decide) (fun hc => ?_) (fun hc => ?_)
  · refine j_lv K [1, 2, 3, 4, 5, 6] (lv' := [(0, .ref (ad 0)), (1, .int x1), (2, .int x2), (3, .int x3), (4, .int x4), (5, .int x5)]) rfl ?_
    exact kX3_tally_144 K hr L26 hL26 x1 x2 x3 x4 x5 st (h.1 hc)
  · refine j_lv K [1, 2, 3, 4, 6, 0] (lv' := [(0, .ref (ad 0)), (1, .int x1), (2, .int x2), (3, .int x3), (5, .int x5), (7, .int s0)]) rfl ?_
    exact kX3_tally_139 K hr L26 hL26 x1 x2 x3 x5 s0 st (h.2 hc)
theorem kX3_tally_129 {p : Program} {l : Launch} {e : Env} {s : State} {m : MethodId} {args : Array Value} {below : List Frame} {meth : Method} {c : Code} {A : Nat → Prop} {D : va_G} {ct : Nat → ClassId} {ad : Nat → Nat} {post : Int32 → MS → Prop} (K : CX p s m args meth c cX3_tally 8 RX3 A D ct gT) (hr : meth.sig.returnType = (some .int)) (L26 : Int32 → Int32 → Int32 → Int32 → Int32 → MS → Prop) (hL26 : ∀ (x1 : Int32) (x2 : Int32) (x3 : Int32) (x4 : Int32) (x5 : Int32) (st : MS), L26 x1 x2 x3 x4 x5 st → jJ p l e { frames := 6, cells := 0, slots := 0, locals := 142 } s m args below meth c (MQ below (va_Qi post (fun u => cB D ct A (MW ct ad u)) A) args s 0 0 A) A D 8 (MW ct ad st) 0 0 26 [(0, .ref (ad 0)), (1, .int x1), (2, .int x2), (3, .int x3), (4, .int x4), (5, .int x5)] []) (x1 : Int32) (x2 : Int32) (x3 : Int32) (x4 : Int32) (x5 : Int32) (st : MS) (h : wX3_tally_129 post L26 x1 x2 x3 x4 x5 st) : jJ p l e { frames := 6, cells := 0, slots := 0, locals := 142 } s m args below meth c (MQ below (va_Qi post (fun u => cB D ct A (MW ct ad u)) A) args s 0 0 A) A D 8 (MW ct ad st) 0 0 129 [(0, .ref (ad 0)), (1, .int x1), (2, .int x2), (3, .int x3), (4, .int x4), (5, .int x5)] [] := by
  unfold wX3_tally_129 at h
  refine j_iconst K (0 : Int32) dX3_tally_129 (by decide) ?_
  exact kX3_tally_130 K hr L26 hL26 x1 x2 x3 x4 x5 (0 : Int32) st h
theorem kX3_tally_122 {p : Program} {l : Launch} {e : Env} {s : State} {m : MethodId} {args : Array Value} {below : List Frame} {meth : Method} {c : Code} {A : Nat → Prop} {D : va_G} {ct : Nat → ClassId} {ad : Nat → Nat} {post : Int32 → MS → Prop} (K : CX p s m args meth c cX3_tally 8 RX3 A D ct gT) (hr : meth.sig.returnType = (some .int)) (L26 : Int32 → Int32 → Int32 → Int32 → Int32 → MS → Prop) (hL26 : ∀ (x1 : Int32) (x2 : Int32) (x3 : Int32) (x4 : Int32) (x5 : Int32) (st : MS), L26 x1 x2 x3 x4 x5 st → jJ p l e { frames := 6, cells := 0, slots := 0, locals := 142 } s m args below meth c (MQ below (va_Qi post (fun u => cB D ct A (MW ct ad u)) A) args s 0 0 A) A D 8 (MW ct ad st) 0 0 26 [(0, .ref (ad 0)), (1, .int x1), (2, .int x2), (3, .int x3), (4, .int x4), (5, .int x5)] []) (x1 : Int32) (x2 : Int32) (x3 : Int32) (x4 : Int32) (x5 : Int32) (x6 : Int32) (st : MS) (h : wX3_tally_122 post L26 x1 x2 x3 x4 x5 x6 st) : jJ p l e { frames := 6, cells := 0, slots := 0, locals := 142 } s m args below meth c (MQ below (va_Qi post (fun u => cB D ct A (MW ct ad u)) A) args s 0 0 A) A D 8 (MW ct ad st) 0 0 122 [(0, .ref (ad 0)), (1, .int x1), (2, .int x2), (3, .int x3), (4, .int x4), (5, .int x5), (6, .int x6)] [] := by
  unfold wX3_tally_122 at h
  refine j_iconst K (-1 : Int32) dX3_tally_122 (by decide) ?_
  refine j_iload K 6 dX3_tally_123 rfl ?_
  refine j_isub K dX3_tally_125 ?_
  refine j_goto K 130 dX3_tally_126 (by decide) ?_
  refine j_lv K [0, 1, 2, 3, 4, 5] (lv' := [(0, .ref (ad 0)), (1, .int x1), (2, .int x2), (3, .int x3), (4, .int x4), (5, .int x5)]) rfl ?_
  exact kX3_tally_130 K hr L26 hL26 x1 x2 x3 x4 x5 ((-1 : Int32) - x6) st h
theorem kX3_tally_117 {p : Program} {l : Launch} {e : Env} {s : State} {m : MethodId} {args : Array Value} {below : List Frame} {meth : Method} {c : Code} {A : Nat → Prop} {D : va_G} {ct : Nat → ClassId} {ad : Nat → Nat} {post : Int32 → MS → Prop} (K : CX p s m args meth c cX3_tally 8 RX3 A D ct gT) (hr : meth.sig.returnType = (some .int)) (L26 : Int32 → Int32 → Int32 → Int32 → Int32 → MS → Prop) (hL26 : ∀ (x1 : Int32) (x2 : Int32) (x3 : Int32) (x4 : Int32) (x5 : Int32) (st : MS), L26 x1 x2 x3 x4 x5 st → jJ p l e { frames := 6, cells := 0, slots := 0, locals := 142 } s m args below meth c (MQ below (va_Qi post (fun u => cB D ct A (MW ct ad u)) A) args s 0 0 A) A D 8 (MW ct ad st) 0 0 26 [(0, .ref (ad 0)), (1, .int x1), (2, .int x2), (3, .int x3), (4, .int x4), (5, .int x5)] []) (x1 : Int32) (x2 : Int32) (x3 : Int32) (x4 : Int32) (x5 : Int32) (x6 : Int32) (st : MS) (h : wX3_tally_117 post L26 x1 x2 x3 x4 x5 x6 st) : jJ p l e { frames := 6, cells := 0, slots := 0, locals := 142 } s m args below meth c (MQ below (va_Qi post (fun u => cB D ct A (MW ct ad u)) A) args s 0 0 A) A D 8 (MW ct ad st) 0 0 117 [(0, .ref (ad 0)), (1, .int x1), (2, .int x2), (3, .int x3), (4, .int x4), (5, .int x5), (6, .int x6)] [] := by
  unfold wX3_tally_117 at h
  refine j_iload K 6 dX3_tally_117 rfl ?_
  refine j_if_ge K 129 dX3_tally_119 (by decide) (fun hc => ?_) (fun hc => ?_)
  · refine j_lv K [0, 1, 2, 3, 4, 5] (lv' := [(0, .ref (ad 0)), (1, .int x1), (2, .int x2), (3, .int x3), (4, .int x4), (5, .int x5)]) rfl ?_
    exact kX3_tally_129 K hr L26 hL26 x1 x2 x3 x4 x5 st (h.1 hc)
  · exact kX3_tally_122 K hr L26 hL26 x1 x2 x3 x4 x5 x6 st (h.2 hc)
theorem kX3_tally_112 {p : Program} {l : Launch} {e : Env} {s : State} {m : MethodId} {args : Array Value} {below : List Frame} {meth : Method} {c : Code} {A : Nat → Prop} {D : va_G} {ct : Nat → ClassId} {ad : Nat → Nat} {post : Int32 → MS → Prop} (K : CX p s m args meth c cX3_tally 8 RX3 A D ct gT) (hr : meth.sig.returnType = (some .int)) (L26 : Int32 → Int32 → Int32 → Int32 → Int32 → MS → Prop) (hL26 : ∀ (x1 : Int32) (x2 : Int32) (x3 : Int32) (x4 : Int32) (x5 : Int32) (st : MS), L26 x1 x2 x3 x4 x5 st → jJ p l e { frames := 6, cells := 0, slots := 0, locals := 142 } s m args below meth c (MQ below (va_Qi post (fun u => cB D ct A (MW ct ad u)) A) args s 0 0 A) A D 8 (MW ct ad st) 0 0 26 [(0, .ref (ad 0)), (1, .int x1), (2, .int x2), (3, .int x3), (4, .int x4), (5, .int x5)] []) (x1 : Int32) (x2 : Int32) (x3 : Int32) (x4 : Int32) (x5 : Int32) (x6 : Int32) (st : MS) (h : wX3_tally_112 post L26 x1 x2 x3 x4 x5 x6 st) : jJ p l e { frames := 6, cells := 0, slots := 0, locals := 142 } s m args below meth c (MQ below (va_Qi post (fun u => cB D ct A (MW ct ad u)) A) args s 0 0 A) A D 8 (MW ct ad st) 0 0 112 [(0, .ref (ad 0)), (1, .int x1), (2, .int x2), (3, .int x3), (4, .int x4), (5, .int x5), (6, .int x6)] [] := by
  unfold wX3_tally_112 at h
  refine j_iload_n K 1 dX3_tally_112 rfl rfl ?_
  refine j_iconst K (5 : Int32) dX3_tally_113 (by decide) ?_
  refine j_icmp_ne K 129 dX3_tally_114 (by decide) (fun hc => ?_) (fun hc => ?_)
  · refine j_lv K [0, 1, 2, 3, 4, 5] (lv' := [(0, .ref (ad 0)), (1, .int x1), (2, .int x2), (3, .int x3), (4, .int x4), (5, .int x5)]) rfl ?_
    exact kX3_tally_129 K hr L26 hL26 x1 x2 x3 x4 x5 st (h.1 hc)
  · exact kX3_tally_117 K hr L26 hL26 x1 x2 x3 x4 x5 x6 st (h.2 hc)
theorem kX3_tally_107 {p : Program} {l : Launch} {e : Env} {s : State} {m : MethodId} {args : Array Value} {below : List Frame} {meth : Method} {c : Code} {A : Nat → Prop} {D : va_G} {ct : Nat → ClassId} {ad : Nat → Nat} {post : Int32 → MS → Prop} (K : CX p s m args meth c cX3_tally 8 RX3 A D ct gT) (hr : meth.sig.returnType = (some .int)) (L26 : Int32 → Int32 → Int32 → Int32 → Int32 → MS → Prop) (hL26 : ∀ (x1 : Int32) (x2 : Int32) (x3 : Int32) (x4 : Int32) (x5 : Int32) (st : MS), L26 x1 x2 x3 x4 x5 st → jJ p l e { frames := 6, cells := 0, slots := 0, locals := 142 } s m args below meth c (MQ below (va_Qi post (fun u => cB D ct A (MW ct ad u)) A) args s 0 0 A) A D 8 (MW ct ad st) 0 0 26 [(0, .ref (ad 0)), (1, .int x1), (2, .int x2), (3, .int x3), (4, .int x4), (5, .int x5)] []) (x1 : Int32) (x2 : Int32) (x3 : Int32) (x4 : Int32) (x5 : Int32) (x6 : Int32) (st : MS) (h : wX3_tally_107 post L26 x1 x2 x3 x4 x5 x6 st) : jJ p l e { frames := 6, cells := 0, slots := 0, locals := 142 } s m args below meth c (MQ below (va_Qi post (fun u => cB D ct A (MW ct ad u)) A) args s 0 0 A) A D 8 (MW ct ad st) 0 0 107 [(0, .ref (ad 0)), (1, .int x1), (2, .int x2), (3, .int x3), (4, .int x4), (5, .int x5), (6, .int x6)] [] := by
  unfold wX3_tally_107 at h
  refine j_iload K 6 dX3_tally_107 rfl ?_
  refine j_goto K 130 dX3_tally_109 (by decide) ?_
  refine j_lv K [0, 1, 2, 3, 4, 5] (lv' := [(0, .ref (ad 0)), (1, .int x1), (2, .int x2), (3, .int x3), (4, .int x4), (5, .int x5)]) rfl ?_
  exact kX3_tally_130 K hr L26 hL26 x1 x2 x3 x4 x5 x6 st h
theorem kX3_tally_102 {p : Program} {l : Launch} {e : Env} {s : State} {m : MethodId} {args : Array Value} {below : List Frame} {meth : Method} {c : Code} {A : Nat → Prop} {D : va_G} {ct : Nat → ClassId} {ad : Nat → Nat} {post : Int32 → MS → Prop} (K : CX p s m args meth c cX3_tally 8 RX3 A D ct gT) (hr : meth.sig.returnType = (some .int)) (L26 : Int32 → Int32 → Int32 → Int32 → Int32 → MS → Prop) (hL26 : ∀ (x1 : Int32) (x2 : Int32) (x3 : Int32) (x4 : Int32) (x5 : Int32) (st : MS), L26 x1 x2 x3 x4 x5 st → jJ p l e { frames := 6, cells := 0, slots := 0, locals := 142 } s m args below meth c (MQ below (va_Qi post (fun u => cB D ct A (MW ct ad u)) A) args s 0 0 A) A D 8 (MW ct ad st) 0 0 26 [(0, .ref (ad 0)), (1, .int x1), (2, .int x2), (3, .int x3), (4, .int x4), (5, .int x5)] []) (x1 : Int32) (x2 : Int32) (x3 : Int32) (x4 : Int32) (x5 : Int32) (x6 : Int32) (st : MS) (h : wX3_tally_102 post L26 x1 x2 x3 x4 x5 x6 st) : jJ p l e { frames := 6, cells := 0, slots := 0, locals := 142 } s m args below meth c (MQ below (va_Qi post (fun u => cB D ct A (MW ct ad u)) A) args s 0 0 A) A D 8 (MW ct ad st) 0 0 102 [(0, .ref (ad 0)), (1, .int x1), (2, .int x2), (3, .int x3), (4, .int x4), (5, .int x5), (6, .int x6)] [] := by
  unfold wX3_tally_102 at h
  refine j_iload K 6 dX3_tally_102 rfl ?_
  refine j_if_le K 112 dX3_tally_104 (by decide) (fun hc => ?_) (fun hc => ?_)
  · exact kX3_tally_112 K hr L26 hL26 x1 x2 x3 x4 x5 x6 st (h.1 hc)
  · exact kX3_tally_107 K hr L26 hL26 x1 x2 x3 x4 x5 x6 st (h.2 hc)
theorem kX3_tally_95 {p : Program} {l : Launch} {e : Env} {s : State} {m : MethodId} {args : Array Value} {below : List Frame} {meth : Method} {c : Code} {A : Nat → Prop} {D : va_G} {ct : Nat → ClassId} {ad : Nat → Nat} {post : Int32 → MS → Prop} (K : CX p s m args meth c cX3_tally 8 RX3 A D ct gT) (hr : meth.sig.returnType = (some .int)) (L26 : Int32 → Int32 → Int32 → Int32 → Int32 → MS → Prop) (hL26 : ∀ (x1 : Int32) (x2 : Int32) (x3 : Int32) (x4 : Int32) (x5 : Int32) (st : MS), L26 x1 x2 x3 x4 x5 st → jJ p l e { frames := 6, cells := 0, slots := 0, locals := 142 } s m args below meth c (MQ below (va_Qi post (fun u => cB D ct A (MW ct ad u)) A) args s 0 0 A) A D 8 (MW ct ad st) 0 0 26 [(0, .ref (ad 0)), (1, .int x1), (2, .int x2), (3, .int x3), (4, .int x4), (5, .int x5)] []) (x1 : Int32) (x2 : Int32) (x4 : Int32) (x5 : Int32) (x6 : Int32) (s0 : Int32) (s1 : Int32) (st : MS) (h : wX3_tally_95 post L26 x1 x2 x4 x5 x6 s0 s1 st) : jJ p l e { frames := 6, cells := 0, slots := 0, locals := 142 } s m args below meth c (MQ below (va_Qi post (fun u => cB D ct A (MW ct ad u)) A) args s 0 0 A) A D 8 (MW ct ad st) 0 0 95 [(0, .ref (ad 0)), (1, .int x1), (2, .int x2), (4, .int x4), (5, .int x5), (6, .int x6)] [.int s1, .int s0] := by
  unfold wX3_tally_95 at h
  refine j_iadd K dX3_tally_95 ?_
  refine j_istore_n K [(3, .int (s0 + s1)), (0, .ref (ad 0)), (1, .int x1), (2, .int x2), (4, .int x4), (5, .int x5), (6, .int x6)] dX3_tally_96 rfl (by decide) rfl ?_
  refine j_iload_n K 2 dX3_tally_97 rfl rfl ?_
  refine j_iconst K (4 : Int32) dX3_tally_98 (by decide) ?_
  refine j_icmp_ne K 112 dX3_tally_99 (by decide) (fun hc => ?_) (fun hc => ?_)
  · refine j_lv K [1, 2, 3, 0, 4, 5, 6] (lv' := [(0, .ref (ad 0)), (1, .int x1), (2, .int x2), (3, .int (s0 + s1)), (4, .int x4), (5, .int x5), (6, .int x6)]) rfl ?_
    exact kX3_tally_112 K hr L26 hL26 x1 x2 (s0 + s1) x4 x5 x6 st (h.1 hc)
  · refine j_lv K [1, 2, 3, 0, 4, 5, 6] (lv' := [(0, .ref (ad 0)), (1, .int x1), (2, .int x2), (3, .int (s0 + s1)), (4, .int x4), (5, .int x5), (6, .int x6)]) rfl ?_
    exact kX3_tally_102 K hr L26 hL26 x1 x2 (s0 + s1) x4 x5 x6 st (h.2 hc)
theorem kX3_tally_90 {p : Program} {l : Launch} {e : Env} {s : State} {m : MethodId} {args : Array Value} {below : List Frame} {meth : Method} {c : Code} {A : Nat → Prop} {D : va_G} {ct : Nat → ClassId} {ad : Nat → Nat} {post : Int32 → MS → Prop} (K : CX p s m args meth c cX3_tally 8 RX3 A D ct gT) (hr : meth.sig.returnType = (some .int)) (L26 : Int32 → Int32 → Int32 → Int32 → Int32 → MS → Prop) (hL26 : ∀ (x1 : Int32) (x2 : Int32) (x3 : Int32) (x4 : Int32) (x5 : Int32) (st : MS), L26 x1 x2 x3 x4 x5 st → jJ p l e { frames := 6, cells := 0, slots := 0, locals := 142 } s m args below meth c (MQ below (va_Qi post (fun u => cB D ct A (MW ct ad u)) A) args s 0 0 A) A D 8 (MW ct ad st) 0 0 26 [(0, .ref (ad 0)), (1, .int x1), (2, .int x2), (3, .int x3), (4, .int x4), (5, .int x5)] []) (x1 : Int32) (x2 : Int32) (x4 : Int32) (x5 : Int32) (x6 : Int32) (s0 : Int32) (st : MS) (h : wX3_tally_90 post L26 x1 x2 x4 x5 x6 s0 st) : jJ p l e { frames := 6, cells := 0, slots := 0, locals := 142 } s m args below meth c (MQ below (va_Qi post (fun u => cB D ct A (MW ct ad u)) A) args s 0 0 A) A D 8 (MW ct ad st) 0 0 90 [(0, .ref (ad 0)), (1, .int x1), (2, .int x2), (4, .int x4), (5, .int x5), (6, .int x6)] [.int s0] := by
  unfold wX3_tally_90 at h
  refine j_iconst K (1 : Int32) dX3_tally_90 (by decide) ?_
  refine j_goto K 95 dX3_tally_91 (by decide) ?_
  exact kX3_tally_95 K hr L26 hL26 x1 x2 x4 x5 x6 s0 (1 : Int32) st h
theorem kX3_tally_94 {p : Program} {l : Launch} {e : Env} {s : State} {m : MethodId} {args : Array Value} {below : List Frame} {meth : Method} {c : Code} {A : Nat → Prop} {D : va_G} {ct : Nat → ClassId} {ad : Nat → Nat} {post : Int32 → MS → Prop} (K : CX p s m args meth c cX3_tally 8 RX3 A D ct gT) (hr : meth.sig.returnType = (some .int)) (L26 : Int32 → Int32 → Int32 → Int32 → Int32 → MS → Prop) (hL26 : ∀ (x1 : Int32) (x2 : Int32) (x3 : Int32) (x4 : Int32) (x5 : Int32) (st : MS), L26 x1 x2 x3 x4 x5 st → jJ p l e { frames := 6, cells := 0, slots := 0, locals := 142 } s m args below meth c (MQ below (va_Qi post (fun u => cB D ct A (MW ct ad u)) A) args s 0 0 A) A D 8 (MW ct ad st) 0 0 26 [(0, .ref (ad 0)), (1, .int x1), (2, .int x2), (3, .int x3), (4, .int x4), (5, .int x5)] []) (x1 : Int32) (x2 : Int32) (x4 : Int32) (x5 : Int32) (x6 : Int32) (s0 : Int32) (st : MS) (h : wX3_tally_94 post L26 x1 x2 x4 x5 x6 s0 st) : jJ p l e { frames := 6, cells := 0, slots := 0, locals := 142 } s m args below meth c (MQ below (va_Qi post (fun u => cB D ct A (MW ct ad u)) A) args s 0 0 A) A D 8 (MW ct ad st) 0 0 94 [(0, .ref (ad 0)), (1, .int x1), (2, .int x2), (4, .int x4), (5, .int x5), (6, .int x6)] [.int s0] := by
  unfold wX3_tally_94 at h
  refine j_iconst K (0 : Int32) dX3_tally_94 (by decide) ?_
  exact kX3_tally_95 K hr L26 hL26 x1 x2 x4 x5 x6 s0 (0 : Int32) st h
theorem kX3_tally_85 {p : Program} {l : Launch} {e : Env} {s : State} {m : MethodId} {args : Array Value} {below : List Frame} {meth : Method} {c : Code} {A : Nat → Prop} {D : va_G} {ct : Nat → ClassId} {ad : Nat → Nat} {post : Int32 → MS → Prop} (K : CX p s m args meth c cX3_tally 8 RX3 A D ct gT) (hr : meth.sig.returnType = (some .int)) (L26 : Int32 → Int32 → Int32 → Int32 → Int32 → MS → Prop) (hL26 : ∀ (x1 : Int32) (x2 : Int32) (x3 : Int32) (x4 : Int32) (x5 : Int32) (st : MS), L26 x1 x2 x3 x4 x5 st → jJ p l e { frames := 6, cells := 0, slots := 0, locals := 142 } s m args below meth c (MQ below (va_Qi post (fun u => cB D ct A (MW ct ad u)) A) args s 0 0 A) A D 8 (MW ct ad st) 0 0 26 [(0, .ref (ad 0)), (1, .int x1), (2, .int x2), (3, .int x3), (4, .int x4), (5, .int x5)] []) (x1 : Int32) (x2 : Int32) (x4 : Int32) (x5 : Int32) (x6 : Int32) (s0 : Int32) (st : MS) (h : wX3_tally_85 post L26 x1 x2 x4 x5 x6 s0 st) : jJ p l e { frames := 6, cells := 0, slots := 0, locals := 142 } s m args below meth c (MQ below (va_Qi post (fun u => cB D ct A (MW ct ad u)) A) args s 0 0 A) A D 8 (MW ct ad st) 0 0 85 [(0, .ref (ad 0)), (1, .int x1), (2, .int x2), (4, .int x4), (5, .int x5), (6, .int x6)] [.int s0] := by
  unfold wX3_tally_85 at h
  refine j_iload K 5 dX3_tally_85 rfl ?_
  refine j_if_ne K 94 dX3_tally_87 (by decide) (fun hc => ?_) (fun hc => ?_)
  · exact kX3_tally_94 K hr L26 hL26 x1 x2 x4 x5 x6 s0 st (h.1 hc)
  · exact kX3_tally_90 K hr L26 hL26 x1 x2 x4 x5 x6 s0 st (h.2 hc)
theorem kX3_tally_80 {p : Program} {l : Launch} {e : Env} {s : State} {m : MethodId} {args : Array Value} {below : List Frame} {meth : Method} {c : Code} {A : Nat → Prop} {D : va_G} {ct : Nat → ClassId} {ad : Nat → Nat} {post : Int32 → MS → Prop} (K : CX p s m args meth c cX3_tally 8 RX3 A D ct gT) (hr : meth.sig.returnType = (some .int)) (L26 : Int32 → Int32 → Int32 → Int32 → Int32 → MS → Prop) (hL26 : ∀ (x1 : Int32) (x2 : Int32) (x3 : Int32) (x4 : Int32) (x5 : Int32) (st : MS), L26 x1 x2 x3 x4 x5 st → jJ p l e { frames := 6, cells := 0, slots := 0, locals := 142 } s m args below meth c (MQ below (va_Qi post (fun u => cB D ct A (MW ct ad u)) A) args s 0 0 A) A D 8 (MW ct ad st) 0 0 26 [(0, .ref (ad 0)), (1, .int x1), (2, .int x2), (3, .int x3), (4, .int x4), (5, .int x5)] []) (x1 : Int32) (x2 : Int32) (x4 : Int32) (x5 : Int32) (x6 : Int32) (s0 : Int32) (st : MS) (h : wX3_tally_80 post L26 x1 x2 x4 x5 x6 s0 st) : jJ p l e { frames := 6, cells := 0, slots := 0, locals := 142 } s m args below meth c (MQ below (va_Qi post (fun u => cB D ct A (MW ct ad u)) A) args s 0 0 A) A D 8 (MW ct ad st) 0 0 80 [(0, .ref (ad 0)), (1, .int x1), (2, .int x2), (4, .int x4), (5, .int x5), (6, .int x6)] [.int s0] := by
  unfold wX3_tally_80 at h
  refine j_iload_n K 1 dX3_tally_80 rfl rfl ?_
  refine j_iconst K (3 : Int32) dX3_tally_81 (by decide) ?_
  refine j_icmp_ne K 94 dX3_tally_82 (by decide) (fun hc => ?_) (fun hc => ?_)
  · exact kX3_tally_94 K hr L26 hL26 x1 x2 x4 x5 x6 s0 st (h.1 hc)
  · exact kX3_tally_85 K hr L26 hL26 x1 x2 x4 x5 x6 s0 st (h.2 hc)
theorem kX3_tally_75 {p : Program} {l : Launch} {e : Env} {s : State} {m : MethodId} {args : Array Value} {below : List Frame} {meth : Method} {c : Code} {A : Nat → Prop} {D : va_G} {ct : Nat → ClassId} {ad : Nat → Nat} {post : Int32 → MS → Prop} (K : CX p s m args meth c cX3_tally 8 RX3 A D ct gT) (hr : meth.sig.returnType = (some .int)) (L26 : Int32 → Int32 → Int32 → Int32 → Int32 → MS → Prop) (hL26 : ∀ (x1 : Int32) (x2 : Int32) (x3 : Int32) (x4 : Int32) (x5 : Int32) (st : MS), L26 x1 x2 x3 x4 x5 st → jJ p l e { frames := 6, cells := 0, slots := 0, locals := 142 } s m args below meth c (MQ below (va_Qi post (fun u => cB D ct A (MW ct ad u)) A) args s 0 0 A) A D 8 (MW ct ad st) 0 0 26 [(0, .ref (ad 0)), (1, .int x1), (2, .int x2), (3, .int x3), (4, .int x4), (5, .int x5)] []) (x1 : Int32) (x2 : Int32) (x4 : Int32) (x5 : Int32) (x6 : Int32) (s0 : Int32) (st : MS) (h : wX3_tally_75 post L26 x1 x2 x4 x5 x6 s0 st) : jJ p l e { frames := 6, cells := 0, slots := 0, locals := 142 } s m args below meth c (MQ below (va_Qi post (fun u => cB D ct A (MW ct ad u)) A) args s 0 0 A) A D 8 (MW ct ad st) 0 0 75 [(0, .ref (ad 0)), (1, .int x1), (2, .int x2), (4, .int x4), (5, .int x5), (6, .int x6)] [.int s0] := by
  unfold wX3_tally_75 at h
  refine j_iload K 5 dX3_tally_75 rfl ?_
  refine j_if_lt K 90 dX3_tally_77 (by decide) (fun hc => ?_) (fun hc => ?_)
  · exact kX3_tally_90 K hr L26 hL26 x1 x2 x4 x5 x6 s0 st (h.1 hc)
  · exact kX3_tally_80 K hr L26 hL26 x1 x2 x4 x5 x6 s0 st (h.2 hc)
theorem kX3_tally_70 {p : Program} {l : Launch} {e : Env} {s : State} {m : MethodId} {args : Array Value} {below : List Frame} {meth : Method} {c : Code} {A : Nat → Prop} {D : va_G} {ct : Nat → ClassId} {ad : Nat → Nat} {post : Int32 → MS → Prop} (K : CX p s m args meth c cX3_tally 8 RX3 A D ct gT) (hr : meth.sig.returnType = (some .int)) (L26 : Int32 → Int32 → Int32 → Int32 → Int32 → MS → Prop) (hL26 : ∀ (x1 : Int32) (x2 : Int32) (x3 : Int32) (x4 : Int32) (x5 : Int32) (st : MS), L26 x1 x2 x3 x4 x5 st → jJ p l e { frames := 6, cells := 0, slots := 0, locals := 142 } s m args below meth c (MQ below (va_Qi post (fun u => cB D ct A (MW ct ad u)) A) args s 0 0 A) A D 8 (MW ct ad st) 0 0 26 [(0, .ref (ad 0)), (1, .int x1), (2, .int x2), (3, .int x3), (4, .int x4), (5, .int x5)] []) (x1 : Int32) (x2 : Int32) (x4 : Int32) (x5 : Int32) (x6 : Int32) (s0 : Int32) (st : MS) (h : wX3_tally_70 post L26 x1 x2 x4 x5 x6 s0 st) : jJ p l e { frames := 6, cells := 0, slots := 0, locals := 142 } s m args below meth c (MQ below (va_Qi post (fun u => cB D ct A (MW ct ad u)) A) args s 0 0 A) A D 8 (MW ct ad st) 0 0 70 [(0, .ref (ad 0)), (1, .int x1), (2, .int x2), (4, .int x4), (5, .int x5), (6, .int x6)] [.int s0] := by
  unfold wX3_tally_70 at h
  refine j_iload_n K 1 dX3_tally_70 rfl rfl ?_
  refine j_iconst K (2 : Int32) dX3_tally_71 (by decide) ?_
  refine j_icmp_ne K 80 dX3_tally_72 (by decide) (fun hc => ?_) (fun hc => ?_)
  · exact kX3_tally_80 K hr L26 hL26 x1 x2 x4 x5 x6 s0 st (h.1 hc)
  · exact kX3_tally_75 K hr L26 hL26 x1 x2 x4 x5 x6 s0 st (h.2 hc)
theorem kX3_tally_65 {p : Program} {l : Launch} {e : Env} {s : State} {m : MethodId} {args : Array Value} {below : List Frame} {meth : Method} {c : Code} {A : Nat → Prop} {D : va_G} {ct : Nat → ClassId} {ad : Nat → Nat} {post : Int32 → MS → Prop} (K : CX p s m args meth c cX3_tally 8 RX3 A D ct gT) (hr : meth.sig.returnType = (some .int)) (L26 : Int32 → Int32 → Int32 → Int32 → Int32 → MS → Prop) (hL26 : ∀ (x1 : Int32) (x2 : Int32) (x3 : Int32) (x4 : Int32) (x5 : Int32) (st : MS), L26 x1 x2 x3 x4 x5 st → jJ p l e { frames := 6, cells := 0, slots := 0, locals := 142 } s m args below meth c (MQ below (va_Qi post (fun u => cB D ct A (MW ct ad u)) A) args s 0 0 A) A D 8 (MW ct ad st) 0 0 26 [(0, .ref (ad 0)), (1, .int x1), (2, .int x2), (3, .int x3), (4, .int x4), (5, .int x5)] []) (x1 : Int32) (x2 : Int32) (x4 : Int32) (x5 : Int32) (x6 : Int32) (s0 : Int32) (st : MS) (h : wX3_tally_65 post L26 x1 x2 x4 x5 x6 s0 st) : jJ p l e { frames := 6, cells := 0, slots := 0, locals := 142 } s m args below meth c (MQ below (va_Qi post (fun u => cB D ct A (MW ct ad u)) A) args s 0 0 A) A D 8 (MW ct ad st) 0 0 65 [(0, .ref (ad 0)), (1, .int x1), (2, .int x2), (4, .int x4), (5, .int x5), (6, .int x6)] [.int s0] := by
  unfold wX3_tally_65 at h
  refine j_iload K 5 dX3_tally_65 rfl ?_
  refine j_if_gt K 90 dX3_tally_67 (by decide) (fun hc => ?_) (fun hc => ?_)
  · exact kX3_tally_90 K hr L26 hL26 x1 x2 x4 x5 x6 s0 st (h.1 hc)
  · exact kX3_tally_70 K hr L26 hL26 x1 x2 x4 x5 x6 s0 st (h.2 hc)
theorem kX3_tally_60 {p : Program} {l : Launch} {e : Env} {s : State} {m : MethodId} {args : Array Value} {below : List Frame} {meth : Method} {c : Code} {A : Nat → Prop} {D : va_G} {ct : Nat → ClassId} {ad : Nat → Nat} {post : Int32 → MS → Prop} (K : CX p s m args meth c cX3_tally 8 RX3 A D ct gT) (hr : meth.sig.returnType = (some .int)) (L26 : Int32 → Int32 → Int32 → Int32 → Int32 → MS → Prop) (hL26 : ∀ (x1 : Int32) (x2 : Int32) (x3 : Int32) (x4 : Int32) (x5 : Int32) (st : MS), L26 x1 x2 x3 x4 x5 st → jJ p l e { frames := 6, cells := 0, slots := 0, locals := 142 } s m args below meth c (MQ below (va_Qi post (fun u => cB D ct A (MW ct ad u)) A) args s 0 0 A) A D 8 (MW ct ad st) 0 0 26 [(0, .ref (ad 0)), (1, .int x1), (2, .int x2), (3, .int x3), (4, .int x4), (5, .int x5)] []) (x1 : Int32) (x2 : Int32) (x4 : Int32) (x5 : Int32) (x6 : Int32) (s0 : Int32) (st : MS) (h : wX3_tally_60 post L26 x1 x2 x4 x5 x6 s0 st) : jJ p l e { frames := 6, cells := 0, slots := 0, locals := 142 } s m args below meth c (MQ below (va_Qi post (fun u => cB D ct A (MW ct ad u)) A) args s 0 0 A) A D 8 (MW ct ad st) 0 0 60 [(0, .ref (ad 0)), (1, .int x1), (2, .int x2), (4, .int x4), (5, .int x5), (6, .int x6)] [.int s0] := by
  unfold wX3_tally_60 at h
  refine j_iload_n K 1 dX3_tally_60 rfl rfl ?_
  refine j_iconst K (1 : Int32) dX3_tally_61 (by decide) ?_
  refine j_icmp_ne K 70 dX3_tally_62 (by decide) (fun hc => ?_) (fun hc => ?_)
  · exact kX3_tally_70 K hr L26 hL26 x1 x2 x4 x5 x6 s0 st (h.1 hc)
  · exact kX3_tally_65 K hr L26 hL26 x1 x2 x4 x5 x6 s0 st (h.2 hc)
theorem kX3_tally_55 {p : Program} {l : Launch} {e : Env} {s : State} {m : MethodId} {args : Array Value} {below : List Frame} {meth : Method} {c : Code} {A : Nat → Prop} {D : va_G} {ct : Nat → ClassId} {ad : Nat → Nat} {post : Int32 → MS → Prop} (K : CX p s m args meth c cX3_tally 8 RX3 A D ct gT) (hr : meth.sig.returnType = (some .int)) (L26 : Int32 → Int32 → Int32 → Int32 → Int32 → MS → Prop) (hL26 : ∀ (x1 : Int32) (x2 : Int32) (x3 : Int32) (x4 : Int32) (x5 : Int32) (st : MS), L26 x1 x2 x3 x4 x5 st → jJ p l e { frames := 6, cells := 0, slots := 0, locals := 142 } s m args below meth c (MQ below (va_Qi post (fun u => cB D ct A (MW ct ad u)) A) args s 0 0 A) A D 8 (MW ct ad st) 0 0 26 [(0, .ref (ad 0)), (1, .int x1), (2, .int x2), (3, .int x3), (4, .int x4), (5, .int x5)] []) (x1 : Int32) (x2 : Int32) (x3 : Int32) (x4 : Int32) (x5 : Int32) (x6 : Int32) (st : MS) (h : wX3_tally_55 post L26 x1 x2 x3 x4 x5 x6 st) : jJ p l e { frames := 6, cells := 0, slots := 0, locals := 142 } s m args below meth c (MQ below (va_Qi post (fun u => cB D ct A (MW ct ad u)) A) args s 0 0 A) A D 8 (MW ct ad st) 0 0 55 [(0, .ref (ad 0)), (1, .int x1), (2, .int x2), (3, .int x3), (4, .int x4), (5, .int x5), (6, .int x6)] [] := by
  unfold wX3_tally_55 at h
  refine j_iload_n K 3 dX3_tally_55 rfl rfl ?_
  refine j_iload_n K 1 dX3_tally_56 rfl rfl ?_
  refine j_if_eq K 90 dX3_tally_57 (by decide) (fun hc => ?_) (fun hc => ?_)
  · refine j_lv K [0, 1, 2, 4, 5, 6] (lv' := [(0, .ref (ad 0)), (1, .int x1), (2, .int x2), (4, .int x4), (5, .int x5), (6, .int x6)]) rfl ?_
    exact kX3_tally_90 K hr L26 hL26 x1 x2 x4 x5 x6 x3 st (h.1 hc)
  · refine j_lv K [0, 1, 2, 4, 5, 6] (lv' := [(0, .ref (ad 0)), (1, .int x1), (2, .int x2), (4, .int x4), (5, .int x5), (6, .int x6)]) rfl ?_
    exact kX3_tally_60 K hr L26 hL26 x1 x2 x4 x5 x6 x3 st (h.2 hc)
theorem kX3_tally_52 {p : Program} {l : Launch} {e : Env} {s : State} {m : MethodId} {args : Array Value} {below : List Frame} {meth : Method} {c : Code} {A : Nat → Prop} {D : va_G} {ct : Nat → ClassId} {ad : Nat → Nat} {post : Int32 → MS → Prop} (K : CX p s m args meth c cX3_tally 8 RX3 A D ct gT) (hr : meth.sig.returnType = (some .int)) (L26 : Int32 → Int32 → Int32 → Int32 → Int32 → MS → Prop) (hL26 : ∀ (x1 : Int32) (x2 : Int32) (x3 : Int32) (x4 : Int32) (x5 : Int32) (st : MS), L26 x1 x2 x3 x4 x5 st → jJ p l e { frames := 6, cells := 0, slots := 0, locals := 142 } s m args below meth c (MQ below (va_Qi post (fun u => cB D ct A (MW ct ad u)) A) args s 0 0 A) A D 8 (MW ct ad st) 0 0 26 [(0, .ref (ad 0)), (1, .int x1), (2, .int x2), (3, .int x3), (4, .int x4), (5, .int x5)] []) (x1 : Int32) (x2 : Int32) (x3 : Int32) (x4 : Int32) (x5 : Int32) (st : MS) (h : wX3_tally_52 post L26 x1 x2 x3 x4 x5 st) : jJ p l e { frames := 6, cells := 0, slots := 0, locals := 142 } s m args below meth c (MQ below (va_Qi post (fun u => cB D ct A (MW ct ad u)) A) args s 0 0 A) A D 8 (MW ct ad st) 0 0 52 [(0, .ref (ad 0)), (1, .int x1), (2, .int x2), (3, .int x3), (4, .int x4), (5, .int x5)] [] := by
  unfold wX3_tally_52 at h
  refine j_goto K 148 dX3_tally_52 (by decide) ?_
  exact kX3_tally_148 K hr L26 hL26 x1 x2 x3 x4 x5 st h
theorem kX3_tally_35 {p : Program} {l : Launch} {e : Env} {s : State} {m : MethodId} {args : Array Value} {below : List Frame} {meth : Method} {c : Code} {A : Nat → Prop} {D : va_G} {ct : Nat → ClassId} {ad : Nat → Nat} {post : Int32 → MS → Prop} (K : CX p s m args meth c cX3_tally 8 RX3 A D ct gT) (hr : meth.sig.returnType = (some .int)) (L26 : Int32 → Int32 → Int32 → Int32 → Int32 → MS → Prop) (hL26 : ∀ (x1 : Int32) (x2 : Int32) (x3 : Int32) (x4 : Int32) (x5 : Int32) (st : MS), L26 x1 x2 x3 x4 x5 st → jJ p l e { frames := 6, cells := 0, slots := 0, locals := 142 } s m args below meth c (MQ below (va_Qi post (fun u => cB D ct A (MW ct ad u)) A) args s 0 0 A) A D 8 (MW ct ad st) 0 0 26 [(0, .ref (ad 0)), (1, .int x1), (2, .int x2), (3, .int x3), (4, .int x4), (5, .int x5)] []) (x1 : Int32) (x2 : Int32) (x3 : Int32) (x4 : Int32) (x5 : Int32) (st : MS) (h : wX3_tally_35 post L26 x1 x2 x3 x4 x5 st) : jJ p l e { frames := 6, cells := 0, slots := 0, locals := 142 } s m args below meth c (MQ below (va_Qi post (fun u => cB D ct A (MW ct ad u)) A) args s 0 0 A) A D 8 (MW ct ad st) 0 0 35 [(0, .ref (ad 0)), (1, .int x1), (2, .int x2), (3, .int x3), (4, .int x4), (5, .int x5)] [] := by
  unfold wX3_tally_35 at h
  refine j_aload_n K 0 dX3_tally_35 rfl rfl ?_
  refine mg_worths K dX3_tally_36 ?_
  refine j_iload K 5 dX3_tally_39 rfl ?_
  obtain ⟨hc, h⟩ := h
  refine ml_worths K hc dX3_tally_41 ?_
  refine j_istore K [(6, .int (st.1 9 (x5).toNatClampNeg)), (0, .ref (ad 0)), (1, .int x1), (2, .int x2), (3, .int x3), (4, .int x4), (5, .int x5)] dX3_tally_42 (by decide) rfl ?_
  refine j_iload K 0 dX3_tally_44 rfl ?_
  refine j_sipush K (2000 : Int32) dX3_tally_46 (by decide) ?_
  refine j_icmp_ne K 55 dX3_tally_49 (by decide) (fun hc => ?_) (fun hc => ?_)
  · refine j_lv K [1, 2, 3, 4, 5, 6, 0] (lv' := [(0, .ref (ad 0)), (1, .int x1), (2, .int x2), (3, .int x3), (4, .int x4), (5, .int x5), (6, .int (st.1 9 (x5).toNatClampNeg))]) rfl ?_
    exact kX3_tally_55 K hr L26 hL26 x1 x2 x3 x4 x5 (st.1 9 (x5).toNatClampNeg) st (h.1 hc)
  · refine j_lv K [1, 2, 3, 4, 5, 6] (lv' := [(0, .ref (ad 0)), (1, .int x1), (2, .int x2), (3, .int x3), (4, .int x4), (5, .int x5)]) rfl ?_
    exact kX3_tally_52 K hr L26 hL26 x1 x2 x3 x4 x5 st (h.2 hc)
theorem kX3_tally_26_b {p : Program} {l : Launch} {e : Env} {s : State} {m : MethodId} {args : Array Value} {below : List Frame} {meth : Method} {c : Code} {A : Nat → Prop} {D : va_G} {ct : Nat → ClassId} {ad : Nat → Nat} {post : Int32 → MS → Prop} (K : CX p s m args meth c cX3_tally 8 RX3 A D ct gT) (hr : meth.sig.returnType = (some .int)) (L26 : Int32 → Int32 → Int32 → Int32 → Int32 → MS → Prop) (hL26 : ∀ (x1 : Int32) (x2 : Int32) (x3 : Int32) (x4 : Int32) (x5 : Int32) (st : MS), L26 x1 x2 x3 x4 x5 st → jJ p l e { frames := 6, cells := 0, slots := 0, locals := 142 } s m args below meth c (MQ below (va_Qi post (fun u => cB D ct A (MW ct ad u)) A) args s 0 0 A) A D 8 (MW ct ad st) 0 0 26 [(0, .ref (ad 0)), (1, .int x1), (2, .int x2), (3, .int x3), (4, .int x4), (5, .int x5)] []) (x1 : Int32) (x2 : Int32) (x3 : Int32) (x4 : Int32) (x5 : Int32) (st : MS) (h : wX3_tally_26_b post L26 x1 x2 x3 x4 x5 st) : jJ p l e { frames := 6, cells := 0, slots := 0, locals := 142 } s m args below meth c (MQ below (va_Qi post (fun u => cB D ct A (MW ct ad u)) A) args s 0 0 A) A D 8 (MW ct ad st) 0 0 26 [(0, .ref (ad 0)), (1, .int x1), (2, .int x2), (3, .int x3), (4, .int x4), (5, .int x5)] [] := by
  unfold wX3_tally_26_b at h
  refine j_iload K 5 dX3_tally_26 rfl ?_
  refine j_iload_n K 2 dX3_tally_28 rfl rfl ?_
  refine j_ldc K q1174 dX3_tally_29 ?_
  refine j_iadd K dX3_tally_31 ?_
  refine j_icmp_ge K 154 dX3_tally_32 (by decide) (fun hc => ?_) (fun hc => ?_)
  · refine j_lv K [1, 3, 4] (lv' := [(1, .int x1), (3, .int x3), (4, .int x4)]) rfl ?_
    exact kX3_tally_154 K hr  x1 x3 x4 st (h.1 hc)
  · exact kX3_tally_35 K hr L26 hL26 x1 x2 x3 x4 x5 st (h.2 hc)
theorem kX3_tally_26 {p : Program} {l : Launch} {e : Env} {s : State} {m : MethodId} {args : Array Value} {below : List Frame} {meth : Method} {c : Code} {A : Nat → Prop} {D : va_G} {ct : Nat → ClassId} {ad : Nat → Nat} {post : Int32 → MS → Prop} (K : CX p s m args meth c cX3_tally 8 RX3 A D ct gT) (hr : meth.sig.returnType = (some .int))   (x1 : Int32) (x2 : Int32) (x3 : Int32) (x4 : Int32) (x5 : Int32) (st : MS) (h : wX3_tally_26 post  x1 x2 x3 x4 x5 st) : jJ p l e { frames := 6, cells := 0, slots := 0, locals := 142 } s m args below meth c (MQ below (va_Qi post (fun u => cB D ct A (MW ct ad u)) A) args s 0 0 A) A D 8 (MW ct ad st) 0 0 26 [(0, .ref (ad 0)), (1, .int x1), (2, .int x2), (3, .int x3), (4, .int x4), (5, .int x5)] [] :=
  wloop_sound (V := Int32 × Int32 × Int32 × Int32 × Int32 × MS) (Wk := fun v => jJ p l e { frames := 6, cells := 0, slots := 0, locals := 142 } s m args below meth c (MQ below (va_Qi post (fun u => cB D ct A (MW ct ad u)) A) args s 0 0 A) A D 8 (MW ct ad v.2.2.2.2.2) 0 0 26 [(0, .ref (ad 0)), (1, .int v.1), (2, .int v.2.1), (3, .int v.2.2.1), (4, .int v.2.2.2.1), (5, .int v.2.2.2.2.1)] []) (fun L hL v hb => kX3_tally_26_b K hr (fun x1 x2 x3 x4 x5 st => L (x1, x2, x3, x4, x5, st)) (fun x1 x2 x3 x4 x5 st hx => hL (x1, x2, x3, x4, x5, st) hx) v.1 v.2.1 v.2.2.1 v.2.2.2.1 v.2.2.2.2.1 v.2.2.2.2.2 hb) h
theorem kX3_tally_13 {p : Program} {l : Launch} {e : Env} {s : State} {m : MethodId} {args : Array Value} {below : List Frame} {meth : Method} {c : Code} {A : Nat → Prop} {D : va_G} {ct : Nat → ClassId} {ad : Nat → Nat} {post : Int32 → MS → Prop} (K : CX p s m args meth c cX3_tally 8 RX3 A D ct gT) (hr : meth.sig.returnType = (some .int))   (x1 : Int32) (st : MS) (h : wX3_tally_13 post  x1 st) : jJ p l e { frames := 6, cells := 0, slots := 0, locals := 142 } s m args below meth c (MQ below (va_Qi post (fun u => cB D ct A (MW ct ad u)) A) args s 0 0 A) A D 8 (MW ct ad st) 0 0 13 [(0, .ref (ad 0)), (1, .int x1)] [] := by
  unfold wX3_tally_13 at h
  refine j_aload_n K 0 dX3_tally_13 rfl rfl ?_
  obtain ⟨hp, h⟩ := h
  refine j_callVi K (As := []) (rest := []) (ctX3_table (l := l) (D := D) (ct := ct) (ad := ad)  st hp) gwX3_table gdX3_table ⟨Nat.le_of_ble_eq_true rfl, Nat.le_of_ble_eq_true rfl⟩ 0 rfl rfl rfl rfl rfl (Nat.le_of_ble_eq_true rfl) dX3_tally_14 ⟨Nat.le_of_ble_eq_true rfl, Nat.le_of_ble_eq_true rfl⟩ (fun r_1 st_2 hq => ?_)
  replace h := h r_1 st_2 hq
  refine j_istore_n K [(2, .int r_1), (0, .ref (ad 0)), (1, .int x1)] dX3_tally_17 rfl (by decide) rfl ?_
  refine j_iconst K (0 : Int32) dX3_tally_18 (by decide) ?_
  refine j_istore_n K [(3, .int (0 : Int32)), (2, .int r_1), (0, .ref (ad 0)), (1, .int x1)] dX3_tally_19 rfl (by decide) rfl ?_
  refine j_iconst K (0 : Int32) dX3_tally_20 (by decide) ?_
  refine j_istore K [(4, .int (0 : Int32)), (3, .int (0 : Int32)), (2, .int r_1), (0, .ref (ad 0)), (1, .int x1)] dX3_tally_21 (by decide) rfl ?_
  refine j_iload_n K 2 dX3_tally_23 rfl rfl ?_
  refine j_istore K [(5, .int r_1), (4, .int (0 : Int32)), (3, .int (0 : Int32)), (2, .int r_1), (0, .ref (ad 0)), (1, .int x1)] dX3_tally_24 (by decide) rfl ?_
  refine j_lv K [4, 5, 3, 2, 1, 0] (lv' := [(0, .ref (ad 0)), (1, .int x1), (2, .int r_1), (3, .int (0 : Int32)), (4, .int (0 : Int32)), (5, .int r_1)]) rfl ?_
  exact kX3_tally_26 K hr  x1 r_1 (0 : Int32) (0 : Int32) r_1 st_2 h
theorem kX3_tally_10 {p : Program} {l : Launch} {e : Env} {s : State} {m : MethodId} {args : Array Value} {below : List Frame} {meth : Method} {c : Code} {A : Nat → Prop} {D : va_G} {ct : Nat → ClassId} {ad : Nat → Nat} {post : Int32 → MS → Prop} (K : CX p s m args meth c cX3_tally 8 RX3 A D ct gT) (hr : meth.sig.returnType = (some .int))    (st : MS) (h : wX3_tally_10 post  st) : jJ p l e { frames := 6, cells := 0, slots := 0, locals := 142 } s m args below meth c (MQ below (va_Qi post (fun u => cB D ct A (MW ct ad u)) A) args s 0 0 A) A D 8 (MW ct ad st) 0 0 10 [] [] := by
  unfold wX3_tally_10 at h
  refine j_bipush K (-2 : Int32) dX3_tally_10 (by decide) ?_
  exact j_iret st K hr rfl h (Nat.le_of_ble_eq_true rfl) (Nat.le_of_ble_eq_true rfl) dX3_tally_12
theorem kX3_tally_0 {p : Program} {l : Launch} {e : Env} {s : State} {m : MethodId} {args : Array Value} {below : List Frame} {meth : Method} {c : Code} {A : Nat → Prop} {D : va_G} {ct : Nat → ClassId} {ad : Nat → Nat} {post : Int32 → MS → Prop} (K : CX p s m args meth c cX3_tally 8 RX3 A D ct gT) (hr : meth.sig.returnType = (some .int))   (x1 : Int32) (st : MS) (h : wX3_tally_0 post  x1 st) : jJ p l e { frames := 6, cells := 0, slots := 0, locals := 142 } s m args below meth c (MQ below (va_Qi post (fun u => cB D ct A (MW ct ad u)) A) args s 0 0 A) A D 8 (MW ct ad st) 0 0 0 [(0, .ref (ad 0)), (1, .int x1)] [] := by
  unfold wX3_tally_0 at h
  refine j_iload_n K 1 dX3_tally_0 rfl rfl ?_
  refine j_i2l K dX3_tally_1 ?_
  refine j_iconst K (0 : Int32) dX3_tally_2 (by decide) ?_
  refine j_iconst K (5 : Int32) dX3_tally_3 (by decide) ?_
  refine j_callSi K (As := [.long (x1.toInt64), .int (0 : Int32), .int (5 : Int32)]) (rest := []) (ctX3_in (l := l) (D := D) (ct := ct) (G := gT) (ws := MW ct ad st) gT_ok (x1.toInt64) (0 : Int32) (5 : Int32)) gwX3_in gdX3_in ⟨Nat.le_of_ble_eq_true rfl, Nat.le_of_ble_eq_true rfl⟩ rfl rfl (Nat.le_of_ble_eq_true rfl) dX3_tally_4 ⟨Nat.le_of_ble_eq_true rfl, Nat.le_of_ble_eq_true rfl⟩ (fun r_1 _ hq => ?_)
  replace h := h r_1 hq
  refine j_if_ne K 13 dX3_tally_7 (by decide) (fun hc => ?_) (fun hc => ?_)
  · exact kX3_tally_13 K hr  x1 st (h.1 hc)
  · refine j_lv K [] (lv' := []) rfl ?_
    exact kX3_tally_10 K hr  st (h.2 hc)
theorem ctX3_tally {l : Launch} {D : va_G} {ct : Nat → ClassId} {ad : Nat → Nat} (x1 : Int32) (st : MS) (hp : pX3_tally x1 st) : ∀ sz, Met l yX3_tally (ws_ yX3_tally cX3_tally 8 (some .int)) { frames := 6, cells := 0, slots := 0, locals := 142 } (va_Pc [.ref (ad 0), .int x1] (cPre gT D ct (MW ct ad st) sz)) (va_Qi (qX3_tally x1 st) (fun u => cB D ct (va_A (MW ct ad st) sz) (MW ct ad u)) (va_A (MW ct ad st) sz)) 0 0 (va_A (MW ct ad st) sz) := fun sz =>
  j_met (Qc := fun A => va_Qi (qX3_tally x1 st) (fun u => cB D ct A (MW ct ad u)) A) (by decide) gT_ok (Nat.le_of_ble_eq_true rfl) (fun p e s m args below meth c A K hr _ _ => kX3_tally_0 K hr x1 st (vcX3_tally x1 st hp))
-- X3_share
theorem kX3_share_0 {p : Program} {l : Launch} {e : Env} {s : State} {m : MethodId} {args : Array Value} {below : List Frame} {meth : Method} {c : Code} {A : Nat → Prop} {D : va_G} {ct : Nat → ClassId} {ad : Nat → Nat} {post : Int32 → MS → Prop} (K : CX p s m args meth c cX3_share 1 RX3 A D ct gT) (hr : meth.sig.returnType = (some .int))    (st : MS) (h : wX3_share_0 post  st) : jJ p l e { frames := 7, cells := 0, slots := 0, locals := 169 } s m args below meth c (MQ below (va_Qi post (fun u => cB D ct A (MW ct ad u)) A) args s 0 0 A) A D 1 (MW ct ad st) 0 0 0 [(0, .ref (ad 0))] [] := by
  unfold wX3_share_0 at h
  refine j_aload_n K 0 dX3_share_0 rfl rfl ?_
  refine j_iconst K (1 : Int32) dX3_share_1 (by decide) ?_
  obtain ⟨hp, h⟩ := h
  refine j_callVi K (As := [.int (1 : Int32)]) (rest := []) (ctX3_tally (l := l) (D := D) (ct := ct) (ad := ad) (1 : Int32) st hp) gwX3_tally gdX3_tally ⟨Nat.le_of_ble_eq_true rfl, Nat.le_of_ble_eq_true rfl⟩ 0 rfl rfl rfl rfl rfl (Nat.le_of_ble_eq_true rfl) dX3_share_2 ⟨Nat.le_of_ble_eq_true rfl, Nat.le_of_ble_eq_true rfl⟩ (fun r_1 st_2 hq => ?_)
  replace h := h r_1 st_2 hq
  refine j_i2f K dX3_share_5 ?_
  refine j_aload_n K 0 dX3_share_6 rfl rfl ?_
  refine j_iconst K (0 : Int32) dX3_share_7 (by decide) ?_
  obtain ⟨hp, h⟩ := h
  refine j_callVi K (As := [.int (0 : Int32)]) (rest := [.float (FP.i2f r_1)]) (ctX3_tally (l := l) (D := D) (ct := ct) (ad := ad) (0 : Int32) st_2 hp) gwX3_tally gdX3_tally ⟨Nat.le_of_ble_eq_true rfl, Nat.le_of_ble_eq_true rfl⟩ 0 rfl rfl rfl rfl rfl (Nat.le_of_ble_eq_true rfl) dX3_share_8 ⟨Nat.le_of_ble_eq_true rfl, Nat.le_of_ble_eq_true rfl⟩ (fun r_3 st_4 hq => ?_)
  replace h := h r_3 st_4 hq
  refine j_i2f K dX3_share_11 ?_
  obtain ⟨hc, h⟩ := h
  refine j_fdiv K hc dX3_share_12 ?_
  refine j_callSi K (As := [.float (FP.fdiv (FP.i2f r_1) (FP.i2f r_3))]) (rest := []) (ctJ13_floatToIntBits (l := l) (D := D) (ct := ct) (G := gT) (ws := MW ct ad st_4) gT_ok (FP.fdiv (FP.i2f r_1) (FP.i2f r_3))) (lw_S q1232 q690 q91 q691) (n := 1) (by decide +kernel) ⟨Nat.le_of_ble_eq_true rfl, Nat.le_of_ble_eq_true rfl⟩ rfl rfl (Nat.le_of_ble_eq_true rfl) dX3_share_13 ⟨Nat.le_of_ble_eq_true rfl, Nat.le_of_ble_eq_true rfl⟩ (fun r_5 _ hq => ?_)
  replace h := h r_5 hq
  exact j_iret st_4 K hr rfl h (Nat.le_of_ble_eq_true rfl) (Nat.le_of_ble_eq_true rfl) dX3_share_16
theorem cgX3_share {l : Launch} {D : va_G} {ct : Nat → ClassId} {ad : Nat → Nat} {post : Int32 → MS → Prop}  (st : MS) (hw : wX3_share_0 post  st) : ∀ sz, Met l yX3_share (ws_ yX3_share cX3_share 1 (some .int)) { frames := 7, cells := 0, slots := 0, locals := 169 } (va_Pc [.ref (ad 0)] (cPre gT D ct (MW ct ad st) sz)) (va_Qi post (fun u => cB D ct (va_A (MW ct ad st) sz) (MW ct ad u)) (va_A (MW ct ad st) sz)) 0 0 (va_A (MW ct ad st) sz) := fun sz =>
  j_met (Qc := fun A => va_Qi post (fun u => cB D ct A (MW ct ad u)) A) (by decide) gT_ok (Nat.le_of_ble_eq_true rfl) (fun p e s m args below meth c A K hr _ _ => kX3_share_0 K hr  st hw)
-- X3_many
theorem kX3_many_62 {p : Program} {l : Launch} {e : Env} {s : State} {m : MethodId} {args : Array Value} {below : List Frame} {meth : Method} {c : Code} {A : Nat → Prop} {D : va_G} {ct : Nat → ClassId} {ad : Nat → Nat} {post : Int32 → MS → Prop} (K : CX p s m args meth c cX3_many 5 RX3 A D ct gT) (hr : meth.sig.returnType = (some .int))   (x3 : Int32) (st : MS) (h : wX3_many_62 post  x3 st) : jJ p l e { frames := 6, cells := 0, slots := 0, locals := 142 } s m args below meth c (MQ below (va_Qi post (fun u => cB D ct A (MW ct ad u)) A) args s 0 0 A) A D 5 (MW ct ad st) 0 0 62 [(3, .int x3)] [] := by
  unfold wX3_many_62 at h
  refine j_iload_n K 0 dX3_many_62 rfl rfl ?_
  exact j_iret st K hr rfl h (Nat.le_of_ble_eq_true rfl) (Nat.le_of_ble_eq_true rfl) dX3_many_63
theorem kX3_many_54 {p : Program} {l : Launch} {e : Env} {s : State} {m : MethodId} {args : Array Value} {below : List Frame} {meth : Method} {c : Code} {A : Nat → Prop} {D : va_G} {ct : Nat → ClassId} {ad : Nat → Nat} {post : Int32 → MS → Prop} (K : CX p s m args meth c cX3_many 5 RX3 A D ct gT) (hr : meth.sig.returnType = (some .int)) (L25 : Int32 → Int32 → Int32 → Int32 → MS → Prop) (hL25 : ∀ (x1 : Int32) (x2 : Int32) (x3 : Int32) (x4 : Int32) (st : MS), L25 x1 x2 x3 x4 st → jJ p l e { frames := 6, cells := 0, slots := 0, locals := 142 } s m args below meth c (MQ below (va_Qi post (fun u => cB D ct A (MW ct ad u)) A) args s 0 0 A) A D 5 (MW ct ad st) 0 0 25 [(0, .ref (ad 0)), (1, .int x1), (2, .int x2), (3, .int x3), (4, .int x4)] []) (x1 : Int32) (x2 : Int32) (x4 : Int32) (s0 : Int32) (s1 : Int32) (st : MS) (h : wX3_many_54 post L25 x1 x2 x4 s0 s1 st) : jJ p l e { frames := 6, cells := 0, slots := 0, locals := 142 } s m args below meth c (MQ below (va_Qi post (fun u => cB D ct A (MW ct ad u)) A) args s 0 0 A) A D 5 (MW ct ad st) 0 0 54 [(0, .ref (ad 0)), (1, .int x1), (2, .int x2), (4, .int x4)] [.int s1, .int s0] := by
  unfold wX3_many_54 at h
  refine j_iadd K dX3_many_54 ?_
  refine j_istore_n K [(3, .int (s0 + s1)), (0, .ref (ad 0)), (1, .int x1), (2, .int x2), (4, .int x4)] dX3_many_55 rfl (by decide) rfl ?_
  refine j_iinc K 4 (x4 + (1 : Int32)) [(4, .int (x4 + (1 : Int32))), (3, .int (s0 + s1)), (0, .ref (ad 0)), (1, .int x1), (2, .int x2)] dX3_many_56 rfl rfl (by decide) rfl ?_
  refine j_goto K 25 dX3_many_59 (by decide) ?_
  refine j_lv K [2, 3, 4, 1, 0] (lv' := [(0, .ref (ad 0)), (1, .int x1), (2, .int x2), (3, .int (s0 + s1)), (4, .int (x4 + (1 : Int32)))]) rfl ?_
  exact hL25 x1 x2 (s0 + s1) (x4 + (1 : Int32)) st h
theorem kX3_many_53 {p : Program} {l : Launch} {e : Env} {s : State} {m : MethodId} {args : Array Value} {below : List Frame} {meth : Method} {c : Code} {A : Nat → Prop} {D : va_G} {ct : Nat → ClassId} {ad : Nat → Nat} {post : Int32 → MS → Prop} (K : CX p s m args meth c cX3_many 5 RX3 A D ct gT) (hr : meth.sig.returnType = (some .int)) (L25 : Int32 → Int32 → Int32 → Int32 → MS → Prop) (hL25 : ∀ (x1 : Int32) (x2 : Int32) (x3 : Int32) (x4 : Int32) (st : MS), L25 x1 x2 x3 x4 st → jJ p l e { frames := 6, cells := 0, slots := 0, locals := 142 } s m args below meth c (MQ below (va_Qi post (fun u => cB D ct A (MW ct ad u)) A) args s 0 0 A) A D 5 (MW ct ad st) 0 0 25 [(0, .ref (ad 0)), (1, .int x1), (2, .int x2), (3, .int x3), (4, .int x4)] []) (x1 : Int32) (x2 : Int32) (x4 : Int32) (s0 : Int32) (st : MS) (h : wX3_many_53 post L25 x1 x2 x4 s0 st) : jJ p l e { frames := 6, cells := 0, slots := 0, locals := 142 } s m args below meth c (MQ below (va_Qi post (fun u => cB D ct A (MW ct ad u)) A) args s 0 0 A) A D 5 (MW ct ad st) 0 0 53 [(0, .ref (ad 0)), (1, .int x1), (2, .int x2), (4, .int x4)] [.int s0] := by
  unfold wX3_many_53 at h
  refine j_iconst K (0 : Int32) dX3_many_53 (by decide) ?_
  exact kX3_many_54 K hr L25 hL25 x1 x2 x4 s0 (0 : Int32) st h
theorem kX3_many_49 {p : Program} {l : Launch} {e : Env} {s : State} {m : MethodId} {args : Array Value} {below : List Frame} {meth : Method} {c : Code} {A : Nat → Prop} {D : va_G} {ct : Nat → ClassId} {ad : Nat → Nat} {post : Int32 → MS → Prop} (K : CX p s m args meth c cX3_many 5 RX3 A D ct gT) (hr : meth.sig.returnType = (some .int)) (L25 : Int32 → Int32 → Int32 → Int32 → MS → Prop) (hL25 : ∀ (x1 : Int32) (x2 : Int32) (x3 : Int32) (x4 : Int32) (st : MS), L25 x1 x2 x3 x4 st → jJ p l e { frames := 6, cells := 0, slots := 0, locals := 142 } s m args below meth c (MQ below (va_Qi post (fun u => cB D ct A (MW ct ad u)) A) args s 0 0 A) A D 5 (MW ct ad st) 0 0 25 [(0, .ref (ad 0)), (1, .int x1), (2, .int x2), (3, .int x3), (4, .int x4)] []) (x1 : Int32) (x2 : Int32) (x4 : Int32) (s0 : Int32) (st : MS) (h : wX3_many_49 post L25 x1 x2 x4 s0 st) : jJ p l e { frames := 6, cells := 0, slots := 0, locals := 142 } s m args below meth c (MQ below (va_Qi post (fun u => cB D ct A (MW ct ad u)) A) args s 0 0 A) A D 5 (MW ct ad st) 0 0 49 [(0, .ref (ad 0)), (1, .int x1), (2, .int x2), (4, .int x4)] [.int s0] := by
  unfold wX3_many_49 at h
  refine j_iconst K (1 : Int32) dX3_many_49 (by decide) ?_
  refine j_goto K 54 dX3_many_50 (by decide) ?_
  exact kX3_many_54 K hr L25 hL25 x1 x2 x4 s0 (1 : Int32) st h
theorem kX3_many_34 {p : Program} {l : Launch} {e : Env} {s : State} {m : MethodId} {args : Array Value} {below : List Frame} {meth : Method} {c : Code} {A : Nat → Prop} {D : va_G} {ct : Nat → ClassId} {ad : Nat → Nat} {post : Int32 → MS → Prop} (K : CX p s m args meth c cX3_many 5 RX3 A D ct gT) (hr : meth.sig.returnType = (some .int)) (L25 : Int32 → Int32 → Int32 → Int32 → MS → Prop) (hL25 : ∀ (x1 : Int32) (x2 : Int32) (x3 : Int32) (x4 : Int32) (st : MS), L25 x1 x2 x3 x4 st → jJ p l e { frames := 6, cells := 0, slots := 0, locals := 142 } s m args below meth c (MQ below (va_Qi post (fun u => cB D ct A (MW ct ad u)) A) args s 0 0 A) A D 5 (MW ct ad st) 0 0 25 [(0, .ref (ad 0)), (1, .int x1), (2, .int x2), (3, .int x3), (4, .int x4)] []) (x1 : Int32) (x2 : Int32) (x3 : Int32) (x4 : Int32) (st : MS) (h : wX3_many_34 post L25 x1 x2 x3 x4 st) : jJ p l e { frames := 6, cells := 0, slots := 0, locals := 142 } s m args below meth c (MQ below (va_Qi post (fun u => cB D ct A (MW ct ad u)) A) args s 0 0 A) A D 5 (MW ct ad st) 0 0 34 [(0, .ref (ad 0)), (1, .int x1), (2, .int x2), (3, .int x3), (4, .int x4)] [] := by
  unfold wX3_many_34 at h
  refine j_iload_n K 3 dX3_many_34 rfl rfl ?_
  refine j_aload_n K 0 dX3_many_35 rfl rfl ?_
  refine mg_worths K dX3_many_36 ?_
  refine j_iload K 4 dX3_many_39 rfl ?_
  obtain ⟨hc, h⟩ := h
  refine ml_worths K hc dX3_many_41 ?_
  refine j_iload_n K 1 dX3_many_42 rfl rfl ?_
  refine j_bipush K (100 : Int32) dX3_many_43 (by decide) ?_
  refine j_isub K dX3_many_45 ?_
  refine j_icmp_ne K 53 dX3_many_46 (by decide) (fun hc => ?_) (fun hc => ?_)
  · refine j_lv K [0, 1, 2, 4] (lv' := [(0, .ref (ad 0)), (1, .int x1), (2, .int x2), (4, .int x4)]) rfl ?_
    exact kX3_many_53 K hr L25 hL25 x1 x2 x4 x3 st (h.1 hc)
  · refine j_lv K [0, 1, 2, 4] (lv' := [(0, .ref (ad 0)), (1, .int x1), (2, .int x2), (4, .int x4)]) rfl ?_
    exact kX3_many_49 K hr L25 hL25 x1 x2 x4 x3 st (h.2 hc)
theorem kX3_many_25_b {p : Program} {l : Launch} {e : Env} {s : State} {m : MethodId} {args : Array Value} {below : List Frame} {meth : Method} {c : Code} {A : Nat → Prop} {D : va_G} {ct : Nat → ClassId} {ad : Nat → Nat} {post : Int32 → MS → Prop} (K : CX p s m args meth c cX3_many 5 RX3 A D ct gT) (hr : meth.sig.returnType = (some .int)) (L25 : Int32 → Int32 → Int32 → Int32 → MS → Prop) (hL25 : ∀ (x1 : Int32) (x2 : Int32) (x3 : Int32) (x4 : Int32) (st : MS), L25 x1 x2 x3 x4 st → jJ p l e { frames := 6, cells := 0, slots := 0, locals := 142 } s m args below meth c (MQ below (va_Qi post (fun u => cB D ct A (MW ct ad u)) A) args s 0 0 A) A D 5 (MW ct ad st) 0 0 25 [(0, .ref (ad 0)), (1, .int x1), (2, .int x2), (3, .int x3), (4, .int x4)] []) (x1 : Int32) (x2 : Int32) (x3 : Int32) (x4 : Int32) (st : MS) (h : wX3_many_25_b post L25 x1 x2 x3 x4 st) : jJ p l e { frames := 6, cells := 0, slots := 0, locals := 142 } s m args below meth c (MQ below (va_Qi post (fun u => cB D ct A (MW ct ad u)) A) args s 0 0 A) A D 5 (MW ct ad st) 0 0 25 [(0, .ref (ad 0)), (1, .int x1), (2, .int x2), (3, .int x3), (4, .int x4)] [] := by
  unfold wX3_many_25_b at h
  refine j_iload K 4 dX3_many_25 rfl ?_
  refine j_iload_n K 2 dX3_many_27 rfl rfl ?_
  refine j_ldc K q1174 dX3_many_28 ?_
  refine j_iadd K dX3_many_30 ?_
  refine j_icmp_ge K 62 dX3_many_31 (by decide) (fun hc => ?_) (fun hc => ?_)
  · refine j_lv K [3] (lv' := [(3, .int x3)]) rfl ?_
    exact kX3_many_62 K hr  x3 st (h.1 hc)
  · exact kX3_many_34 K hr L25 hL25 x1 x2 x3 x4 st (h.2 hc)
theorem kX3_many_25 {p : Program} {l : Launch} {e : Env} {s : State} {m : MethodId} {args : Array Value} {below : List Frame} {meth : Method} {c : Code} {A : Nat → Prop} {D : va_G} {ct : Nat → ClassId} {ad : Nat → Nat} {post : Int32 → MS → Prop} (K : CX p s m args meth c cX3_many 5 RX3 A D ct gT) (hr : meth.sig.returnType = (some .int))   (x1 : Int32) (x2 : Int32) (x3 : Int32) (x4 : Int32) (st : MS) (h : wX3_many_25 post  x1 x2 x3 x4 st) : jJ p l e { frames := 6, cells := 0, slots := 0, locals := 142 } s m args below meth c (MQ below (va_Qi post (fun u => cB D ct A (MW ct ad u)) A) args s 0 0 A) A D 5 (MW ct ad st) 0 0 25 [(0, .ref (ad 0)), (1, .int x1), (2, .int x2), (3, .int x3), (4, .int x4)] [] :=
  wloop_sound (V := Int32 × Int32 × Int32 × Int32 × MS) (Wk := fun v => jJ p l e { frames := 6, cells := 0, slots := 0, locals := 142 } s m args below meth c (MQ below (va_Qi post (fun u => cB D ct A (MW ct ad u)) A) args s 0 0 A) A D 5 (MW ct ad v.2.2.2.2) 0 0 25 [(0, .ref (ad 0)), (1, .int v.1), (2, .int v.2.1), (3, .int v.2.2.1), (4, .int v.2.2.2.1)] []) (fun L hL v hb => kX3_many_25_b K hr (fun x1 x2 x3 x4 st => L (x1, x2, x3, x4, st)) (fun x1 x2 x3 x4 st hx => hL (x1, x2, x3, x4, st) hx) v.1 v.2.1 v.2.2.1 v.2.2.2.1 v.2.2.2.2 hb) h
theorem kX3_many_15 {p : Program} {l : Launch} {e : Env} {s : State} {m : MethodId} {args : Array Value} {below : List Frame} {meth : Method} {c : Code} {A : Nat → Prop} {D : va_G} {ct : Nat → ClassId} {ad : Nat → Nat} {post : Int32 → MS → Prop} (K : CX p s m args meth c cX3_many 5 RX3 A D ct gT) (hr : meth.sig.returnType = (some .int))   (x1 : Int32) (st : MS) (h : wX3_many_15 post  x1 st) : jJ p l e { frames := 6, cells := 0, slots := 0, locals := 142 } s m args below meth c (MQ below (va_Qi post (fun u => cB D ct A (MW ct ad u)) A) args s 0 0 A) A D 5 (MW ct ad st) 0 0 15 [(0, .ref (ad 0)), (1, .int x1)] [] := by
  unfold wX3_many_15 at h
  refine j_aload_n K 0 dX3_many_15 rfl rfl ?_
  obtain ⟨hp, h⟩ := h
  refine j_callVi K (As := []) (rest := []) (ctX3_table (l := l) (D := D) (ct := ct) (ad := ad)  st hp) gwX3_table gdX3_table ⟨Nat.le_of_ble_eq_true rfl, Nat.le_of_ble_eq_true rfl⟩ 0 rfl rfl rfl rfl rfl (Nat.le_of_ble_eq_true rfl) dX3_many_16 ⟨Nat.le_of_ble_eq_true rfl, Nat.le_of_ble_eq_true rfl⟩ (fun r_1 st_2 hq => ?_)
  replace h := h r_1 st_2 hq
  refine j_istore_n K [(2, .int r_1), (0, .ref (ad 0)), (1, .int x1)] dX3_many_19 rfl (by decide) rfl ?_
  refine j_iconst K (0 : Int32) dX3_many_20 (by decide) ?_
  refine j_istore_n K [(3, .int (0 : Int32)), (2, .int r_1), (0, .ref (ad 0)), (1, .int x1)] dX3_many_21 rfl (by decide) rfl ?_
  refine j_iload_n K 1 dX3_many_22 rfl rfl ?_
  refine j_istore K [(4, .int r_1), (3, .int (0 : Int32)), (2, .int r_1), (0, .ref (ad 0)), (1, .int x1)] dX3_many_23 (by decide) rfl ?_
  refine j_lv K [3, 4, 2, 1, 0] (lv' := [(0, .ref (ad 0)), (1, .int x1), (2, .int r_1), (3, .int (0 : Int32)), (4, .int r_1)]) rfl ?_
  exact kX3_many_25 K hr  x1 r_1 (0 : Int32) r_1 st_2 h
theorem kX3_many_12 {p : Program} {l : Launch} {e : Env} {s : State} {m : MethodId} {args : Array Value} {below : List Frame} {meth : Method} {c : Code} {A : Nat → Prop} {D : va_G} {ct : Nat → ClassId} {ad : Nat → Nat} {post : Int32 → MS → Prop} (K : CX p s m args meth c cX3_many 5 RX3 A D ct gT) (hr : meth.sig.returnType = (some .int))    (st : MS) (h : wX3_many_12 post  st) : jJ p l e { frames := 6, cells := 0, slots := 0, locals := 142 } s m args below meth c (MQ below (va_Qi post (fun u => cB D ct A (MW ct ad u)) A) args s 0 0 A) A D 5 (MW ct ad st) 0 0 12 [] [] := by
  unfold wX3_many_12 at h
  refine j_bipush K (-2 : Int32) dX3_many_12 (by decide) ?_
  exact j_iret st K hr rfl h (Nat.le_of_ble_eq_true rfl) (Nat.le_of_ble_eq_true rfl) dX3_many_14
theorem kX3_many_0 {p : Program} {l : Launch} {e : Env} {s : State} {m : MethodId} {args : Array Value} {below : List Frame} {meth : Method} {c : Code} {A : Nat → Prop} {D : va_G} {ct : Nat → ClassId} {ad : Nat → Nat} {post : Int32 → MS → Prop} (K : CX p s m args meth c cX3_many 5 RX3 A D ct gT) (hr : meth.sig.returnType = (some .int))   (x1 : Int32) (st : MS) (h : wX3_many_0 post  x1 st) : jJ p l e { frames := 6, cells := 0, slots := 0, locals := 142 } s m args below meth c (MQ below (va_Qi post (fun u => cB D ct A (MW ct ad u)) A) args s 0 0 A) A D 5 (MW ct ad st) 0 0 0 [(0, .ref (ad 0)), (1, .int x1)] [] := by
  unfold wX3_many_0 at h
  refine j_iload_n K 1 dX3_many_0 rfl rfl ?_
  refine j_i2l K dX3_many_1 ?_
  refine j_iconst K (0 : Int32) dX3_many_2 (by decide) ?_
  refine j_sipush K (200 : Int32) dX3_many_3 (by decide) ?_
  refine j_callSi K (As := [.long (x1.toInt64), .int (0 : Int32), .int (200 : Int32)]) (rest := []) (ctX3_in (l := l) (D := D) (ct := ct) (G := gT) (ws := MW ct ad st) gT_ok (x1.toInt64) (0 : Int32) (200 : Int32)) gwX3_in gdX3_in ⟨Nat.le_of_ble_eq_true rfl, Nat.le_of_ble_eq_true rfl⟩ rfl rfl (Nat.le_of_ble_eq_true rfl) dX3_many_6 ⟨Nat.le_of_ble_eq_true rfl, Nat.le_of_ble_eq_true rfl⟩ (fun r_1 _ hq => ?_)
  replace h := h r_1 hq
  refine j_if_ne K 15 dX3_many_9 (by decide) (fun hc => ?_) (fun hc => ?_)
  · exact kX3_many_15 K hr  x1 st (h.1 hc)
  · refine j_lv K [] (lv' := []) rfl ?_
    exact kX3_many_12 K hr  st (h.2 hc)
theorem cgX3_many {l : Launch} {D : va_G} {ct : Nat → ClassId} {ad : Nat → Nat} {post : Int32 → MS → Prop} (x1 : Int32) (st : MS) (hw : wX3_many_0 post x1 st) : ∀ sz, Met l yX3_many (ws_ yX3_many cX3_many 5 (some .int)) { frames := 6, cells := 0, slots := 0, locals := 142 } (va_Pc [.ref (ad 0), .int x1] (cPre gT D ct (MW ct ad st) sz)) (va_Qi post (fun u => cB D ct (va_A (MW ct ad st) sz) (MW ct ad u)) (va_A (MW ct ad st) sz)) 0 0 (va_A (MW ct ad st) sz) := fun sz =>
  j_met (Qc := fun A => va_Qi post (fun u => cB D ct A (MW ct ad u)) A) (by decide) gT_ok (Nat.le_of_ble_eq_true rfl) (fun p e s m args below meth c A K hr _ _ => kX3_many_0 K hr x1 st hw)
-- X3_put
theorem kX3_put_129 {p : Program} {l : Launch} {e : Env} {s : State} {m : MethodId} {args : Array Value} {below : List Frame} {meth : Method} {c : Code} {A : Nat → Prop} {D : va_G} {ct : Nat → ClassId} {ad : Nat → Nat} {post : Int32 → MS → Prop} (K : CX p s m args meth c cX3_put 7 RX3 A D ct gT) (hr : meth.sig.returnType = (some .int))    (st : MS) (h : wX3_put_129 post  st) : jJ p l e { frames := 1, cells := 0, slots := 0, locals := 23 } s m args below meth c (MQ below (va_Qi post (fun u => cB D ct A (MW ct ad u)) A) args s 0 0 A) A D 7 (MW ct ad st) 0 0 129 [(0, .ref (ad 0))] [] := by
  unfold wX3_put_129 at h
  refine j_aload_n K 0 dX3_put_129 rfl rfl ?_
  refine mg_length K dX3_put_130 ?_
  exact j_iret st K hr rfl h (Nat.le_of_ble_eq_true rfl) (Nat.le_of_ble_eq_true rfl) dX3_put_133
theorem kX3_put_97 {p : Program} {l : Launch} {e : Env} {s : State} {m : MethodId} {args : Array Value} {below : List Frame} {meth : Method} {c : Code} {A : Nat → Prop} {D : va_G} {ct : Nat → ClassId} {ad : Nat → Nat} {post : Int32 → MS → Prop} (K : CX p s m args meth c cX3_put 7 RX3 A D ct gT) (hr : meth.sig.returnType = (some .int)) (L92 : Int32 → MS → Prop) (hL92 : ∀ (x6 : Int32) (st : MS), L92 x6 st → jJ p l e { frames := 1, cells := 0, slots := 0, locals := 23 } s m args below meth c (MQ below (va_Qi post (fun u => cB D ct A (MW ct ad u)) A) args s 0 0 A) A D 7 (MW ct ad st) 0 0 92 [(0, .ref (ad 0)), (6, .int x6)] []) (x6 : Int32) (st : MS) (h : wX3_put_97 post L92 x6 st) : jJ p l e { frames := 1, cells := 0, slots := 0, locals := 23 } s m args below meth c (MQ below (va_Qi post (fun u => cB D ct A (MW ct ad u)) A) args s 0 0 A) A D 7 (MW ct ad st) 0 0 97 [(0, .ref (ad 0)), (6, .int x6)] [] := by
  unfold wX3_put_97 at h
  refine j_aload_n K 0 dX3_put_97 rfl rfl ?_
  refine mg_pad K dX3_put_98 ?_
  refine j_aload_n K 0 dX3_put_101 rfl rfl ?_
  refine mg_length K dX3_put_102 ?_
  refine j_aload_n K 0 dX3_put_105 rfl rfl ?_
  refine mg_codes K dX3_put_106 ?_
  refine j_iload K 1 dX3_put_109 rfl ?_
  obtain ⟨hc, h⟩ := h
  refine ml_codes K hc dX3_put_111 ?_
  obtain ⟨hc, h⟩ := h
  refine mt_pad K hc dX3_put_112 ?_
  refine j_aload_n K 0 dX3_put_113 rfl rfl ?_
  refine j_dup K dX3_put_114 rfl ?_
  refine mg_length K dX3_put_115 ?_
  refine j_iconst K (1 : Int32) dX3_put_118 (by decide) ?_
  refine j_iadd K dX3_put_119 ?_
  refine mp_length K dX3_put_120 ?_
  refine j_iinc K 1 (x6 + (-1 : Int32)) [(6, .int (x6 + (-1 : Int32))), (0, .ref (ad 0))] dX3_put_123 rfl rfl (by decide) rfl ?_
  refine j_goto K 92 dX3_put_126 (by decide) ?_
  refine j_lv K [1, 0] (lv' := [(0, .ref (ad 0)), (6, .int (x6 + (-1 : Int32)))]) rfl ?_
  exact hL92 (x6 + (-1 : Int32)) (mF (mA st 5 ((st.2 1)).toNatClampNeg (st.1 6 (x6).toNatClampNeg)) 1 (((mA st 5 ((st.2 1)).toNatClampNeg (st.1 6 (x6).toNatClampNeg)).2 1) + (1 : Int32))) h
theorem kX3_put_92_b {p : Program} {l : Launch} {e : Env} {s : State} {m : MethodId} {args : Array Value} {below : List Frame} {meth : Method} {c : Code} {A : Nat → Prop} {D : va_G} {ct : Nat → ClassId} {ad : Nat → Nat} {post : Int32 → MS → Prop} (K : CX p s m args meth c cX3_put 7 RX3 A D ct gT) (hr : meth.sig.returnType = (some .int)) (L92 : Int32 → MS → Prop) (hL92 : ∀ (x6 : Int32) (st : MS), L92 x6 st → jJ p l e { frames := 1, cells := 0, slots := 0, locals := 23 } s m args below meth c (MQ below (va_Qi post (fun u => cB D ct A (MW ct ad u)) A) args s 0 0 A) A D 7 (MW ct ad st) 0 0 92 [(0, .ref (ad 0)), (6, .int x6)] []) (x6 : Int32) (st : MS) (h : wX3_put_92_b post L92 x6 st) : jJ p l e { frames := 1, cells := 0, slots := 0, locals := 23 } s m args below meth c (MQ below (va_Qi post (fun u => cB D ct A (MW ct ad u)) A) args s 0 0 A) A D 7 (MW ct ad st) 0 0 92 [(0, .ref (ad 0)), (6, .int x6)] [] := by
  unfold wX3_put_92_b at h
  refine j_iload K 1 dX3_put_92 rfl ?_
  refine j_if_lt K 129 dX3_put_94 (by decide) (fun hc => ?_) (fun hc => ?_)
  · refine j_lv K [0] (lv' := [(0, .ref (ad 0))]) rfl ?_
    exact kX3_put_129 K hr  st (h.1 hc)
  · exact kX3_put_97 K hr L92 hL92 x6 st (h.2 hc)
theorem kX3_put_92 {p : Program} {l : Launch} {e : Env} {s : State} {m : MethodId} {args : Array Value} {below : List Frame} {meth : Method} {c : Code} {A : Nat → Prop} {D : va_G} {ct : Nat → ClassId} {ad : Nat → Nat} {post : Int32 → MS → Prop} (K : CX p s m args meth c cX3_put 7 RX3 A D ct gT) (hr : meth.sig.returnType = (some .int))   (x6 : Int32) (st : MS) (h : wX3_put_92 post  x6 st) : jJ p l e { frames := 1, cells := 0, slots := 0, locals := 23 } s m args below meth c (MQ below (va_Qi post (fun u => cB D ct A (MW ct ad u)) A) args s 0 0 A) A D 7 (MW ct ad st) 0 0 92 [(0, .ref (ad 0)), (6, .int x6)] [] :=
  wloop_sound (V := Int32 × MS) (Wk := fun v => jJ p l e { frames := 1, cells := 0, slots := 0, locals := 23 } s m args below meth c (MQ below (va_Qi post (fun u => cB D ct A (MW ct ad u)) A) args s 0 0 A) A D 7 (MW ct ad v.2) 0 0 92 [(0, .ref (ad 0)), (6, .int v.1)] []) (fun L hL v hb => kX3_put_92_b K hr (fun x6 st => L (x6, st)) (fun x6 st hx => hL (x6, st) hx) v.1 v.2 hb) h
theorem kX3_put_86 {p : Program} {l : Launch} {e : Env} {s : State} {m : MethodId} {args : Array Value} {below : List Frame} {meth : Method} {c : Code} {A : Nat → Prop} {D : va_G} {ct : Nat → ClassId} {ad : Nat → Nat} {post : Int32 → MS → Prop} (K : CX p s m args meth c cX3_put 7 RX3 A D ct gT) (hr : meth.sig.returnType = (some .int))   (x5 : Int32) (st : MS) (h : wX3_put_86 post  x5 st) : jJ p l e { frames := 1, cells := 0, slots := 0, locals := 23 } s m args below meth c (MQ below (va_Qi post (fun u => cB D ct A (MW ct ad u)) A) args s 0 0 A) A D 7 (MW ct ad st) 0 0 86 [(0, .ref (ad 0)), (5, .int x5)] [] := by
  unfold wX3_put_86 at h
  refine j_iload K 1 dX3_put_86 rfl ?_
  refine j_iconst K (1 : Int32) dX3_put_88 (by decide) ?_
  refine j_isub K dX3_put_89 ?_
  refine j_istore K [(6, .int (x5 - (1 : Int32))), (0, .ref (ad 0)), (5, .int x5)] dX3_put_90 (by decide) rfl ?_
  refine j_lv K [1, 0] (lv' := [(0, .ref (ad 0)), (6, .int (x5 - (1 : Int32)))]) rfl ?_
  exact kX3_put_92 K hr  (x5 - (1 : Int32)) st h
theorem kX3_put_83 {p : Program} {l : Launch} {e : Env} {s : State} {m : MethodId} {args : Array Value} {below : List Frame} {meth : Method} {c : Code} {A : Nat → Prop} {D : va_G} {ct : Nat → ClassId} {ad : Nat → Nat} {post : Int32 → MS → Prop} (K : CX p s m args meth c cX3_put 7 RX3 A D ct gT) (hr : meth.sig.returnType = (some .int))    (st : MS) (h : wX3_put_83 post  st) : jJ p l e { frames := 1, cells := 0, slots := 0, locals := 23 } s m args below meth c (MQ below (va_Qi post (fun u => cB D ct A (MW ct ad u)) A) args s 0 0 A) A D 7 (MW ct ad st) 0 0 83 [] [] := by
  unfold wX3_put_83 at h
  refine j_bipush K (-4 : Int32) dX3_put_83 (by decide) ?_
  exact j_iret st K hr rfl h (Nat.le_of_ble_eq_true rfl) (Nat.le_of_ble_eq_true rfl) dX3_put_85
theorem kX3_put_71 {p : Program} {l : Launch} {e : Env} {s : State} {m : MethodId} {args : Array Value} {below : List Frame} {meth : Method} {c : Code} {A : Nat → Prop} {D : va_G} {ct : Nat → ClassId} {ad : Nat → Nat} {post : Int32 → MS → Prop} (K : CX p s m args meth c cX3_put 7 RX3 A D ct gT) (hr : meth.sig.returnType = (some .int))   (x5 : Int32) (st : MS) (h : wX3_put_71 post  x5 st) : jJ p l e { frames := 1, cells := 0, slots := 0, locals := 23 } s m args below meth c (MQ below (va_Qi post (fun u => cB D ct A (MW ct ad u)) A) args s 0 0 A) A D 7 (MW ct ad st) 0 0 71 [(0, .ref (ad 0)), (5, .int x5)] [] := by
  unfold wX3_put_71 at h
  refine j_aload_n K 0 dX3_put_71 rfl rfl ?_
  refine mg_length K dX3_put_72 ?_
  refine j_iload K 1 dX3_put_75 rfl ?_
  refine j_iadd K dX3_put_77 ?_
  refine j_bipush K (80 : Int32) dX3_put_78 (by decide) ?_
  refine j_icmp_le K 86 dX3_put_80 (by decide) (fun hc => ?_) (fun hc => ?_)
  · exact kX3_put_86 K hr  x5 st (h.1 hc)
  · refine j_lv K [] (lv' := []) rfl ?_
    exact kX3_put_83 K hr  st (h.2 hc)
theorem kX3_put_68 {p : Program} {l : Launch} {e : Env} {s : State} {m : MethodId} {args : Array Value} {below : List Frame} {meth : Method} {c : Code} {A : Nat → Prop} {D : va_G} {ct : Nat → ClassId} {ad : Nat → Nat} {post : Int32 → MS → Prop} (K : CX p s m args meth c cX3_put 7 RX3 A D ct gT) (hr : meth.sig.returnType = (some .int))    (st : MS) (h : wX3_put_68 post  st) : jJ p l e { frames := 1, cells := 0, slots := 0, locals := 23 } s m args below meth c (MQ below (va_Qi post (fun u => cB D ct A (MW ct ad u)) A) args s 0 0 A) A D 7 (MW ct ad st) 0 0 68 [] [] := by
  unfold wX3_put_68 at h
  refine j_bipush K (-2 : Int32) dX3_put_68 (by decide) ?_
  exact j_iret st K hr rfl h (Nat.le_of_ble_eq_true rfl) (Nat.le_of_ble_eq_true rfl) dX3_put_70
theorem kX3_put_63 {p : Program} {l : Launch} {e : Env} {s : State} {m : MethodId} {args : Array Value} {below : List Frame} {meth : Method} {c : Code} {A : Nat → Prop} {D : va_G} {ct : Nat → ClassId} {ad : Nat → Nat} {post : Int32 → MS → Prop} (K : CX p s m args meth c cX3_put 7 RX3 A D ct gT) (hr : meth.sig.returnType = (some .int))   (x5 : Int32) (st : MS) (h : wX3_put_63 post  x5 st) : jJ p l e { frames := 1, cells := 0, slots := 0, locals := 23 } s m args below meth c (MQ below (va_Qi post (fun u => cB D ct A (MW ct ad u)) A) args s 0 0 A) A D 7 (MW ct ad st) 0 0 63 [(0, .ref (ad 0)), (5, .int x5)] [] := by
  unfold wX3_put_63 at h
  refine j_iload K 1 dX3_put_63 rfl ?_
  refine j_if_ne K 71 dX3_put_65 (by decide) (fun hc => ?_) (fun hc => ?_)
  · exact kX3_put_71 K hr  x5 st (h.1 hc)
  · refine j_lv K [] (lv' := []) rfl ?_
    exact kX3_put_68 K hr  st (h.2 hc)
theorem kX3_put_52 {p : Program} {l : Launch} {e : Env} {s : State} {m : MethodId} {args : Array Value} {below : List Frame} {meth : Method} {c : Code} {A : Nat → Prop} {D : va_G} {ct : Nat → ClassId} {ad : Nat → Nat} {post : Int32 → MS → Prop} (K : CX p s m args meth c cX3_put 7 RX3 A D ct gT) (hr : meth.sig.returnType = (some .int)) (L5 : Int64 → Int32 → MS → Prop) (hL5 : ∀ (x3 : Int64) (x5 : Int32) (st : MS), L5 x3 x5 st → jJ p l e { frames := 1, cells := 0, slots := 0, locals := 23 } s m args below meth c (MQ below (va_Qi post (fun u => cB D ct A (MW ct ad u)) A) args s 0 0 A) A D 7 (MW ct ad st) 0 0 5 [(0, .ref (ad 0)), (3, .long x3), (5, .int x5)] []) (x3 : Int64) (x5 : Int32) (st : MS) (h : wX3_put_52 post L5 x3 x5 st) : jJ p l e { frames := 1, cells := 0, slots := 0, locals := 23 } s m args below meth c (MQ below (va_Qi post (fun u => cB D ct A (MW ct ad u)) A) args s 0 0 A) A D 7 (MW ct ad st) 0 0 52 [(0, .ref (ad 0)), (3, .long x3), (5, .int x5)] [] := by
  unfold wX3_put_52 at h
  refine j_lload_n K 1 dX3_put_52 rfl rfl ?_
  refine j_bipush K (8 : Int32) dX3_put_53 (by decide) ?_
  refine j_lushr K dX3_put_55 ?_
  refine j_lstore_n K [(3, .long ((x3.toUInt64 >>> ((8 : Int32).toInt64.toUInt64 &&& Int64.toUInt64 63)).toInt64)), (0, .ref (ad 0)), (5, .int x5)] dX3_put_56 rfl (by decide) rfl ?_
  refine j_iinc K 2 (x5 + (1 : Int32)) [(5, .int (x5 + (1 : Int32))), (3, .long ((x3.toUInt64 >>> ((8 : Int32).toInt64.toUInt64 &&& Int64.toUInt64 63)).toInt64)), (0, .ref (ad 0))] dX3_put_57 rfl rfl (by decide) rfl ?_
  refine j_goto K 5 dX3_put_60 (by decide) ?_
  refine j_lv K [2, 1, 0] (lv' := [(0, .ref (ad 0)), (3, .long ((x3.toUInt64 >>> ((8 : Int32).toInt64.toUInt64 &&& Int64.toUInt64 63)).toInt64)), (5, .int (x5 + (1 : Int32)))]) rfl ?_
  exact hL5 ((x3.toUInt64 >>> ((8 : Int32).toInt64.toUInt64 &&& Int64.toUInt64 63)).toInt64) (x5 + (1 : Int32)) st h
theorem kX3_put_49 {p : Program} {l : Launch} {e : Env} {s : State} {m : MethodId} {args : Array Value} {below : List Frame} {meth : Method} {c : Code} {A : Nat → Prop} {D : va_G} {ct : Nat → ClassId} {ad : Nat → Nat} {post : Int32 → MS → Prop} (K : CX p s m args meth c cX3_put 7 RX3 A D ct gT) (hr : meth.sig.returnType = (some .int))    (st : MS) (h : wX3_put_49 post  st) : jJ p l e { frames := 1, cells := 0, slots := 0, locals := 23 } s m args below meth c (MQ below (va_Qi post (fun u => cB D ct A (MW ct ad u)) A) args s 0 0 A) A D 7 (MW ct ad st) 0 0 49 [] [] := by
  unfold wX3_put_49 at h
  refine j_bipush K (-2 : Int32) dX3_put_49 (by decide) ?_
  exact j_iret st K hr rfl h (Nat.le_of_ble_eq_true rfl) (Nat.le_of_ble_eq_true rfl) dX3_put_51
theorem kX3_put_18 {p : Program} {l : Launch} {e : Env} {s : State} {m : MethodId} {args : Array Value} {below : List Frame} {meth : Method} {c : Code} {A : Nat → Prop} {D : va_G} {ct : Nat → ClassId} {ad : Nat → Nat} {post : Int32 → MS → Prop} (K : CX p s m args meth c cX3_put 7 RX3 A D ct gT) (hr : meth.sig.returnType = (some .int)) (L5 : Int64 → Int32 → MS → Prop) (hL5 : ∀ (x3 : Int64) (x5 : Int32) (st : MS), L5 x3 x5 st → jJ p l e { frames := 1, cells := 0, slots := 0, locals := 23 } s m args below meth c (MQ below (va_Qi post (fun u => cB D ct A (MW ct ad u)) A) args s 0 0 A) A D 7 (MW ct ad st) 0 0 5 [(0, .ref (ad 0)), (3, .long x3), (5, .int x5)] []) (x3 : Int64) (x5 : Int32) (st : MS) (h : wX3_put_18 post L5 x3 x5 st) : jJ p l e { frames := 1, cells := 0, slots := 0, locals := 23 } s m args below meth c (MQ below (va_Qi post (fun u => cB D ct A (MW ct ad u)) A) args s 0 0 A) A D 7 (MW ct ad st) 0 0 18 [(0, .ref (ad 0)), (3, .long x3), (5, .int x5)] [] := by
  unfold wX3_put_18 at h
  refine j_aload_n K 0 dX3_put_18 rfl rfl ?_
  refine mg_codes K dX3_put_19 ?_
  refine j_iload K 2 dX3_put_22 rfl ?_
  refine j_lload_n K 1 dX3_put_24 rfl rfl ?_
  refine j_ldc2 K q1241 dX3_put_25 ?_
  refine j_land K dX3_put_28 ?_
  refine j_l2i K dX3_put_29 ?_
  obtain ⟨hc, h⟩ := h
  refine mt_codes K hc dX3_put_30 ?_
  refine j_aload_n K 0 dX3_put_31 rfl rfl ?_
  refine mg_codes K dX3_put_32 ?_
  refine j_iload K 2 dX3_put_35 rfl ?_
  obtain ⟨hc, h⟩ := h
  refine ml_codes K hc dX3_put_37 ?_
  refine j_i2l K dX3_put_38 ?_
  refine j_bipush K (33 : Int32) dX3_put_39 (by decide) ?_
  refine j_bipush K (126 : Int32) dX3_put_41 (by decide) ?_
  refine j_callSi K (As := [.long (((mA st 6 (x5).toNatClampNeg ((x3 &&& (255 : Int64)).toInt32)).1 6 (x5).toNatClampNeg).toInt64), .int (33 : Int32), .int (126 : Int32)]) (rest := []) (ctX3_in (l := l) (D := D) (ct := ct) (G := gT) (ws := MW ct ad (mA st 6 (x5).toNatClampNeg ((x3 &&& (255 : Int64)).toInt32))) gT_ok (((mA st 6 (x5).toNatClampNeg ((x3 &&& (255 : Int64)).toInt32)).1 6 (x5).toNatClampNeg).toInt64) (33 : Int32) (126 : Int32)) gwX3_in gdX3_in ⟨Nat.le_of_ble_eq_true rfl, Nat.le_of_ble_eq_true rfl⟩ rfl rfl (Nat.le_of_ble_eq_true rfl) dX3_put_43 ⟨Nat.le_of_ble_eq_true rfl, Nat.le_of_ble_eq_true rfl⟩ (fun r_1 _ hq => ?_)
  replace h := h r_1 hq
  refine j_if_ne K 52 dX3_put_46 (by decide) (fun hc => ?_) (fun hc => ?_)
  · exact kX3_put_52 K hr L5 hL5 x3 x5 (mA st 6 (x5).toNatClampNeg ((x3 &&& (255 : Int64)).toInt32)) (h.1 hc)
  · refine j_lv K [] (lv' := []) rfl ?_
    exact kX3_put_49 K hr  (mA st 6 (x5).toNatClampNeg ((x3 &&& (255 : Int64)).toInt32)) (h.2 hc)
theorem kX3_put_11 {p : Program} {l : Launch} {e : Env} {s : State} {m : MethodId} {args : Array Value} {below : List Frame} {meth : Method} {c : Code} {A : Nat → Prop} {D : va_G} {ct : Nat → ClassId} {ad : Nat → Nat} {post : Int32 → MS → Prop} (K : CX p s m args meth c cX3_put 7 RX3 A D ct gT) (hr : meth.sig.returnType = (some .int)) (L5 : Int64 → Int32 → MS → Prop) (hL5 : ∀ (x3 : Int64) (x5 : Int32) (st : MS), L5 x3 x5 st → jJ p l e { frames := 1, cells := 0, slots := 0, locals := 23 } s m args below meth c (MQ below (va_Qi post (fun u => cB D ct A (MW ct ad u)) A) args s 0 0 A) A D 7 (MW ct ad st) 0 0 5 [(0, .ref (ad 0)), (3, .long x3), (5, .int x5)] []) (x3 : Int64) (x5 : Int32) (st : MS) (h : wX3_put_11 post L5 x3 x5 st) : jJ p l e { frames := 1, cells := 0, slots := 0, locals := 23 } s m args below meth c (MQ below (va_Qi post (fun u => cB D ct A (MW ct ad u)) A) args s 0 0 A) A D 7 (MW ct ad st) 0 0 11 [(0, .ref (ad 0)), (3, .long x3), (5, .int x5)] [] := by
  unfold wX3_put_11 at h
  refine j_iload K 2 dX3_put_11 rfl ?_
  refine j_bipush K (8 : Int32) dX3_put_13 (by decide) ?_
  refine j_icmp_ge K 63 dX3_put_15 (by decide) (fun hc => ?_) (fun hc => ?_)
  · refine j_lv K [0, 2] (lv' := [(0, .ref (ad 0)), (5, .int x5)]) rfl ?_
    exact kX3_put_63 K hr  x5 st (h.1 hc)
  · exact kX3_put_18 K hr L5 hL5 x3 x5 st (h.2 hc)
theorem kX3_put_5_b {p : Program} {l : Launch} {e : Env} {s : State} {m : MethodId} {args : Array Value} {below : List Frame} {meth : Method} {c : Code} {A : Nat → Prop} {D : va_G} {ct : Nat → ClassId} {ad : Nat → Nat} {post : Int32 → MS → Prop} (K : CX p s m args meth c cX3_put 7 RX3 A D ct gT) (hr : meth.sig.returnType = (some .int)) (L5 : Int64 → Int32 → MS → Prop) (hL5 : ∀ (x3 : Int64) (x5 : Int32) (st : MS), L5 x3 x5 st → jJ p l e { frames := 1, cells := 0, slots := 0, locals := 23 } s m args below meth c (MQ below (va_Qi post (fun u => cB D ct A (MW ct ad u)) A) args s 0 0 A) A D 7 (MW ct ad st) 0 0 5 [(0, .ref (ad 0)), (3, .long x3), (5, .int x5)] []) (x3 : Int64) (x5 : Int32) (st : MS) (h : wX3_put_5_b post L5 x3 x5 st) : jJ p l e { frames := 1, cells := 0, slots := 0, locals := 23 } s m args below meth c (MQ below (va_Qi post (fun u => cB D ct A (MW ct ad u)) A) args s 0 0 A) A D 7 (MW ct ad st) 0 0 5 [(0, .ref (ad 0)), (3, .long x3), (5, .int x5)] [] := by
  unfold wX3_put_5_b at h
  refine j_lload_n K 1 dX3_put_5 rfl rfl ?_
  refine j_lconst K (0 : Int64) dX3_put_6 (by decide) ?_
  refine j_lcmp K dX3_put_7 ?_
  refine j_if_eq K 63 dX3_put_8 (by decide) (fun hc => ?_) (fun hc => ?_)
  · refine j_lv K [0, 2] (lv' := [(0, .ref (ad 0)), (5, .int x5)]) rfl ?_
    exact kX3_put_63 K hr  x5 st (h.1 hc)
  · exact kX3_put_11 K hr L5 hL5 x3 x5 st (h.2 hc)
theorem kX3_put_5 {p : Program} {l : Launch} {e : Env} {s : State} {m : MethodId} {args : Array Value} {below : List Frame} {meth : Method} {c : Code} {A : Nat → Prop} {D : va_G} {ct : Nat → ClassId} {ad : Nat → Nat} {post : Int32 → MS → Prop} (K : CX p s m args meth c cX3_put 7 RX3 A D ct gT) (hr : meth.sig.returnType = (some .int))   (x3 : Int64) (x5 : Int32) (st : MS) (h : wX3_put_5 post  x3 x5 st) : jJ p l e { frames := 1, cells := 0, slots := 0, locals := 23 } s m args below meth c (MQ below (va_Qi post (fun u => cB D ct A (MW ct ad u)) A) args s 0 0 A) A D 7 (MW ct ad st) 0 0 5 [(0, .ref (ad 0)), (3, .long x3), (5, .int x5)] [] :=
  wloop_sound (V := Int64 × Int32 × MS) (Wk := fun v => jJ p l e { frames := 1, cells := 0, slots := 0, locals := 23 } s m args below meth c (MQ below (va_Qi post (fun u => cB D ct A (MW ct ad u)) A) args s 0 0 A) A D 7 (MW ct ad v.2.2) 0 0 5 [(0, .ref (ad 0)), (3, .long v.1), (5, .int v.2.1)] []) (fun L hL v hb => kX3_put_5_b K hr (fun x3 x5 st => L (x3, x5, st)) (fun x3 x5 st hx => hL (x3, x5, st) hx) v.1 v.2.1 v.2.2 hb) h
theorem kX3_put_0 {p : Program} {l : Launch} {e : Env} {s : State} {m : MethodId} {args : Array Value} {below : List Frame} {meth : Method} {c : Code} {A : Nat → Prop} {D : va_G} {ct : Nat → ClassId} {ad : Nat → Nat} {post : Int32 → MS → Prop} (K : CX p s m args meth c cX3_put 7 RX3 A D ct gT) (hr : meth.sig.returnType = (some .int))   (x1 : Int64) (st : MS) (h : wX3_put_0 post  x1 st) : jJ p l e { frames := 1, cells := 0, slots := 0, locals := 23 } s m args below meth c (MQ below (va_Qi post (fun u => cB D ct A (MW ct ad u)) A) args s 0 0 A) A D 7 (MW ct ad st) 0 0 0 [(0, .ref (ad 0)), (1, .long x1)] [] := by
  unfold wX3_put_0 at h
  refine j_lload_n K 1 dX3_put_0 rfl rfl ?_
  refine j_lstore_n K [(3, .long x1), (0, .ref (ad 0)), (1, .long x1)] dX3_put_1 rfl (by decide) rfl ?_
  refine j_iconst K (0 : Int32) dX3_put_2 (by decide) ?_
  refine j_istore K [(5, .int (0 : Int32)), (3, .long x1), (0, .ref (ad 0)), (1, .long x1)] dX3_put_3 (by decide) rfl ?_
  refine j_lv K [2, 1, 0] (lv' := [(0, .ref (ad 0)), (3, .long x1), (5, .int (0 : Int32))]) rfl ?_
  exact kX3_put_5 K hr  x1 (0 : Int32) st h
theorem cgX3_put {l : Launch} {D : va_G} {ct : Nat → ClassId} {ad : Nat → Nat} {post : Int32 → MS → Prop} (x1 : Int64) (st : MS) (hw : wX3_put_0 post x1 st) : ∀ sz, Met l yX3_put (ws_ yX3_put cX3_put 7 (some .int)) { frames := 1, cells := 0, slots := 0, locals := 23 } (va_Pc [.ref (ad 0), .long x1] (cPre gT D ct (MW ct ad st) sz)) (va_Qi post (fun u => cB D ct (va_A (MW ct ad st) sz) (MW ct ad u)) (va_A (MW ct ad st) sz)) 0 0 (va_A (MW ct ad st) sz) := fun sz =>
  j_met (Qc := fun A => va_Qi post (fun u => cB D ct A (MW ct ad u)) A) (by decide) gT_ok (Nat.le_of_ble_eq_true rfl) (fun p e s m args below meth c A K hr _ _ => kX3_put_0 K hr x1 st hw)
-- X3_wipe
theorem kX3_wipe_0 {p : Program} {l : Launch} {e : Env} {s : State} {m : MethodId} {args : Array Value} {below : List Frame} {meth : Method} {c : Code} {A : Nat → Prop} {D : va_G} {ct : Nat → ClassId} {ad : Nat → Nat} {post : Int32 → MS → Prop} (K : CX p s m args meth c cX3_wipe 2 RX3 A D ct gT) (hr : meth.sig.returnType = (some .int))    (st : MS) (h : wX3_wipe_0 post  st) : jJ p l e { frames := 0, cells := 0, slots := 0, locals := 0 } s m args below meth c (MQ below (va_Qi post (fun u => cB D ct A (MW ct ad u)) A) args s 0 0 A) A D 2 (MW ct ad st) 0 0 0 [(0, .ref (ad 0))] [] := by
  unfold wX3_wipe_0 at h
  refine j_aload_n K 0 dX3_wipe_0 rfl rfl ?_
  refine mg_length K dX3_wipe_1 ?_
  refine j_istore_n K [(1, .int (st.2 1)), (0, .ref (ad 0))] dX3_wipe_4 rfl (by decide) rfl ?_
  refine j_aload_n K 1 dX3_wipe_5 rfl rfl ?_
  refine j_iconst K (0 : Int32) dX3_wipe_6 (by decide) ?_
  refine mp_length K dX3_wipe_7 ?_
  refine j_iload_n K 0 dX3_wipe_10 rfl rfl ?_
  exact j_iret (mF st 1 (0 : Int32)) K hr rfl h (Nat.le_of_ble_eq_true rfl) (Nat.le_of_ble_eq_true rfl) dX3_wipe_11
theorem cgX3_wipe {l : Launch} {D : va_G} {ct : Nat → ClassId} {ad : Nat → Nat} {post : Int32 → MS → Prop}  (st : MS) (hw : wX3_wipe_0 post  st) : ∀ sz, Met l yX3_wipe (ws_ yX3_wipe cX3_wipe 2 (some .int)) { frames := 0, cells := 0, slots := 0, locals := 0 } (va_Pc [.ref (ad 0)] (cPre gT D ct (MW ct ad st) sz)) (va_Qi post (fun u => cB D ct (va_A (MW ct ad st) sz) (MW ct ad u)) (va_A (MW ct ad st) sz)) 0 0 (va_A (MW ct ad st) sz) := fun sz =>
  j_met (Qc := fun A => va_Qi post (fun u => cB D ct A (MW ct ad u)) A) (by decide) gT_ok (Nat.le_of_ble_eq_true rfl) (fun p e s m args below meth c A K hr _ _ => kX3_wipe_0 K hr  st hw)
-- X3_sees
theorem gwX3_sees : GoodIn lw_all (wsV RX3 176 RX3 yX3_sees (ws_ yX3_sees cX3_sees 3 (some .boolean))) := lw_V q1262 q1264 qs68 q84 q1265
theorem gdX3_sees : yX3_sees.cls = RX3 ∧ yX3_sees.cls ≠ "java/lang/invoke/MethodHandle" ∧ yX3_sees.cls ≠ "java/lang/invoke/VarHandle" ∧ (parseMethodDescriptor yX3_sees.desc).map (fun d => d.parameters.length) = some 2 := by decide +kernel
theorem kX3_sees_34 {p : Program} {l : Launch} {e : Env} {s : State} {m : MethodId} {args : Array Value} {below : List Frame} {meth : Method} {c : Code} {A : Nat → Prop} {D : va_G} {ct : Nat → ClassId} {ad : Nat → Nat} {post : Int32 → MS → Prop} (K : CX p s m args meth c cX3_sees 3 RX3 A D ct gT) (hr : meth.sig.returnType = (some .boolean))   (s0 : Int32) (st : MS) (h : wX3_sees_34 post  s0 st) : jJ p l e { frames := 1, cells := 0, slots := 0, locals := 23 } s m args below meth c (MQ below (va_Qi post (fun u => cB D ct A (MW ct ad u)) A) args s 0 0 A) A D 3 (MW ct ad st) 0 0 34 [] [.int s0] := by
  unfold wX3_sees_34 at h
  exact j_zret st K hr rfl h.2 h.1 (Nat.le_of_ble_eq_true rfl) (Nat.le_of_ble_eq_true rfl) dX3_sees_34
theorem kX3_sees_33 {p : Program} {l : Launch} {e : Env} {s : State} {m : MethodId} {args : Array Value} {below : List Frame} {meth : Method} {c : Code} {A : Nat → Prop} {D : va_G} {ct : Nat → ClassId} {ad : Nat → Nat} {post : Int32 → MS → Prop} (K : CX p s m args meth c cX3_sees 3 RX3 A D ct gT) (hr : meth.sig.returnType = (some .boolean))    (st : MS) (h : wX3_sees_33 post  st) : jJ p l e { frames := 1, cells := 0, slots := 0, locals := 23 } s m args below meth c (MQ below (va_Qi post (fun u => cB D ct A (MW ct ad u)) A) args s 0 0 A) A D 3 (MW ct ad st) 0 0 33 [] [] := by
  unfold wX3_sees_33 at h
  refine j_iconst K (0 : Int32) dX3_sees_33 (by decide) ?_
  exact kX3_sees_34 K hr  (0 : Int32) st h
theorem kX3_sees_29 {p : Program} {l : Launch} {e : Env} {s : State} {m : MethodId} {args : Array Value} {below : List Frame} {meth : Method} {c : Code} {A : Nat → Prop} {D : va_G} {ct : Nat → ClassId} {ad : Nat → Nat} {post : Int32 → MS → Prop} (K : CX p s m args meth c cX3_sees 3 RX3 A D ct gT) (hr : meth.sig.returnType = (some .boolean))    (st : MS) (h : wX3_sees_29 post  st) : jJ p l e { frames := 1, cells := 0, slots := 0, locals := 23 } s m args below meth c (MQ below (va_Qi post (fun u => cB D ct A (MW ct ad u)) A) args s 0 0 A) A D 3 (MW ct ad st) 0 0 29 [] [] := by
  unfold wX3_sees_29 at h
  refine j_iconst K (1 : Int32) dX3_sees_29 (by decide) ?_
  refine j_goto K 34 dX3_sees_30 (by decide) ?_
  exact kX3_sees_34 K hr  (1 : Int32) st h
theorem kX3_sees_11 {p : Program} {l : Launch} {e : Env} {s : State} {m : MethodId} {args : Array Value} {below : List Frame} {meth : Method} {c : Code} {A : Nat → Prop} {D : va_G} {ct : Nat → ClassId} {ad : Nat → Nat} {post : Int32 → MS → Prop} (K : CX p s m args meth c cX3_sees 3 RX3 A D ct gT) (hr : meth.sig.returnType = (some .boolean))   (x1 : Int32) (x2 : Int32) (st : MS) (h : wX3_sees_11 post  x1 x2 st) : jJ p l e { frames := 1, cells := 0, slots := 0, locals := 23 } s m args below meth c (MQ below (va_Qi post (fun u => cB D ct A (MW ct ad u)) A) args s 0 0 A) A D 3 (MW ct ad st) 0 0 11 [(0, .ref (ad 0)), (1, .int x1), (2, .int x2)] [] := by
  unfold wX3_sees_11 at h
  refine j_aload_n K 0 dX3_sees_11 rfl rfl ?_
  refine mg_pad K dX3_sees_12 ?_
  refine j_aload_n K 0 dX3_sees_15 rfl rfl ?_
  refine mg_at K dX3_sees_16 ?_
  obtain ⟨hc, h⟩ := h
  refine ml_pad K hc dX3_sees_19 ?_
  refine j_i2l K dX3_sees_20 ?_
  refine j_iload_n K 1 dX3_sees_21 rfl rfl ?_
  refine j_iload_n K 2 dX3_sees_22 rfl rfl ?_
  refine j_callSi K (As := [.long ((st.1 5 ((st.2 2)).toNatClampNeg).toInt64), .int x1, .int x2]) (rest := []) (ctX3_in (l := l) (D := D) (ct := ct) (G := gT) (ws := MW ct ad st) gT_ok ((st.1 5 ((st.2 2)).toNatClampNeg).toInt64) x1 x2) gwX3_in gdX3_in ⟨Nat.le_of_ble_eq_true rfl, Nat.le_of_ble_eq_true rfl⟩ rfl rfl (Nat.le_of_ble_eq_true rfl) dX3_sees_23 ⟨Nat.le_of_ble_eq_true rfl, Nat.le_of_ble_eq_true rfl⟩ (fun r_1 _ hq => ?_)
  replace h := h r_1 hq
  refine j_if_eq K 33 dX3_sees_26 (by decide) (fun hc => ?_) (fun hc => ?_)
  · refine j_lv K [] (lv' := []) rfl ?_
    exact kX3_sees_33 K hr  st (h.1 hc)
  · refine j_lv K [] (lv' := []) rfl ?_
    exact kX3_sees_29 K hr  st (h.2 hc)
theorem kX3_sees_0 {p : Program} {l : Launch} {e : Env} {s : State} {m : MethodId} {args : Array Value} {below : List Frame} {meth : Method} {c : Code} {A : Nat → Prop} {D : va_G} {ct : Nat → ClassId} {ad : Nat → Nat} {post : Int32 → MS → Prop} (K : CX p s m args meth c cX3_sees 3 RX3 A D ct gT) (hr : meth.sig.returnType = (some .boolean))   (x1 : Int32) (x2 : Int32) (st : MS) (h : wX3_sees_0 post  x1 x2 st) : jJ p l e { frames := 1, cells := 0, slots := 0, locals := 23 } s m args below meth c (MQ below (va_Qi post (fun u => cB D ct A (MW ct ad u)) A) args s 0 0 A) A D 3 (MW ct ad st) 0 0 0 [(0, .ref (ad 0)), (1, .int x1), (2, .int x2)] [] := by
  unfold wX3_sees_0 at h
  refine j_aload_n K 0 dX3_sees_0 rfl rfl ?_
  refine mg_at K dX3_sees_1 ?_
  refine j_aload_n K 0 dX3_sees_4 rfl rfl ?_
  refine mg_length K dX3_sees_5 ?_
  refine j_icmp_ge K 33 dX3_sees_8 (by decide) (fun hc => ?_) (fun hc => ?_)
  · refine j_lv K [] (lv' := []) rfl ?_
    exact kX3_sees_33 K hr  st (h.1 hc)
  · exact kX3_sees_11 K hr  x1 x2 st (h.2 hc)
theorem ctX3_sees {l : Launch} {D : va_G} {ct : Nat → ClassId} {ad : Nat → Nat} (x1 : Int32) (x2 : Int32) (st : MS) (hp : pX3_sees x1 x2 st) : ∀ sz, Met l yX3_sees (ws_ yX3_sees cX3_sees 3 (some .boolean)) { frames := 1, cells := 0, slots := 0, locals := 23 } (va_Pc [.ref (ad 0), .int x1, .int x2] (cPre gT D ct (MW ct ad st) sz)) (va_Qi (fun (r : Int32) (u : MS) => qX3_sees x1 x2 st r ∧ st = u) (fun u => cB D ct (va_A (MW ct ad st) sz) (MW ct ad u)) (va_A (MW ct ad st) sz)) 0 0 (va_A (MW ct ad st) sz) := fun sz =>
  j_met (Qc := fun A => va_Qi (fun (r : Int32) (u : MS) => qX3_sees x1 x2 st r ∧ st = u) (fun u => cB D ct A (MW ct ad u)) A) (by decide) gT_ok (Nat.le_of_ble_eq_true rfl) (fun p e s m args below meth c A K hr _ _ => kX3_sees_0 K hr x1 x2 st (vcX3_sees x1 x2 st hp))
-- X3_sign
theorem gwX3_sign : GoodIn lw_all (wsV RX3 179 RX3 yX3_sign (ws_ yX3_sign cX3_sign 3 (some .int))) := lw_V q1258 q1260 qs67 q84 q1261
theorem gdX3_sign : yX3_sign.cls = RX3 ∧ yX3_sign.cls ≠ "java/lang/invoke/MethodHandle" ∧ yX3_sign.cls ≠ "java/lang/invoke/VarHandle" ∧ (parseMethodDescriptor yX3_sign.desc).map (fun d => d.parameters.length) = some 2 := by decide +kernel
theorem kX3_sign_12 {p : Program} {l : Launch} {e : Env} {s : State} {m : MethodId} {args : Array Value} {below : List Frame} {meth : Method} {c : Code} {A : Nat → Prop} {D : va_G} {ct : Nat → ClassId} {ad : Nat → Nat} {post : Int32 → MS → Prop} (K : CX p s m args meth c cX3_sign 3 RX3 A D ct gT) (hr : meth.sig.returnType = (some .int))   (x1 : Int32) (st : MS) (h : wX3_sign_12 post  x1 st) : jJ p l e { frames := 2, cells := 0, slots := 0, locals := 45 } s m args below meth c (MQ below (va_Qi post (fun u => cB D ct A (MW ct ad u)) A) args s 0 0 A) A D 3 (MW ct ad st) 0 0 12 [(0, .ref (ad 0)), (1, .int x1)] [] := by
  unfold wX3_sign_12 at h
  refine j_aload_n K 0 dX3_sign_12 rfl rfl ?_
  refine j_dup K dX3_sign_13 rfl ?_
  refine mg_at K dX3_sign_14 ?_
  refine j_iconst K (1 : Int32) dX3_sign_17 (by decide) ?_
  refine j_iadd K dX3_sign_18 ?_
  refine mp_at K dX3_sign_19 ?_
  refine j_aload_n K 0 dX3_sign_22 rfl rfl ?_
  refine mg_pad K dX3_sign_23 ?_
  refine j_aload_n K 0 dX3_sign_26 rfl rfl ?_
  refine mg_at K dX3_sign_27 ?_
  refine j_iconst K (1 : Int32) dX3_sign_30 (by decide) ?_
  refine j_isub K dX3_sign_31 ?_
  obtain ⟨hc, h⟩ := h
  refine ml_pad K hc dX3_sign_32 ?_
  refine j_iload_n K 1 dX3_sign_33 rfl rfl ?_
  refine j_isub K dX3_sign_34 ?_
  exact j_iret (mF st 2 ((st.2 2) + (1 : Int32))) K hr rfl h (Nat.le_of_ble_eq_true rfl) (Nat.le_of_ble_eq_true rfl) dX3_sign_35
theorem kX3_sign_9 {p : Program} {l : Launch} {e : Env} {s : State} {m : MethodId} {args : Array Value} {below : List Frame} {meth : Method} {c : Code} {A : Nat → Prop} {D : va_G} {ct : Nat → ClassId} {ad : Nat → Nat} {post : Int32 → MS → Prop} (K : CX p s m args meth c cX3_sign 3 RX3 A D ct gT) (hr : meth.sig.returnType = (some .int))    (st : MS) (h : wX3_sign_9 post  st) : jJ p l e { frames := 2, cells := 0, slots := 0, locals := 45 } s m args below meth c (MQ below (va_Qi post (fun u => cB D ct A (MW ct ad u)) A) args s 0 0 A) A D 3 (MW ct ad st) 0 0 9 [] [] := by
  unfold wX3_sign_9 at h
  refine j_bipush K (-3 : Int32) dX3_sign_9 (by decide) ?_
  exact j_iret st K hr rfl h (Nat.le_of_ble_eq_true rfl) (Nat.le_of_ble_eq_true rfl) dX3_sign_11
theorem kX3_sign_0 {p : Program} {l : Launch} {e : Env} {s : State} {m : MethodId} {args : Array Value} {below : List Frame} {meth : Method} {c : Code} {A : Nat → Prop} {D : va_G} {ct : Nat → ClassId} {ad : Nat → Nat} {post : Int32 → MS → Prop} (K : CX p s m args meth c cX3_sign 3 RX3 A D ct gT) (hr : meth.sig.returnType = (some .int))   (x1 : Int32) (x2 : Int32) (st : MS) (h : wX3_sign_0 post  x1 x2 st) : jJ p l e { frames := 2, cells := 0, slots := 0, locals := 45 } s m args below meth c (MQ below (va_Qi post (fun u => cB D ct A (MW ct ad u)) A) args s 0 0 A) A D 3 (MW ct ad st) 0 0 0 [(0, .ref (ad 0)), (1, .int x1), (2, .int x2)] [] := by
  unfold wX3_sign_0 at h
  refine j_aload_n K 0 dX3_sign_0 rfl rfl ?_
  refine j_iload_n K 1 dX3_sign_1 rfl rfl ?_
  refine j_iload_n K 2 dX3_sign_2 rfl rfl ?_
  obtain ⟨hp, h⟩ := h
  refine j_callVi K (As := [.int x1, .int x2]) (rest := []) (ctX3_sees (l := l) (D := D) (ct := ct) (ad := ad) x1 x2 st hp) gwX3_sees gdX3_sees ⟨Nat.le_of_ble_eq_true rfl, Nat.le_of_ble_eq_true rfl⟩ 0 rfl rfl rfl rfl rfl (Nat.le_of_ble_eq_true rfl) dX3_sign_3 ⟨Nat.le_of_ble_eq_true rfl, Nat.le_of_ble_eq_true rfl⟩ (fun r_1 st_2 hq => ?_)
  obtain ⟨hq, rfl⟩ := hq
  replace h := h r_1 hq
  refine j_if_ne K 12 dX3_sign_6 (by decide) (fun hc => ?_) (fun hc => ?_)
  · refine j_lv K [0, 1] (lv' := [(0, .ref (ad 0)), (1, .int x1)]) rfl ?_
    exact kX3_sign_12 K hr  x1 st (h.1 hc)
  · refine j_lv K [] (lv' := []) rfl ?_
    exact kX3_sign_9 K hr  st (h.2 hc)
theorem ctX3_sign {l : Launch} {D : va_G} {ct : Nat → ClassId} {ad : Nat → Nat} (x1 : Int32) (x2 : Int32) (st : MS) (hp : pX3_sign x1 x2 st) : ∀ sz, Met l yX3_sign (ws_ yX3_sign cX3_sign 3 (some .int)) { frames := 2, cells := 0, slots := 0, locals := 45 } (va_Pc [.ref (ad 0), .int x1, .int x2] (cPre gT D ct (MW ct ad st) sz)) (va_Qi (qX3_sign x1 x2 st) (fun u => cB D ct (va_A (MW ct ad st) sz) (MW ct ad u)) (va_A (MW ct ad st) sz)) 0 0 (va_A (MW ct ad st) sz) := fun sz =>
  j_met (Qc := fun A => va_Qi (qX3_sign x1 x2 st) (fun u => cB D ct A (MW ct ad u)) A) (by decide) gT_ok (Nat.le_of_ble_eq_true rfl) (fun p e s m args below meth c A K hr _ _ => kX3_sign_0 K hr x1 x2 st (vcX3_sign x1 x2 st hp))
-- X3_order
theorem gwX3_order : GoodIn lw_all (wsV RX3 182 RX3 yX3_order (ws_ yX3_order cX3_order 6 (some .int))) := lw_V q1254 q1256 qs66 q84 q1257
theorem gdX3_order : yX3_order.cls = RX3 ∧ yX3_order.cls ≠ "java/lang/invoke/MethodHandle" ∧ yX3_order.cls ≠ "java/lang/invoke/VarHandle" ∧ (parseMethodDescriptor yX3_order.desc).map (fun d => d.parameters.length) = some 1 := by decide +kernel
theorem kX3_order_120 {p : Program} {l : Launch} {e : Env} {s : State} {m : MethodId} {args : Array Value} {below : List Frame} {meth : Method} {c : Code} {A : Nat → Prop} {D : va_G} {ct : Nat → ClassId} {ad : Nat → Nat} {post : Int32 → MS → Prop} (K : CX p s m args meth c cX3_order 6 RX3 A D ct gT) (hr : meth.sig.returnType = (some .int))    (st : MS) (h : wX3_order_120 post  st) : jJ p l e { frames := 9, cells := 0, slots := 0, locals := 208 } s m args below meth c (MQ below (va_Qi post (fun u => cB D ct A (MW ct ad u)) A) args s 0 0 A) A D 6 (MW ct ad st) 0 0 120 [] [] := by
  unfold wX3_order_120 at h
  refine j_bipush K (-3 : Int32) dX3_order_120 (by decide) ?_
  exact j_iret st K hr rfl h (Nat.le_of_ble_eq_true rfl) (Nat.le_of_ble_eq_true rfl) dX3_order_122
theorem kX3_order_213 {p : Program} {l : Launch} {e : Env} {s : State} {m : MethodId} {args : Array Value} {below : List Frame} {meth : Method} {c : Code} {A : Nat → Prop} {D : va_G} {ct : Nat → ClassId} {ad : Nat → Nat} {post : Int32 → MS → Prop} (K : CX p s m args meth c cX3_order 6 RX3 A D ct gT) (hr : meth.sig.returnType = (some .int))   (s0 : Int32) (st : MS) (h : wX3_order_213 post  s0 st) : jJ p l e { frames := 9, cells := 0, slots := 0, locals := 208 } s m args below meth c (MQ below (va_Qi post (fun u => cB D ct A (MW ct ad u)) A) args s 0 0 A) A D 6 (MW ct ad st) 0 0 213 [] [.int s0] := by
  unfold wX3_order_213 at h
  exact j_iret st K hr rfl h (Nat.le_of_ble_eq_true rfl) (Nat.le_of_ble_eq_true rfl) dX3_order_213
theorem kX3_order_207 {p : Program} {l : Launch} {e : Env} {s : State} {m : MethodId} {args : Array Value} {below : List Frame} {meth : Method} {c : Code} {A : Nat → Prop} {D : va_G} {ct : Nat → ClassId} {ad : Nat → Nat} {post : Int32 → MS → Prop} (K : CX p s m args meth c cX3_order 6 RX3 A D ct gT) (hr : meth.sig.returnType = (some .int))   (x5 : Int32) (st : MS) (h : wX3_order_207 post  x5 st) : jJ p l e { frames := 9, cells := 0, slots := 0, locals := 208 } s m args below meth c (MQ below (va_Qi post (fun u => cB D ct A (MW ct ad u)) A) args s 0 0 A) A D 6 (MW ct ad st) 0 0 207 [(0, .ref (ad 0)), (5, .int x5)] [] := by
  unfold wX3_order_207 at h
  refine j_aload_n K 0 dX3_order_207 rfl rfl ?_
  refine j_iload K 1 dX3_order_208 rfl ?_
  obtain ⟨hp, h⟩ := h
  refine j_callVi K (As := [.int x5]) (rest := []) (ctX3_plays (l := l) (D := D) (ct := ct) (ad := ad) x5 st hp) gwX3_plays gdX3_plays ⟨Nat.le_of_ble_eq_true rfl, Nat.le_of_ble_eq_true rfl⟩ 0 rfl rfl rfl rfl rfl (Nat.le_of_ble_eq_true rfl) dX3_order_210 ⟨Nat.le_of_ble_eq_true rfl, Nat.le_of_ble_eq_true rfl⟩ (fun r_1 st_2 hq => ?_)
  replace h := h r_1 st_2 hq
  refine j_lv K [] (lv' := []) rfl ?_
  exact kX3_order_213 K hr  r_1 st_2 h
theorem kX3_order_197 {p : Program} {l : Launch} {e : Env} {s : State} {m : MethodId} {args : Array Value} {below : List Frame} {meth : Method} {c : Code} {A : Nat → Prop} {D : va_G} {ct : Nat → ClassId} {ad : Nat → Nat} {post : Int32 → MS → Prop} (K : CX p s m args meth c cX3_order 6 RX3 A D ct gT) (hr : meth.sig.returnType = (some .int))    (st : MS) (h : wX3_order_197 post  st) : jJ p l e { frames := 9, cells := 0, slots := 0, locals := 208 } s m args below meth c (MQ below (va_Qi post (fun u => cB D ct A (MW ct ad u)) A) args s 0 0 A) A D 6 (MW ct ad st) 0 0 197 [(0, .ref (ad 0))] [] := by
  unfold wX3_order_197 at h
  refine j_aload_n K 0 dX3_order_197 rfl rfl ?_
  refine j_bipush K (90 : Int32) dX3_order_198 (by decide) ?_
  refine j_iconst K (0 : Int32) dX3_order_200 (by decide) ?_
  obtain ⟨hp, h⟩ := h
  refine j_callVi K (As := [.int (90 : Int32), .int (0 : Int32)]) (rest := []) (ctX3_moves (l := l) (D := D) (ct := ct) (ad := ad) (90 : Int32) (0 : Int32) st hp) gwX3_moves gdX3_moves ⟨Nat.le_of_ble_eq_true rfl, Nat.le_of_ble_eq_true rfl⟩ 0 rfl rfl rfl rfl rfl (Nat.le_of_ble_eq_true rfl) dX3_order_201 ⟨Nat.le_of_ble_eq_true rfl, Nat.le_of_ble_eq_true rfl⟩ (fun r_1 st_2 hq => ?_)
  replace h := h r_1 st_2 hq
  refine j_goto K 213 dX3_order_204 (by decide) ?_
  refine j_lv K [] (lv' := []) rfl ?_
  exact kX3_order_213 K hr  r_1 st_2 h
theorem kX3_order_191 {p : Program} {l : Launch} {e : Env} {s : State} {m : MethodId} {args : Array Value} {below : List Frame} {meth : Method} {c : Code} {A : Nat → Prop} {D : va_G} {ct : Nat → ClassId} {ad : Nat → Nat} {post : Int32 → MS → Prop} (K : CX p s m args meth c cX3_order 6 RX3 A D ct gT) (hr : meth.sig.returnType = (some .int))   (x2 : Int32) (x5 : Int32) (st : MS) (h : wX3_order_191 post  x2 x5 st) : jJ p l e { frames := 9, cells := 0, slots := 0, locals := 208 } s m args below meth c (MQ below (va_Qi post (fun u => cB D ct A (MW ct ad u)) A) args s 0 0 A) A D 6 (MW ct ad st) 0 0 191 [(0, .ref (ad 0)), (2, .int x2), (5, .int x5)] [] := by
  unfold wX3_order_191 at h
  refine j_iload_n K 1 dX3_order_191 rfl rfl ?_
  refine j_bipush K (45 : Int32) dX3_order_192 (by decide) ?_
  refine j_icmp_ne K 207 dX3_order_194 (by decide) (fun hc => ?_) (fun hc => ?_)
  · refine j_lv K [0, 2] (lv' := [(0, .ref (ad 0)), (5, .int x5)]) rfl ?_
    exact kX3_order_207 K hr  x5 st (h.1 hc)
  · refine j_lv K [0] (lv' := [(0, .ref (ad 0))]) rfl ?_
    exact kX3_order_197 K hr  st (h.2 hc)
theorem kX3_order_181 {p : Program} {l : Launch} {e : Env} {s : State} {m : MethodId} {args : Array Value} {below : List Frame} {meth : Method} {c : Code} {A : Nat → Prop} {D : va_G} {ct : Nat → ClassId} {ad : Nat → Nat} {post : Int32 → MS → Prop} (K : CX p s m args meth c cX3_order 6 RX3 A D ct gT) (hr : meth.sig.returnType = (some .int))   (x3 : Int32) (x4 : Int32) (st : MS) (h : wX3_order_181 post  x3 x4 st) : jJ p l e { frames := 9, cells := 0, slots := 0, locals := 208 } s m args below meth c (MQ below (va_Qi post (fun u => cB D ct A (MW ct ad u)) A) args s 0 0 A) A D 6 (MW ct ad st) 0 0 181 [(0, .ref (ad 0)), (3, .int x3), (4, .int x4)] [] := by
  unfold wX3_order_181 at h
  refine j_aload_n K 0 dX3_order_181 rfl rfl ?_
  refine j_iload_n K 1 dX3_order_182 rfl rfl ?_
  refine j_iload K 2 dX3_order_183 rfl ?_
  obtain ⟨hp, h⟩ := h
  refine j_callVi K (As := [.int x3, .int x4]) (rest := []) (ctX3_slides (l := l) (D := D) (ct := ct) (ad := ad) x3 x4 st hp) gwX3_slides gdX3_slides ⟨Nat.le_of_ble_eq_true rfl, Nat.le_of_ble_eq_true rfl⟩ 0 rfl rfl rfl rfl rfl (Nat.le_of_ble_eq_true rfl) dX3_order_185 ⟨Nat.le_of_ble_eq_true rfl, Nat.le_of_ble_eq_true rfl⟩ (fun r_1 st_2 hq => ?_)
  replace h := h r_1 st_2 hq
  refine j_goto K 213 dX3_order_188 (by decide) ?_
  refine j_lv K [] (lv' := []) rfl ?_
  exact kX3_order_213 K hr  r_1 st_2 h
theorem kX3_order_175 {p : Program} {l : Launch} {e : Env} {s : State} {m : MethodId} {args : Array Value} {below : List Frame} {meth : Method} {c : Code} {A : Nat → Prop} {D : va_G} {ct : Nat → ClassId} {ad : Nat → Nat} {post : Int32 → MS → Prop} (K : CX p s m args meth c cX3_order 6 RX3 A D ct gT) (hr : meth.sig.returnType = (some .int))   (x2 : Int32) (x3 : Int32) (x4 : Int32) (x5 : Int32) (st : MS) (h : wX3_order_175 post  x2 x3 x4 x5 st) : jJ p l e { frames := 9, cells := 0, slots := 0, locals := 208 } s m args below meth c (MQ below (va_Qi post (fun u => cB D ct A (MW ct ad u)) A) args s 0 0 A) A D 6 (MW ct ad st) 0 0 175 [(0, .ref (ad 0)), (2, .int x2), (3, .int x3), (4, .int x4), (5, .int x5)] [] := by
  unfold wX3_order_175 at h
  refine j_iload_n K 1 dX3_order_175 rfl rfl ?_
  refine j_bipush K (115 : Int32) dX3_order_176 (by decide) ?_
  refine j_icmp_ne K 191 dX3_order_178 (by decide) (fun hc => ?_) (fun hc => ?_)
  · refine j_lv K [0, 1, 4] (lv' := [(0, .ref (ad 0)), (2, .int x2), (5, .int x5)]) rfl ?_
    exact kX3_order_191 K hr  x2 x5 st (h.1 hc)
  · refine j_lv K [0, 2, 3] (lv' := [(0, .ref (ad 0)), (3, .int x3), (4, .int x4)]) rfl ?_
    exact kX3_order_181 K hr  x3 x4 st (h.2 hc)
theorem kX3_order_167 {p : Program} {l : Launch} {e : Env} {s : State} {m : MethodId} {args : Array Value} {below : List Frame} {meth : Method} {c : Code} {A : Nat → Prop} {D : va_G} {ct : Nat → ClassId} {ad : Nat → Nat} {post : Int32 → MS → Prop} (K : CX p s m args meth c cX3_order 6 RX3 A D ct gT) (hr : meth.sig.returnType = (some .int))   (x3 : Int32) (st : MS) (h : wX3_order_167 post  x3 st) : jJ p l e { frames := 9, cells := 0, slots := 0, locals := 208 } s m args below meth c (MQ below (va_Qi post (fun u => cB D ct A (MW ct ad u)) A) args s 0 0 A) A D 6 (MW ct ad st) 0 0 167 [(0, .ref (ad 0)), (3, .int x3)] [] := by
  unfold wX3_order_167 at h
  refine j_aload_n K 0 dX3_order_167 rfl rfl ?_
  refine j_iload_n K 1 dX3_order_168 rfl rfl ?_
  obtain ⟨hp, h⟩ := h
  refine j_callVi K (As := [.int x3]) (rest := []) (ctX3_places (l := l) (D := D) (ct := ct) (ad := ad) x3 st hp) gwX3_places gdX3_places ⟨Nat.le_of_ble_eq_true rfl, Nat.le_of_ble_eq_true rfl⟩ 0 rfl rfl rfl rfl rfl (Nat.le_of_ble_eq_true rfl) dX3_order_169 ⟨Nat.le_of_ble_eq_true rfl, Nat.le_of_ble_eq_true rfl⟩ (fun r_1 st_2 hq => ?_)
  replace h := h r_1 st_2 hq
  refine j_goto K 213 dX3_order_172 (by decide) ?_
  refine j_lv K [] (lv' := []) rfl ?_
  exact kX3_order_213 K hr  r_1 st_2 h
theorem kX3_order_161 {p : Program} {l : Launch} {e : Env} {s : State} {m : MethodId} {args : Array Value} {below : List Frame} {meth : Method} {c : Code} {A : Nat → Prop} {D : va_G} {ct : Nat → ClassId} {ad : Nat → Nat} {post : Int32 → MS → Prop} (K : CX p s m args meth c cX3_order 6 RX3 A D ct gT) (hr : meth.sig.returnType = (some .int))   (x2 : Int32) (x3 : Int32) (x4 : Int32) (x5 : Int32) (st : MS) (h : wX3_order_161 post  x2 x3 x4 x5 st) : jJ p l e { frames := 9, cells := 0, slots := 0, locals := 208 } s m args below meth c (MQ below (va_Qi post (fun u => cB D ct A (MW ct ad u)) A) args s 0 0 A) A D 6 (MW ct ad st) 0 0 161 [(0, .ref (ad 0)), (2, .int x2), (3, .int x3), (4, .int x4), (5, .int x5)] [] := by
  unfold wX3_order_161 at h
  refine j_iload_n K 1 dX3_order_161 rfl rfl ?_
  refine j_bipush K (112 : Int32) dX3_order_162 (by decide) ?_
  refine j_icmp_ne K 175 dX3_order_164 (by decide) (fun hc => ?_) (fun hc => ?_)
  · exact kX3_order_175 K hr  x2 x3 x4 x5 st (h.1 hc)
  · refine j_lv K [0, 2] (lv' := [(0, .ref (ad 0)), (3, .int x3)]) rfl ?_
    exact kX3_order_167 K hr  x3 st (h.2 hc)
theorem kX3_order_157 {p : Program} {l : Launch} {e : Env} {s : State} {m : MethodId} {args : Array Value} {below : List Frame} {meth : Method} {c : Code} {A : Nat → Prop} {D : va_G} {ct : Nat → ClassId} {ad : Nat → Nat} {post : Int32 → MS → Prop} (K : CX p s m args meth c cX3_order 6 RX3 A D ct gT) (hr : meth.sig.returnType = (some .int))    (st : MS) (h : wX3_order_157 post  st) : jJ p l e { frames := 9, cells := 0, slots := 0, locals := 208 } s m args below meth c (MQ below (va_Qi post (fun u => cB D ct A (MW ct ad u)) A) args s 0 0 A) A D 6 (MW ct ad st) 0 0 157 [] [] := by
  unfold wX3_order_157 at h
  refine j_iconst K (0 : Int32) dX3_order_157 (by decide) ?_
  refine j_goto K 213 dX3_order_158 (by decide) ?_
  exact kX3_order_213 K hr  (0 : Int32) st h
theorem kX3_order_153 {p : Program} {l : Launch} {e : Env} {s : State} {m : MethodId} {args : Array Value} {below : List Frame} {meth : Method} {c : Code} {A : Nat → Prop} {D : va_G} {ct : Nat → ClassId} {ad : Nat → Nat} {post : Int32 → MS → Prop} (K : CX p s m args meth c cX3_order 6 RX3 A D ct gT) (hr : meth.sig.returnType = (some .int))   (x1 : Int32) (x2 : Int32) (x3 : Int32) (x4 : Int32) (x5 : Int32) (st : MS) (h : wX3_order_153 post  x1 x2 x3 x4 x5 st) : jJ p l e { frames := 9, cells := 0, slots := 0, locals := 208 } s m args below meth c (MQ below (va_Qi post (fun u => cB D ct A (MW ct ad u)) A) args s 0 0 A) A D 6 (MW ct ad st) 0 0 153 [(0, .ref (ad 0)), (1, .int x1), (2, .int x2), (3, .int x3), (4, .int x4), (5, .int x5)] [] := by
  unfold wX3_order_153 at h
  refine j_iload_n K 1 dX3_order_153 rfl rfl ?_
  refine j_if_ne K 161 dX3_order_154 (by decide) (fun hc => ?_) (fun hc => ?_)
  · refine j_lv K [0, 2, 3, 4, 5] (lv' := [(0, .ref (ad 0)), (2, .int x2), (3, .int x3), (4, .int x4), (5, .int x5)]) rfl ?_
    exact kX3_order_161 K hr  x2 x3 x4 x5 st (h.1 hc)
  · refine j_lv K [] (lv' := []) rfl ?_
    exact kX3_order_157 K hr  st (h.2 hc)
theorem kX3_order_143 {p : Program} {l : Launch} {e : Env} {s : State} {m : MethodId} {args : Array Value} {below : List Frame} {meth : Method} {c : Code} {A : Nat → Prop} {D : va_G} {ct : Nat → ClassId} {ad : Nat → Nat} {post : Int32 → MS → Prop} (K : CX p s m args meth c cX3_order 6 RX3 A D ct gT) (hr : meth.sig.returnType = (some .int))   (x1 : Int32) (x2 : Int32) (x3 : Int32) (x4 : Int32) (st : MS) (h : wX3_order_143 post  x1 x2 x3 x4 st) : jJ p l e { frames := 9, cells := 0, slots := 0, locals := 208 } s m args below meth c (MQ below (va_Qi post (fun u => cB D ct A (MW ct ad u)) A) args s 0 0 A) A D 6 (MW ct ad st) 0 0 143 [(0, .ref (ad 0)), (1, .int x1), (2, .int x2), (3, .int x3), (4, .int x4)] [] := by
  unfold wX3_order_143 at h
  refine j_aload_n K 0 dX3_order_143 rfl rfl ?_
  refine j_bipush K (48 : Int32) dX3_order_144 (by decide) ?_
  refine j_bipush K (57 : Int32) dX3_order_146 (by decide) ?_
  obtain ⟨hp, h⟩ := h
  refine j_callVi K (As := [.int (48 : Int32), .int (57 : Int32)]) (rest := []) (ctX3_sign (l := l) (D := D) (ct := ct) (ad := ad) (48 : Int32) (57 : Int32) st hp) gwX3_sign gdX3_sign ⟨Nat.le_of_ble_eq_true rfl, Nat.le_of_ble_eq_true rfl⟩ 0 rfl rfl rfl rfl rfl (Nat.le_of_ble_eq_true rfl) dX3_order_148 ⟨Nat.le_of_ble_eq_true rfl, Nat.le_of_ble_eq_true rfl⟩ (fun r_1 st_2 hq => ?_)
  replace h := h r_1 st_2 hq
  refine j_istore K [(5, .int r_1), (0, .ref (ad 0)), (1, .int x1), (2, .int x2), (3, .int x3), (4, .int x4)] dX3_order_151 (by decide) rfl ?_
  refine j_lv K [1, 2, 3, 4, 5, 0] (lv' := [(0, .ref (ad 0)), (1, .int x1), (2, .int x2), (3, .int x3), (4, .int x4), (5, .int r_1)]) rfl ?_
  exact kX3_order_153 K hr  x1 x2 x3 x4 r_1 st_2 h
theorem kX3_order_132 {p : Program} {l : Launch} {e : Env} {s : State} {m : MethodId} {args : Array Value} {below : List Frame} {meth : Method} {c : Code} {A : Nat → Prop} {D : va_G} {ct : Nat → ClassId} {ad : Nat → Nat} {post : Int32 → MS → Prop} (K : CX p s m args meth c cX3_order 6 RX3 A D ct gT) (hr : meth.sig.returnType = (some .int))   (x1 : Int32) (x2 : Int32) (x3 : Int32) (x4 : Int32) (x5 : Int32) (st : MS) (h : wX3_order_132 post  x1 x2 x3 x4 x5 st) : jJ p l e { frames := 9, cells := 0, slots := 0, locals := 208 } s m args below meth c (MQ below (va_Qi post (fun u => cB D ct A (MW ct ad u)) A) args s 0 0 A) A D 6 (MW ct ad st) 0 0 132 [(0, .ref (ad 0)), (1, .int x1), (2, .int x2), (3, .int x3), (4, .int x4), (5, .int x5)] [] := by
  unfold wX3_order_132 at h
  refine j_aload_n K 0 dX3_order_132 rfl rfl ?_
  refine j_bipush K (48 : Int32) dX3_order_133 (by decide) ?_
  refine j_bipush K (57 : Int32) dX3_order_135 (by decide) ?_
  obtain ⟨hp, h⟩ := h
  refine j_callVi K (As := [.int (48 : Int32), .int (57 : Int32)]) (rest := []) (ctX3_sees (l := l) (D := D) (ct := ct) (ad := ad) (48 : Int32) (57 : Int32) st hp) gwX3_sees gdX3_sees ⟨Nat.le_of_ble_eq_true rfl, Nat.le_of_ble_eq_true rfl⟩ 0 rfl rfl rfl rfl rfl (Nat.le_of_ble_eq_true rfl) dX3_order_137 ⟨Nat.le_of_ble_eq_true rfl, Nat.le_of_ble_eq_true rfl⟩ (fun r_1 st_2 hq => ?_)
  obtain ⟨hq, rfl⟩ := hq
  replace h := h r_1 hq
  refine j_if_eq K 153 dX3_order_140 (by decide) (fun hc => ?_) (fun hc => ?_)
  · exact kX3_order_153 K hr  x1 x2 x3 x4 x5 st (h.1 hc)
  · refine j_lv K [0, 1, 2, 3, 4] (lv' := [(0, .ref (ad 0)), (1, .int x1), (2, .int x2), (3, .int x3), (4, .int x4)]) rfl ?_
    exact kX3_order_143 K hr  x1 x2 x3 x4 st (h.2 hc)
theorem kX3_order_123 {p : Program} {l : Launch} {e : Env} {s : State} {m : MethodId} {args : Array Value} {below : List Frame} {meth : Method} {c : Code} {A : Nat → Prop} {D : va_G} {ct : Nat → ClassId} {ad : Nat → Nat} {post : Int32 → MS → Prop} (K : CX p s m args meth c cX3_order 6 RX3 A D ct gT) (hr : meth.sig.returnType = (some .int))   (x1 : Int32) (x2 : Int32) (x3 : Int32) (x4 : Int32) (st : MS) (h : wX3_order_123 post  x1 x2 x3 x4 st) : jJ p l e { frames := 9, cells := 0, slots := 0, locals := 208 } s m args below meth c (MQ below (va_Qi post (fun u => cB D ct A (MW ct ad u)) A) args s 0 0 A) A D 6 (MW ct ad st) 0 0 123 [(0, .ref (ad 0)), (1, .int x1), (2, .int x2), (3, .int x3), (4, .int x4)] [] := by
  unfold wX3_order_123 at h
  refine j_iconst K (1 : Int32) dX3_order_123 (by decide) ?_
  refine j_istore K [(5, .int (1 : Int32)), (0, .ref (ad 0)), (1, .int x1), (2, .int x2), (3, .int x3), (4, .int x4)] dX3_order_124 (by decide) rfl ?_
  refine j_iload_n K 3 dX3_order_126 rfl rfl ?_
  refine j_bipush K (109 : Int32) dX3_order_127 (by decide) ?_
  refine j_icmp_ne K 153 dX3_order_129 (by decide) (fun hc => ?_) (fun hc => ?_)
  · refine j_lv K [1, 2, 3, 4, 5, 0] (lv' := [(0, .ref (ad 0)), (1, .int x1), (2, .int x2), (3, .int x3), (4, .int x4), (5, .int (1 : Int32))]) rfl ?_
    exact kX3_order_153 K hr  x1 x2 x3 x4 (1 : Int32) st (h.1 hc)
  · refine j_lv K [1, 2, 3, 4, 5, 0] (lv' := [(0, .ref (ad 0)), (1, .int x1), (2, .int x2), (3, .int x3), (4, .int x4), (5, .int (1 : Int32))]) rfl ?_
    exact kX3_order_132 K hr  x1 x2 x3 x4 (1 : Int32) st (h.2 hc)
theorem kX3_order_115 {p : Program} {l : Launch} {e : Env} {s : State} {m : MethodId} {args : Array Value} {below : List Frame} {meth : Method} {c : Code} {A : Nat → Prop} {D : va_G} {ct : Nat → ClassId} {ad : Nat → Nat} {post : Int32 → MS → Prop} (K : CX p s m args meth c cX3_order 6 RX3 A D ct gT) (hr : meth.sig.returnType = (some .int))   (x1 : Int32) (x2 : Int32) (x3 : Int32) (x4 : Int32) (st : MS) (h : wX3_order_115 post  x1 x2 x3 x4 st) : jJ p l e { frames := 9, cells := 0, slots := 0, locals := 208 } s m args below meth c (MQ below (va_Qi post (fun u => cB D ct A (MW ct ad u)) A) args s 0 0 A) A D 6 (MW ct ad st) 0 0 115 [(0, .ref (ad 0)), (1, .int x1), (2, .int x2), (3, .int x3), (4, .int x4)] [] := by
  unfold wX3_order_115 at h
  refine j_iload K 4 dX3_order_115 rfl ?_
  refine j_if_ge K 123 dX3_order_117 (by decide) (fun hc => ?_) (fun hc => ?_)
  · exact kX3_order_123 K hr  x1 x2 x3 x4 st (h.1 hc)
  · refine j_lv K [] (lv' := []) rfl ?_
    exact kX3_order_120 K hr  st (h.2 hc)
theorem kX3_order_109 {p : Program} {l : Launch} {e : Env} {s : State} {m : MethodId} {args : Array Value} {below : List Frame} {meth : Method} {c : Code} {A : Nat → Prop} {D : va_G} {ct : Nat → ClassId} {ad : Nat → Nat} {post : Int32 → MS → Prop} (K : CX p s m args meth c cX3_order 6 RX3 A D ct gT) (hr : meth.sig.returnType = (some .int))   (x1 : Int32) (x2 : Int32) (x3 : Int32) (s0 : Int32) (st : MS) (h : wX3_order_109 post  x1 x2 x3 s0 st) : jJ p l e { frames := 9, cells := 0, slots := 0, locals := 208 } s m args below meth c (MQ below (va_Qi post (fun u => cB D ct A (MW ct ad u)) A) args s 0 0 A) A D 6 (MW ct ad st) 0 0 109 [(0, .ref (ad 0)), (1, .int x1), (2, .int x2), (3, .int x3)] [.int s0] := by
  unfold wX3_order_109 at h
  refine j_istore K [(4, .int s0), (0, .ref (ad 0)), (1, .int x1), (2, .int x2), (3, .int x3)] dX3_order_109 (by decide) rfl ?_
  refine j_iload_n K 4 dX3_order_111 rfl rfl ?_
  refine j_if_lt K 120 dX3_order_112 (by decide) (fun hc => ?_) (fun hc => ?_)
  · refine j_lv K [] (lv' := []) rfl ?_
    exact kX3_order_120 K hr  st (h.1 hc)
  · refine j_lv K [1, 2, 3, 4, 0] (lv' := [(0, .ref (ad 0)), (1, .int x1), (2, .int x2), (3, .int x3), (4, .int s0)]) rfl ?_
    exact kX3_order_115 K hr  x1 x2 x3 s0 st (h.2 hc)
theorem kX3_order_108 {p : Program} {l : Launch} {e : Env} {s : State} {m : MethodId} {args : Array Value} {below : List Frame} {meth : Method} {c : Code} {A : Nat → Prop} {D : va_G} {ct : Nat → ClassId} {ad : Nat → Nat} {post : Int32 → MS → Prop} (K : CX p s m args meth c cX3_order 6 RX3 A D ct gT) (hr : meth.sig.returnType = (some .int))   (x1 : Int32) (x2 : Int32) (x3 : Int32) (st : MS) (h : wX3_order_108 post  x1 x2 x3 st) : jJ p l e { frames := 9, cells := 0, slots := 0, locals := 208 } s m args below meth c (MQ below (va_Qi post (fun u => cB D ct A (MW ct ad u)) A) args s 0 0 A) A D 6 (MW ct ad st) 0 0 108 [(0, .ref (ad 0)), (1, .int x1), (2, .int x2), (3, .int x3)] [] := by
  unfold wX3_order_108 at h
  refine j_iconst K (0 : Int32) dX3_order_108 (by decide) ?_
  exact kX3_order_109 K hr  x1 x2 x3 (0 : Int32) st h
theorem kX3_order_97 {p : Program} {l : Launch} {e : Env} {s : State} {m : MethodId} {args : Array Value} {below : List Frame} {meth : Method} {c : Code} {A : Nat → Prop} {D : va_G} {ct : Nat → ClassId} {ad : Nat → Nat} {post : Int32 → MS → Prop} (K : CX p s m args meth c cX3_order 6 RX3 A D ct gT) (hr : meth.sig.returnType = (some .int))   (x1 : Int32) (x2 : Int32) (x3 : Int32) (st : MS) (h : wX3_order_97 post  x1 x2 x3 st) : jJ p l e { frames := 9, cells := 0, slots := 0, locals := 208 } s m args below meth c (MQ below (va_Qi post (fun u => cB D ct A (MW ct ad u)) A) args s 0 0 A) A D 6 (MW ct ad st) 0 0 97 [(0, .ref (ad 0)), (1, .int x1), (2, .int x2), (3, .int x3)] [] := by
  unfold wX3_order_97 at h
  refine j_aload_n K 0 dX3_order_97 rfl rfl ?_
  refine j_bipush K (49 : Int32) dX3_order_98 (by decide) ?_
  refine j_bipush K (57 : Int32) dX3_order_100 (by decide) ?_
  obtain ⟨hp, h⟩ := h
  refine j_callVi K (As := [.int (49 : Int32), .int (57 : Int32)]) (rest := []) (ctX3_sign (l := l) (D := D) (ct := ct) (ad := ad) (49 : Int32) (57 : Int32) st hp) gwX3_sign gdX3_sign ⟨Nat.le_of_ble_eq_true rfl, Nat.le_of_ble_eq_true rfl⟩ 0 rfl rfl rfl rfl rfl (Nat.le_of_ble_eq_true rfl) dX3_order_102 ⟨Nat.le_of_ble_eq_true rfl, Nat.le_of_ble_eq_true rfl⟩ (fun r_1 st_2 hq => ?_)
  replace h := h r_1 st_2 hq
  refine j_goto K 109 dX3_order_105 (by decide) ?_
  exact kX3_order_109 K hr  x1 x2 x3 r_1 st_2 h
theorem kX3_order_93 {p : Program} {l : Launch} {e : Env} {s : State} {m : MethodId} {args : Array Value} {below : List Frame} {meth : Method} {c : Code} {A : Nat → Prop} {D : va_G} {ct : Nat → ClassId} {ad : Nat → Nat} {post : Int32 → MS → Prop} (K : CX p s m args meth c cX3_order 6 RX3 A D ct gT) (hr : meth.sig.returnType = (some .int))   (x1 : Int32) (x2 : Int32) (x3 : Int32) (st : MS) (h : wX3_order_93 post  x1 x2 x3 st) : jJ p l e { frames := 9, cells := 0, slots := 0, locals := 208 } s m args below meth c (MQ below (va_Qi post (fun u => cB D ct A (MW ct ad u)) A) args s 0 0 A) A D 6 (MW ct ad st) 0 0 93 [(0, .ref (ad 0)), (1, .int x1), (2, .int x2), (3, .int x3)] [] := by
  unfold wX3_order_93 at h
  refine j_iload_n K 3 dX3_order_93 rfl rfl ?_
  refine j_if_lt K 108 dX3_order_94 (by decide) (fun hc => ?_) (fun hc => ?_)
  · exact kX3_order_108 K hr  x1 x2 x3 st (h.1 hc)
  · exact kX3_order_97 K hr  x1 x2 x3 st (h.2 hc)
theorem kX3_order_86 {p : Program} {l : Launch} {e : Env} {s : State} {m : MethodId} {args : Array Value} {below : List Frame} {meth : Method} {c : Code} {A : Nat → Prop} {D : va_G} {ct : Nat → ClassId} {ad : Nat → Nat} {post : Int32 → MS → Prop} (K : CX p s m args meth c cX3_order 6 RX3 A D ct gT) (hr : meth.sig.returnType = (some .int))   (x1 : Int32) (x2 : Int32) (s0 : Int32) (st : MS) (h : wX3_order_86 post  x1 x2 s0 st) : jJ p l e { frames := 9, cells := 0, slots := 0, locals := 208 } s m args below meth c (MQ below (va_Qi post (fun u => cB D ct A (MW ct ad u)) A) args s 0 0 A) A D 6 (MW ct ad st) 0 0 86 [(0, .ref (ad 0)), (1, .int x1), (2, .int x2)] [.int s0] := by
  unfold wX3_order_86 at h
  refine j_istore_n K [(3, .int s0), (0, .ref (ad 0)), (1, .int x1), (2, .int x2)] dX3_order_86 rfl (by decide) rfl ?_
  refine j_iload_n K 3 dX3_order_87 rfl rfl ?_
  refine j_bipush K (115 : Int32) dX3_order_88 (by decide) ?_
  refine j_icmp_ne K 108 dX3_order_90 (by decide) (fun hc => ?_) (fun hc => ?_)
  · refine j_lv K [1, 2, 3, 0] (lv' := [(0, .ref (ad 0)), (1, .int x1), (2, .int x2), (3, .int s0)]) rfl ?_
    exact kX3_order_108 K hr  x1 x2 s0 st (h.1 hc)
  · refine j_lv K [1, 2, 3, 0] (lv' := [(0, .ref (ad 0)), (1, .int x1), (2, .int x2), (3, .int s0)]) rfl ?_
    exact kX3_order_93 K hr  x1 x2 s0 st (h.2 hc)
theorem kX3_order_74 {p : Program} {l : Launch} {e : Env} {s : State} {m : MethodId} {args : Array Value} {below : List Frame} {meth : Method} {c : Code} {A : Nat → Prop} {D : va_G} {ct : Nat → ClassId} {ad : Nat → Nat} {post : Int32 → MS → Prop} (K : CX p s m args meth c cX3_order 6 RX3 A D ct gT) (hr : meth.sig.returnType = (some .int))   (x1 : Int32) (x2 : Int32) (st : MS) (h : wX3_order_74 post  x1 x2 st) : jJ p l e { frames := 9, cells := 0, slots := 0, locals := 208 } s m args below meth c (MQ below (va_Qi post (fun u => cB D ct A (MW ct ad u)) A) args s 0 0 A) A D 6 (MW ct ad st) 0 0 74 [(0, .ref (ad 0)), (1, .int x1), (2, .int x2)] [] := by
  unfold wX3_order_74 at h
  refine j_aload_n K 0 dX3_order_74 rfl rfl ?_
  refine j_bipush K (49 : Int32) dX3_order_75 (by decide) ?_
  refine j_bipush K (57 : Int32) dX3_order_77 (by decide) ?_
  obtain ⟨hp, h⟩ := h
  refine j_callVi K (As := [.int (49 : Int32), .int (57 : Int32)]) (rest := []) (ctX3_sign (l := l) (D := D) (ct := ct) (ad := ad) (49 : Int32) (57 : Int32) st hp) gwX3_sign gdX3_sign ⟨Nat.le_of_ble_eq_true rfl, Nat.le_of_ble_eq_true rfl⟩ 0 rfl rfl rfl rfl rfl (Nat.le_of_ble_eq_true rfl) dX3_order_79 ⟨Nat.le_of_ble_eq_true rfl, Nat.le_of_ble_eq_true rfl⟩ (fun r_1 st_2 hq => ?_)
  replace h := h r_1 st_2 hq
  refine j_goto K 86 dX3_order_82 (by decide) ?_
  exact kX3_order_86 K hr  x1 x2 r_1 st_2 h
theorem kX3_order_85 {p : Program} {l : Launch} {e : Env} {s : State} {m : MethodId} {args : Array Value} {below : List Frame} {meth : Method} {c : Code} {A : Nat → Prop} {D : va_G} {ct : Nat → ClassId} {ad : Nat → Nat} {post : Int32 → MS → Prop} (K : CX p s m args meth c cX3_order 6 RX3 A D ct gT) (hr : meth.sig.returnType = (some .int))   (x1 : Int32) (x2 : Int32) (st : MS) (h : wX3_order_85 post  x1 x2 st) : jJ p l e { frames := 9, cells := 0, slots := 0, locals := 208 } s m args below meth c (MQ below (va_Qi post (fun u => cB D ct A (MW ct ad u)) A) args s 0 0 A) A D 6 (MW ct ad st) 0 0 85 [(0, .ref (ad 0)), (1, .int x1), (2, .int x2)] [] := by
  unfold wX3_order_85 at h
  refine j_iconst K (0 : Int32) dX3_order_85 (by decide) ?_
  exact kX3_order_86 K hr  x1 x2 (0 : Int32) st h
theorem kX3_order_68 {p : Program} {l : Launch} {e : Env} {s : State} {m : MethodId} {args : Array Value} {below : List Frame} {meth : Method} {c : Code} {A : Nat → Prop} {D : va_G} {ct : Nat → ClassId} {ad : Nat → Nat} {post : Int32 → MS → Prop} (K : CX p s m args meth c cX3_order 6 RX3 A D ct gT) (hr : meth.sig.returnType = (some .int))   (x1 : Int32) (x2 : Int32) (st : MS) (h : wX3_order_68 post  x1 x2 st) : jJ p l e { frames := 9, cells := 0, slots := 0, locals := 208 } s m args below meth c (MQ below (va_Qi post (fun u => cB D ct A (MW ct ad u)) A) args s 0 0 A) A D 6 (MW ct ad st) 0 0 68 [(0, .ref (ad 0)), (1, .int x1), (2, .int x2)] [] := by
  unfold wX3_order_68 at h
  refine j_iload_n K 2 dX3_order_68 rfl rfl ?_
  refine j_bipush K (115 : Int32) dX3_order_69 (by decide) ?_
  refine j_icmp_ne K 85 dX3_order_71 (by decide) (fun hc => ?_) (fun hc => ?_)
  · exact kX3_order_85 K hr  x1 x2 st (h.1 hc)
  · exact kX3_order_74 K hr  x1 x2 st (h.2 hc)
theorem kX3_order_52 {p : Program} {l : Launch} {e : Env} {s : State} {m : MethodId} {args : Array Value} {below : List Frame} {meth : Method} {c : Code} {A : Nat → Prop} {D : va_G} {ct : Nat → ClassId} {ad : Nat → Nat} {post : Int32 → MS → Prop} (K : CX p s m args meth c cX3_order 6 RX3 A D ct gT) (hr : meth.sig.returnType = (some .int))   (x1 : Int32) (x2 : Int32) (st : MS) (h : wX3_order_52 post  x1 x2 st) : jJ p l e { frames := 9, cells := 0, slots := 0, locals := 208 } s m args below meth c (MQ below (va_Qi post (fun u => cB D ct A (MW ct ad u)) A) args s 0 0 A) A D 6 (MW ct ad st) 0 0 52 [(0, .ref (ad 0)), (1, .int x1), (2, .int x2)] [] := by
  unfold wX3_order_52 at h
  refine j_aload_n K 0 dX3_order_52 rfl rfl ?_
  refine j_dup K dX3_order_53 rfl ?_
  refine mg_at K dX3_order_54 ?_
  refine j_iconst K (1 : Int32) dX3_order_57 (by decide) ?_
  refine j_iadd K dX3_order_58 ?_
  refine mp_at K dX3_order_59 ?_
  refine j_iload_n K 2 dX3_order_62 rfl rfl ?_
  refine j_bipush K (112 : Int32) dX3_order_63 (by decide) ?_
  refine j_icmp_eq K 74 dX3_order_65 (by decide) (fun hc => ?_) (fun hc => ?_)
  · exact kX3_order_74 K hr  x1 x2 (mF st 2 ((st.2 2) + (1 : Int32))) (h.1 hc)
  · exact kX3_order_68 K hr  x1 x2 (mF st 2 ((st.2 2) + (1 : Int32))) (h.2 hc)
theorem kX3_order_49 {p : Program} {l : Launch} {e : Env} {s : State} {m : MethodId} {args : Array Value} {below : List Frame} {meth : Method} {c : Code} {A : Nat → Prop} {D : va_G} {ct : Nat → ClassId} {ad : Nat → Nat} {post : Int32 → MS → Prop} (K : CX p s m args meth c cX3_order 6 RX3 A D ct gT) (hr : meth.sig.returnType = (some .int))    (st : MS) (h : wX3_order_49 post  st) : jJ p l e { frames := 9, cells := 0, slots := 0, locals := 208 } s m args below meth c (MQ below (va_Qi post (fun u => cB D ct A (MW ct ad u)) A) args s 0 0 A) A D 6 (MW ct ad st) 0 0 49 [] [] := by
  unfold wX3_order_49 at h
  refine j_bipush K (-3 : Int32) dX3_order_49 (by decide) ?_
  exact j_iret st K hr rfl h (Nat.le_of_ble_eq_true rfl) (Nat.le_of_ble_eq_true rfl) dX3_order_51
theorem kX3_order_43 {p : Program} {l : Launch} {e : Env} {s : State} {m : MethodId} {args : Array Value} {below : List Frame} {meth : Method} {c : Code} {A : Nat → Prop} {D : va_G} {ct : Nat → ClassId} {ad : Nat → Nat} {post : Int32 → MS → Prop} (K : CX p s m args meth c cX3_order 6 RX3 A D ct gT) (hr : meth.sig.returnType = (some .int))   (x1 : Int32) (x2 : Int32) (st : MS) (h : wX3_order_43 post  x1 x2 st) : jJ p l e { frames := 9, cells := 0, slots := 0, locals := 208 } s m args below meth c (MQ below (va_Qi post (fun u => cB D ct A (MW ct ad u)) A) args s 0 0 A) A D 6 (MW ct ad st) 0 0 43 [(0, .ref (ad 0)), (1, .int x1), (2, .int x2)] [] := by
  unfold wX3_order_43 at h
  refine j_iload_n K 2 dX3_order_43 rfl rfl ?_
  refine j_bipush K (109 : Int32) dX3_order_44 (by decide) ?_
  refine j_icmp_eq K 52 dX3_order_46 (by decide) (fun hc => ?_) (fun hc => ?_)
  · exact kX3_order_52 K hr  x1 x2 st (h.1 hc)
  · refine j_lv K [] (lv' := []) rfl ?_
    exact kX3_order_49 K hr  st (h.2 hc)
theorem kX3_order_37 {p : Program} {l : Launch} {e : Env} {s : State} {m : MethodId} {args : Array Value} {below : List Frame} {meth : Method} {c : Code} {A : Nat → Prop} {D : va_G} {ct : Nat → ClassId} {ad : Nat → Nat} {post : Int32 → MS → Prop} (K : CX p s m args meth c cX3_order 6 RX3 A D ct gT) (hr : meth.sig.returnType = (some .int))   (x1 : Int32) (x2 : Int32) (st : MS) (h : wX3_order_37 post  x1 x2 st) : jJ p l e { frames := 9, cells := 0, slots := 0, locals := 208 } s m args below meth c (MQ below (va_Qi post (fun u => cB D ct A (MW ct ad u)) A) args s 0 0 A) A D 6 (MW ct ad st) 0 0 37 [(0, .ref (ad 0)), (1, .int x1), (2, .int x2)] [] := by
  unfold wX3_order_37 at h
  refine j_iload_n K 2 dX3_order_37 rfl rfl ?_
  refine j_bipush K (45 : Int32) dX3_order_38 (by decide) ?_
  refine j_icmp_eq K 52 dX3_order_40 (by decide) (fun hc => ?_) (fun hc => ?_)
  · exact kX3_order_52 K hr  x1 x2 st (h.1 hc)
  · exact kX3_order_43 K hr  x1 x2 st (h.2 hc)
theorem kX3_order_31 {p : Program} {l : Launch} {e : Env} {s : State} {m : MethodId} {args : Array Value} {below : List Frame} {meth : Method} {c : Code} {A : Nat → Prop} {D : va_G} {ct : Nat → ClassId} {ad : Nat → Nat} {post : Int32 → MS → Prop} (K : CX p s m args meth c cX3_order 6 RX3 A D ct gT) (hr : meth.sig.returnType = (some .int))   (x1 : Int32) (x2 : Int32) (st : MS) (h : wX3_order_31 post  x1 x2 st) : jJ p l e { frames := 9, cells := 0, slots := 0, locals := 208 } s m args below meth c (MQ below (va_Qi post (fun u => cB D ct A (MW ct ad u)) A) args s 0 0 A) A D 6 (MW ct ad st) 0 0 31 [(0, .ref (ad 0)), (1, .int x1), (2, .int x2)] [] := by
  unfold wX3_order_31 at h
  refine j_iload_n K 2 dX3_order_31 rfl rfl ?_
  refine j_bipush K (115 : Int32) dX3_order_32 (by decide) ?_
  refine j_icmp_eq K 52 dX3_order_34 (by decide) (fun hc => ?_) (fun hc => ?_)
  · exact kX3_order_52 K hr  x1 x2 st (h.1 hc)
  · exact kX3_order_37 K hr  x1 x2 st (h.2 hc)
theorem kX3_order_24 {p : Program} {l : Launch} {e : Env} {s : State} {m : MethodId} {args : Array Value} {below : List Frame} {meth : Method} {c : Code} {A : Nat → Prop} {D : va_G} {ct : Nat → ClassId} {ad : Nat → Nat} {post : Int32 → MS → Prop} (K : CX p s m args meth c cX3_order 6 RX3 A D ct gT) (hr : meth.sig.returnType = (some .int))   (x1 : Int32) (s0 : Int32) (st : MS) (h : wX3_order_24 post  x1 s0 st) : jJ p l e { frames := 9, cells := 0, slots := 0, locals := 208 } s m args below meth c (MQ below (va_Qi post (fun u => cB D ct A (MW ct ad u)) A) args s 0 0 A) A D 6 (MW ct ad st) 0 0 24 [(0, .ref (ad 0)), (1, .int x1)] [.int s0] := by
  unfold wX3_order_24 at h
  refine j_istore_n K [(2, .int s0), (0, .ref (ad 0)), (1, .int x1)] dX3_order_24 rfl (by decide) rfl ?_
  refine j_iload_n K 0 dX3_order_25 rfl rfl ?_
  refine j_bipush K (112 : Int32) dX3_order_26 (by decide) ?_
  refine j_icmp_eq K 52 dX3_order_28 (by decide) (fun hc => ?_) (fun hc => ?_)
  · refine j_lv K [1, 2, 0] (lv' := [(0, .ref (ad 0)), (1, .int x1), (2, .int s0)]) rfl ?_
    exact kX3_order_52 K hr  x1 s0 st (h.1 hc)
  · refine j_lv K [1, 2, 0] (lv' := [(0, .ref (ad 0)), (1, .int x1), (2, .int s0)]) rfl ?_
    exact kX3_order_31 K hr  x1 s0 st (h.2 hc)
theorem kX3_order_23 {p : Program} {l : Launch} {e : Env} {s : State} {m : MethodId} {args : Array Value} {below : List Frame} {meth : Method} {c : Code} {A : Nat → Prop} {D : va_G} {ct : Nat → ClassId} {ad : Nat → Nat} {post : Int32 → MS → Prop} (K : CX p s m args meth c cX3_order 6 RX3 A D ct gT) (hr : meth.sig.returnType = (some .int))   (x1 : Int32) (st : MS) (h : wX3_order_23 post  x1 st) : jJ p l e { frames := 9, cells := 0, slots := 0, locals := 208 } s m args below meth c (MQ below (va_Qi post (fun u => cB D ct A (MW ct ad u)) A) args s 0 0 A) A D 6 (MW ct ad st) 0 0 23 [(0, .ref (ad 0)), (1, .int x1)] [] := by
  unfold wX3_order_23 at h
  refine j_iconst K (0 : Int32) dX3_order_23 (by decide) ?_
  exact kX3_order_24 K hr  x1 (0 : Int32) st h
theorem kX3_order_11 {p : Program} {l : Launch} {e : Env} {s : State} {m : MethodId} {args : Array Value} {below : List Frame} {meth : Method} {c : Code} {A : Nat → Prop} {D : va_G} {ct : Nat → ClassId} {ad : Nat → Nat} {post : Int32 → MS → Prop} (K : CX p s m args meth c cX3_order 6 RX3 A D ct gT) (hr : meth.sig.returnType = (some .int))   (x1 : Int32) (st : MS) (h : wX3_order_11 post  x1 st) : jJ p l e { frames := 9, cells := 0, slots := 0, locals := 208 } s m args below meth c (MQ below (va_Qi post (fun u => cB D ct A (MW ct ad u)) A) args s 0 0 A) A D 6 (MW ct ad st) 0 0 11 [(0, .ref (ad 0)), (1, .int x1)] [] := by
  unfold wX3_order_11 at h
  refine j_aload_n K 0 dX3_order_11 rfl rfl ?_
  refine mg_pad K dX3_order_12 ?_
  refine j_aload_n K 0 dX3_order_15 rfl rfl ?_
  refine mg_at K dX3_order_16 ?_
  obtain ⟨hc, h⟩ := h
  refine ml_pad K hc dX3_order_19 ?_
  refine j_goto K 24 dX3_order_20 (by decide) ?_
  exact kX3_order_24 K hr  x1 (st.1 5 ((st.2 2)).toNatClampNeg) st h
theorem kX3_order_0 {p : Program} {l : Launch} {e : Env} {s : State} {m : MethodId} {args : Array Value} {below : List Frame} {meth : Method} {c : Code} {A : Nat → Prop} {D : va_G} {ct : Nat → ClassId} {ad : Nat → Nat} {post : Int32 → MS → Prop} (K : CX p s m args meth c cX3_order 6 RX3 A D ct gT) (hr : meth.sig.returnType = (some .int))   (x1 : Int32) (st : MS) (h : wX3_order_0 post  x1 st) : jJ p l e { frames := 9, cells := 0, slots := 0, locals := 208 } s m args below meth c (MQ below (va_Qi post (fun u => cB D ct A (MW ct ad u)) A) args s 0 0 A) A D 6 (MW ct ad st) 0 0 0 [(0, .ref (ad 0)), (1, .int x1)] [] := by
  unfold wX3_order_0 at h
  refine j_aload_n K 0 dX3_order_0 rfl rfl ?_
  refine mg_at K dX3_order_1 ?_
  refine j_aload_n K 0 dX3_order_4 rfl rfl ?_
  refine mg_length K dX3_order_5 ?_
  refine j_icmp_ge K 23 dX3_order_8 (by decide) (fun hc => ?_) (fun hc => ?_)
  · exact kX3_order_23 K hr  x1 st (h.1 hc)
  · exact kX3_order_11 K hr  x1 st (h.2 hc)
theorem ctX3_order {l : Launch} {D : va_G} {ct : Nat → ClassId} {ad : Nat → Nat} (x1 : Int32) (st : MS) (hp : pX3_order x1 st) : ∀ sz, Met l yX3_order (ws_ yX3_order cX3_order 6 (some .int)) { frames := 9, cells := 0, slots := 0, locals := 208 } (va_Pc [.ref (ad 0), .int x1] (cPre gT D ct (MW ct ad st) sz)) (va_Qi (qX3_order x1 st) (fun u => cB D ct (va_A (MW ct ad st) sz) (MW ct ad u)) (va_A (MW ct ad st) sz)) 0 0 (va_A (MW ct ad st) sz) := fun sz =>
  j_met (Qc := fun A => va_Qi (qX3_order x1 st) (fun u => cB D ct A (MW ct ad u)) A) (by decide) gT_ok (Nat.le_of_ble_eq_true rfl) (fun p e s m args below meth c A K hr _ _ => kX3_order_0 K hr x1 st (vcX3_order x1 st hp))
-- X3_isWell
theorem gwX3_isWell : GoodIn lw_all (wsV RX3 186 RX3 yX3_isWell (ws_ yX3_isWell cX3_isWell 2 (some .boolean))) := lw_V q1250 q1252 qs65 q84 q1253
theorem gdX3_isWell : yX3_isWell.cls = RX3 ∧ yX3_isWell.cls ≠ "java/lang/invoke/MethodHandle" ∧ yX3_isWell.cls ≠ "java/lang/invoke/VarHandle" ∧ (parseMethodDescriptor yX3_isWell.desc).map (fun d => d.parameters.length) = some 0 := by decide +kernel
theorem kX3_isWell_82 {p : Program} {l : Launch} {e : Env} {s : State} {m : MethodId} {args : Array Value} {below : List Frame} {meth : Method} {c : Code} {A : Nat → Prop} {D : va_G} {ct : Nat → ClassId} {ad : Nat → Nat} {post : Int32 → MS → Prop} (K : CX p s m args meth c cX3_isWell 2 RX3 A D ct gT) (hr : meth.sig.returnType = (some .boolean))   (x1 : Int32) (st : MS) (h : wX3_isWell_82 post  x1 st) : jJ p l e { frames := 10, cells := 0, slots := 0, locals := 233 } s m args below meth c (MQ below (va_Qi post (fun u => cB D ct A (MW ct ad u)) A) args s 0 0 A) A D 2 (MW ct ad st) 0 0 82 [(1, .int x1)] [] := by
  unfold wX3_isWell_82 at h
  refine j_iload_n K 0 dX3_isWell_82 rfl rfl ?_
  exact j_zret st K hr rfl h.2 h.1 (Nat.le_of_ble_eq_true rfl) (Nat.le_of_ble_eq_true rfl) dX3_isWell_83
theorem kX3_isWell_78 {p : Program} {l : Launch} {e : Env} {s : State} {m : MethodId} {args : Array Value} {below : List Frame} {meth : Method} {c : Code} {A : Nat → Prop} {D : va_G} {ct : Nat → ClassId} {ad : Nat → Nat} {post : Int32 → MS → Prop} (K : CX p s m args meth c cX3_isWell 2 RX3 A D ct gT) (hr : meth.sig.returnType = (some .boolean)) (L19 : Int32 → MS → Prop) (hL19 : ∀ (x1 : Int32) (st : MS), L19 x1 st → jJ p l e { frames := 10, cells := 0, slots := 0, locals := 233 } s m args below meth c (MQ below (va_Qi post (fun u => cB D ct A (MW ct ad u)) A) args s 0 0 A) A D 2 (MW ct ad st) 0 0 19 [(0, .ref (ad 0)), (1, .int x1)] []) (s0 : Int32) (st : MS) (h : wX3_isWell_78 post L19 s0 st) : jJ p l e { frames := 10, cells := 0, slots := 0, locals := 233 } s m args below meth c (MQ below (va_Qi post (fun u => cB D ct A (MW ct ad u)) A) args s 0 0 A) A D 2 (MW ct ad st) 0 0 78 [(0, .ref (ad 0))] [.int s0] := by
  unfold wX3_isWell_78 at h
  refine j_istore_n K [(1, .int s0), (0, .ref (ad 0))] dX3_isWell_78 rfl (by decide) rfl ?_
  refine j_goto K 19 dX3_isWell_79 (by decide) ?_
  refine j_lv K [1, 0] (lv' := [(0, .ref (ad 0)), (1, .int s0)]) rfl ?_
  exact hL19 s0 st h
theorem kX3_isWell_77 {p : Program} {l : Launch} {e : Env} {s : State} {m : MethodId} {args : Array Value} {below : List Frame} {meth : Method} {c : Code} {A : Nat → Prop} {D : va_G} {ct : Nat → ClassId} {ad : Nat → Nat} {post : Int32 → MS → Prop} (K : CX p s m args meth c cX3_isWell 2 RX3 A D ct gT) (hr : meth.sig.returnType = (some .boolean)) (L19 : Int32 → MS → Prop) (hL19 : ∀ (x1 : Int32) (st : MS), L19 x1 st → jJ p l e { frames := 10, cells := 0, slots := 0, locals := 233 } s m args below meth c (MQ below (va_Qi post (fun u => cB D ct A (MW ct ad u)) A) args s 0 0 A) A D 2 (MW ct ad st) 0 0 19 [(0, .ref (ad 0)), (1, .int x1)] [])  (st : MS) (h : wX3_isWell_77 post L19 st) : jJ p l e { frames := 10, cells := 0, slots := 0, locals := 233 } s m args below meth c (MQ below (va_Qi post (fun u => cB D ct A (MW ct ad u)) A) args s 0 0 A) A D 2 (MW ct ad st) 0 0 77 [(0, .ref (ad 0))] [] := by
  unfold wX3_isWell_77 at h
  refine j_iconst K (0 : Int32) dX3_isWell_77 (by decide) ?_
  exact kX3_isWell_78 K hr L19 hL19 (0 : Int32) st h
theorem kX3_isWell_73 {p : Program} {l : Launch} {e : Env} {s : State} {m : MethodId} {args : Array Value} {below : List Frame} {meth : Method} {c : Code} {A : Nat → Prop} {D : va_G} {ct : Nat → ClassId} {ad : Nat → Nat} {post : Int32 → MS → Prop} (K : CX p s m args meth c cX3_isWell 2 RX3 A D ct gT) (hr : meth.sig.returnType = (some .boolean)) (L19 : Int32 → MS → Prop) (hL19 : ∀ (x1 : Int32) (st : MS), L19 x1 st → jJ p l e { frames := 10, cells := 0, slots := 0, locals := 233 } s m args below meth c (MQ below (va_Qi post (fun u => cB D ct A (MW ct ad u)) A) args s 0 0 A) A D 2 (MW ct ad st) 0 0 19 [(0, .ref (ad 0)), (1, .int x1)] [])  (st : MS) (h : wX3_isWell_73 post L19 st) : jJ p l e { frames := 10, cells := 0, slots := 0, locals := 233 } s m args below meth c (MQ below (va_Qi post (fun u => cB D ct A (MW ct ad u)) A) args s 0 0 A) A D 2 (MW ct ad st) 0 0 73 [(0, .ref (ad 0))] [] := by
  unfold wX3_isWell_73 at h
  refine j_iconst K (1 : Int32) dX3_isWell_73 (by decide) ?_
  refine j_goto K 78 dX3_isWell_74 (by decide) ?_
  exact kX3_isWell_78 K hr L19 hL19 (1 : Int32) st h
theorem kX3_isWell_65 {p : Program} {l : Launch} {e : Env} {s : State} {m : MethodId} {args : Array Value} {below : List Frame} {meth : Method} {c : Code} {A : Nat → Prop} {D : va_G} {ct : Nat → ClassId} {ad : Nat → Nat} {post : Int32 → MS → Prop} (K : CX p s m args meth c cX3_isWell 2 RX3 A D ct gT) (hr : meth.sig.returnType = (some .boolean)) (L19 : Int32 → MS → Prop) (hL19 : ∀ (x1 : Int32) (st : MS), L19 x1 st → jJ p l e { frames := 10, cells := 0, slots := 0, locals := 233 } s m args below meth c (MQ below (va_Qi post (fun u => cB D ct A (MW ct ad u)) A) args s 0 0 A) A D 2 (MW ct ad st) 0 0 19 [(0, .ref (ad 0)), (1, .int x1)] [])  (st : MS) (h : wX3_isWell_65 post L19 st) : jJ p l e { frames := 10, cells := 0, slots := 0, locals := 233 } s m args below meth c (MQ below (va_Qi post (fun u => cB D ct A (MW ct ad u)) A) args s 0 0 A) A D 2 (MW ct ad st) 0 0 65 [(0, .ref (ad 0))] [] := by
  unfold wX3_isWell_65 at h
  refine j_aload_n K 0 dX3_isWell_65 rfl rfl ?_
  refine j_iconst K (0 : Int32) dX3_isWell_66 (by decide) ?_
  obtain ⟨hp, h⟩ := h
  refine j_callVi K (As := [.int (0 : Int32)]) (rest := []) (ctX3_order (l := l) (D := D) (ct := ct) (ad := ad) (0 : Int32) st hp) gwX3_order gdX3_order ⟨Nat.le_of_ble_eq_true rfl, Nat.le_of_ble_eq_true rfl⟩ 0 rfl rfl rfl rfl rfl (Nat.le_of_ble_eq_true rfl) dX3_isWell_67 ⟨Nat.le_of_ble_eq_true rfl, Nat.le_of_ble_eq_true rfl⟩ (fun r_1 st_2 hq => ?_)
  replace h := h r_1 st_2 hq
  refine j_if_ne K 77 dX3_isWell_70 (by decide) (fun hc => ?_) (fun hc => ?_)
  · exact kX3_isWell_77 K hr L19 hL19 st_2 (h.1 hc)
  · exact kX3_isWell_73 K hr L19 hL19 st_2 (h.2 hc)
theorem kX3_isWell_57 {p : Program} {l : Launch} {e : Env} {s : State} {m : MethodId} {args : Array Value} {below : List Frame} {meth : Method} {c : Code} {A : Nat → Prop} {D : va_G} {ct : Nat → ClassId} {ad : Nat → Nat} {post : Int32 → MS → Prop} (K : CX p s m args meth c cX3_isWell 2 RX3 A D ct gT) (hr : meth.sig.returnType = (some .boolean)) (L19 : Int32 → MS → Prop) (hL19 : ∀ (x1 : Int32) (st : MS), L19 x1 st → jJ p l e { frames := 10, cells := 0, slots := 0, locals := 233 } s m args below meth c (MQ below (va_Qi post (fun u => cB D ct A (MW ct ad u)) A) args s 0 0 A) A D 2 (MW ct ad st) 0 0 19 [(0, .ref (ad 0)), (1, .int x1)] []) (x1 : Int32) (s1 : Int32) (s2 : Int32) (st : MS) (h : wX3_isWell_57 post L19 x1 s1 s2 st) : jJ p l e { frames := 10, cells := 0, slots := 0, locals := 233 } s m args below meth c (MQ below (va_Qi post (fun u => cB D ct A (MW ct ad u)) A) args s 0 0 A) A D 2 (MW ct ad st) 0 0 57 [(0, .ref (ad 0)), (1, .int x1)] [.int s2, .int s1, .ref (ad 0)] := by
  unfold wX3_isWell_57 at h
  refine j_iadd K dX3_isWell_57 ?_
  refine mp_at K dX3_isWell_58 ?_
  refine j_iload_n K 1 dX3_isWell_61 rfl rfl ?_
  refine j_if_eq K 77 dX3_isWell_62 (by decide) (fun hc => ?_) (fun hc => ?_)
  · refine j_lv K [0] (lv' := [(0, .ref (ad 0))]) rfl ?_
    exact kX3_isWell_77 K hr L19 hL19 (mF st 2 (s1 + s2)) (h.1 hc)
  · refine j_lv K [0] (lv' := [(0, .ref (ad 0))]) rfl ?_
    exact kX3_isWell_65 K hr L19 hL19 (mF st 2 (s1 + s2)) (h.2 hc)
theorem kX3_isWell_56 {p : Program} {l : Launch} {e : Env} {s : State} {m : MethodId} {args : Array Value} {below : List Frame} {meth : Method} {c : Code} {A : Nat → Prop} {D : va_G} {ct : Nat → ClassId} {ad : Nat → Nat} {post : Int32 → MS → Prop} (K : CX p s m args meth c cX3_isWell 2 RX3 A D ct gT) (hr : meth.sig.returnType = (some .boolean)) (L19 : Int32 → MS → Prop) (hL19 : ∀ (x1 : Int32) (st : MS), L19 x1 st → jJ p l e { frames := 10, cells := 0, slots := 0, locals := 233 } s m args below meth c (MQ below (va_Qi post (fun u => cB D ct A (MW ct ad u)) A) args s 0 0 A) A D 2 (MW ct ad st) 0 0 19 [(0, .ref (ad 0)), (1, .int x1)] []) (x1 : Int32) (s1 : Int32) (st : MS) (h : wX3_isWell_56 post L19 x1 s1 st) : jJ p l e { frames := 10, cells := 0, slots := 0, locals := 233 } s m args below meth c (MQ below (va_Qi post (fun u => cB D ct A (MW ct ad u)) A) args s 0 0 A) A D 2 (MW ct ad st) 0 0 56 [(0, .ref (ad 0)), (1, .int x1)] [.int s1, .ref (ad 0)] := by
  unfold wX3_isWell_56 at h
  refine j_iconst K (0 : Int32) dX3_isWell_56 (by decide) ?_
  exact kX3_isWell_57 K hr L19 hL19 x1 s1 (0 : Int32) st h
theorem kX3_isWell_52 {p : Program} {l : Launch} {e : Env} {s : State} {m : MethodId} {args : Array Value} {below : List Frame} {meth : Method} {c : Code} {A : Nat → Prop} {D : va_G} {ct : Nat → ClassId} {ad : Nat → Nat} {post : Int32 → MS → Prop} (K : CX p s m args meth c cX3_isWell 2 RX3 A D ct gT) (hr : meth.sig.returnType = (some .boolean)) (L19 : Int32 → MS → Prop) (hL19 : ∀ (x1 : Int32) (st : MS), L19 x1 st → jJ p l e { frames := 10, cells := 0, slots := 0, locals := 233 } s m args below meth c (MQ below (va_Qi post (fun u => cB D ct A (MW ct ad u)) A) args s 0 0 A) A D 2 (MW ct ad st) 0 0 19 [(0, .ref (ad 0)), (1, .int x1)] []) (x1 : Int32) (s1 : Int32) (st : MS) (h : wX3_isWell_52 post L19 x1 s1 st) : jJ p l e { frames := 10, cells := 0, slots := 0, locals := 233 } s m args below meth c (MQ below (va_Qi post (fun u => cB D ct A (MW ct ad u)) A) args s 0 0 A) A D 2 (MW ct ad st) 0 0 52 [(0, .ref (ad 0)), (1, .int x1)] [.int s1, .ref (ad 0)] := by
  unfold wX3_isWell_52 at h
  refine j_iconst K (1 : Int32) dX3_isWell_52 (by decide) ?_
  refine j_goto K 57 dX3_isWell_53 (by decide) ?_
  exact kX3_isWell_57 K hr L19 hL19 x1 s1 (1 : Int32) st h
theorem kX3_isWell_34 {p : Program} {l : Launch} {e : Env} {s : State} {m : MethodId} {args : Array Value} {below : List Frame} {meth : Method} {c : Code} {A : Nat → Prop} {D : va_G} {ct : Nat → ClassId} {ad : Nat → Nat} {post : Int32 → MS → Prop} (K : CX p s m args meth c cX3_isWell 2 RX3 A D ct gT) (hr : meth.sig.returnType = (some .boolean)) (L19 : Int32 → MS → Prop) (hL19 : ∀ (x1 : Int32) (st : MS), L19 x1 st → jJ p l e { frames := 10, cells := 0, slots := 0, locals := 233 } s m args below meth c (MQ below (va_Qi post (fun u => cB D ct A (MW ct ad u)) A) args s 0 0 A) A D 2 (MW ct ad st) 0 0 19 [(0, .ref (ad 0)), (1, .int x1)] [])  (st : MS) (h : wX3_isWell_34 post L19 st) : jJ p l e { frames := 10, cells := 0, slots := 0, locals := 233 } s m args below meth c (MQ below (va_Qi post (fun u => cB D ct A (MW ct ad u)) A) args s 0 0 A) A D 2 (MW ct ad st) 0 0 34 [(0, .ref (ad 0))] [] := by
  unfold wX3_isWell_34 at h
  refine j_aload_n K 0 dX3_isWell_34 rfl rfl ?_
  refine j_bipush K (59 : Int32) dX3_isWell_35 (by decide) ?_
  refine j_bipush K (59 : Int32) dX3_isWell_37 (by decide) ?_
  obtain ⟨hp, h⟩ := h
  refine j_callVi K (As := [.int (59 : Int32), .int (59 : Int32)]) (rest := []) (ctX3_sees (l := l) (D := D) (ct := ct) (ad := ad) (59 : Int32) (59 : Int32) st hp) gwX3_sees gdX3_sees ⟨Nat.le_of_ble_eq_true rfl, Nat.le_of_ble_eq_true rfl⟩ 0 rfl rfl rfl rfl rfl (Nat.le_of_ble_eq_true rfl) dX3_isWell_39 ⟨Nat.le_of_ble_eq_true rfl, Nat.le_of_ble_eq_true rfl⟩ (fun r_1 st_2 hq => ?_)
  obtain ⟨hq, rfl⟩ := hq
  replace h := h r_1 hq
  refine j_istore_n K [(1, .int r_1), (0, .ref (ad 0))] dX3_isWell_42 rfl (by decide) rfl ?_
  refine j_aload_n K 1 dX3_isWell_43 rfl rfl ?_
  refine j_dup K dX3_isWell_44 rfl ?_
  refine mg_at K dX3_isWell_45 ?_
  refine j_iload_n K 0 dX3_isWell_48 rfl rfl ?_
  refine j_if_eq K 56 dX3_isWell_49 (by decide) (fun hc => ?_) (fun hc => ?_)
  · refine j_lv K [1, 0] (lv' := [(0, .ref (ad 0)), (1, .int r_1)]) rfl ?_
    exact kX3_isWell_56 K hr L19 hL19 r_1 (st.2 2) st (h.1 hc)
  · refine j_lv K [1, 0] (lv' := [(0, .ref (ad 0)), (1, .int r_1)]) rfl ?_
    exact kX3_isWell_52 K hr L19 hL19 r_1 (st.2 2) st (h.2 hc)
theorem kX3_isWell_23 {p : Program} {l : Launch} {e : Env} {s : State} {m : MethodId} {args : Array Value} {below : List Frame} {meth : Method} {c : Code} {A : Nat → Prop} {D : va_G} {ct : Nat → ClassId} {ad : Nat → Nat} {post : Int32 → MS → Prop} (K : CX p s m args meth c cX3_isWell 2 RX3 A D ct gT) (hr : meth.sig.returnType = (some .boolean)) (L19 : Int32 → MS → Prop) (hL19 : ∀ (x1 : Int32) (st : MS), L19 x1 st → jJ p l e { frames := 10, cells := 0, slots := 0, locals := 233 } s m args below meth c (MQ below (va_Qi post (fun u => cB D ct A (MW ct ad u)) A) args s 0 0 A) A D 2 (MW ct ad st) 0 0 19 [(0, .ref (ad 0)), (1, .int x1)] []) (x1 : Int32) (st : MS) (h : wX3_isWell_23 post L19 x1 st) : jJ p l e { frames := 10, cells := 0, slots := 0, locals := 233 } s m args below meth c (MQ below (va_Qi post (fun u => cB D ct A (MW ct ad u)) A) args s 0 0 A) A D 2 (MW ct ad st) 0 0 23 [(0, .ref (ad 0)), (1, .int x1)] [] := by
  unfold wX3_isWell_23 at h
  refine j_aload_n K 0 dX3_isWell_23 rfl rfl ?_
  refine mg_at K dX3_isWell_24 ?_
  refine j_aload_n K 0 dX3_isWell_27 rfl rfl ?_
  refine mg_length K dX3_isWell_28 ?_
  refine j_icmp_ge K 82 dX3_isWell_31 (by decide) (fun hc => ?_) (fun hc => ?_)
  · refine j_lv K [1] (lv' := [(1, .int x1)]) rfl ?_
    exact kX3_isWell_82 K hr  x1 st (h.1 hc)
  · refine j_lv K [0] (lv' := [(0, .ref (ad 0))]) rfl ?_
    exact kX3_isWell_34 K hr L19 hL19 st (h.2 hc)
theorem kX3_isWell_19_b {p : Program} {l : Launch} {e : Env} {s : State} {m : MethodId} {args : Array Value} {below : List Frame} {meth : Method} {c : Code} {A : Nat → Prop} {D : va_G} {ct : Nat → ClassId} {ad : Nat → Nat} {post : Int32 → MS → Prop} (K : CX p s m args meth c cX3_isWell 2 RX3 A D ct gT) (hr : meth.sig.returnType = (some .boolean)) (L19 : Int32 → MS → Prop) (hL19 : ∀ (x1 : Int32) (st : MS), L19 x1 st → jJ p l e { frames := 10, cells := 0, slots := 0, locals := 233 } s m args below meth c (MQ below (va_Qi post (fun u => cB D ct A (MW ct ad u)) A) args s 0 0 A) A D 2 (MW ct ad st) 0 0 19 [(0, .ref (ad 0)), (1, .int x1)] []) (x1 : Int32) (st : MS) (h : wX3_isWell_19_b post L19 x1 st) : jJ p l e { frames := 10, cells := 0, slots := 0, locals := 233 } s m args below meth c (MQ below (va_Qi post (fun u => cB D ct A (MW ct ad u)) A) args s 0 0 A) A D 2 (MW ct ad st) 0 0 19 [(0, .ref (ad 0)), (1, .int x1)] [] := by
  unfold wX3_isWell_19_b at h
  refine j_iload_n K 1 dX3_isWell_19 rfl rfl ?_
  refine j_if_eq K 82 dX3_isWell_20 (by decide) (fun hc => ?_) (fun hc => ?_)
  · refine j_lv K [1] (lv' := [(1, .int x1)]) rfl ?_
    exact kX3_isWell_82 K hr  x1 st (h.1 hc)
  · exact kX3_isWell_23 K hr L19 hL19 x1 st (h.2 hc)
theorem kX3_isWell_19 {p : Program} {l : Launch} {e : Env} {s : State} {m : MethodId} {args : Array Value} {below : List Frame} {meth : Method} {c : Code} {A : Nat → Prop} {D : va_G} {ct : Nat → ClassId} {ad : Nat → Nat} {post : Int32 → MS → Prop} (K : CX p s m args meth c cX3_isWell 2 RX3 A D ct gT) (hr : meth.sig.returnType = (some .boolean))   (x1 : Int32) (st : MS) (h : wX3_isWell_19 post  x1 st) : jJ p l e { frames := 10, cells := 0, slots := 0, locals := 233 } s m args below meth c (MQ below (va_Qi post (fun u => cB D ct A (MW ct ad u)) A) args s 0 0 A) A D 2 (MW ct ad st) 0 0 19 [(0, .ref (ad 0)), (1, .int x1)] [] :=
  wloop_sound (V := Int32 × MS) (Wk := fun v => jJ p l e { frames := 10, cells := 0, slots := 0, locals := 233 } s m args below meth c (MQ below (va_Qi post (fun u => cB D ct A (MW ct ad u)) A) args s 0 0 A) A D 2 (MW ct ad v.2) 0 0 19 [(0, .ref (ad 0)), (1, .int v.1)] []) (fun L hL v hb => kX3_isWell_19_b K hr (fun x1 st => L (x1, st)) (fun x1 st hx => hL (x1, st) hx) v.1 v.2 hb) h
theorem kX3_isWell_18 {p : Program} {l : Launch} {e : Env} {s : State} {m : MethodId} {args : Array Value} {below : List Frame} {meth : Method} {c : Code} {A : Nat → Prop} {D : va_G} {ct : Nat → ClassId} {ad : Nat → Nat} {post : Int32 → MS → Prop} (K : CX p s m args meth c cX3_isWell 2 RX3 A D ct gT) (hr : meth.sig.returnType = (some .boolean))   (s0 : Int32) (st : MS) (h : wX3_isWell_18 post  s0 st) : jJ p l e { frames := 10, cells := 0, slots := 0, locals := 233 } s m args below meth c (MQ below (va_Qi post (fun u => cB D ct A (MW ct ad u)) A) args s 0 0 A) A D 2 (MW ct ad st) 0 0 18 [(0, .ref (ad 0))] [.int s0] := by
  unfold wX3_isWell_18 at h
  refine j_istore_n K [(1, .int s0), (0, .ref (ad 0))] dX3_isWell_18 rfl (by decide) rfl ?_
  refine j_lv K [1, 0] (lv' := [(0, .ref (ad 0)), (1, .int s0)]) rfl ?_
  exact kX3_isWell_19 K hr  s0 st h
theorem kX3_isWell_17 {p : Program} {l : Launch} {e : Env} {s : State} {m : MethodId} {args : Array Value} {below : List Frame} {meth : Method} {c : Code} {A : Nat → Prop} {D : va_G} {ct : Nat → ClassId} {ad : Nat → Nat} {post : Int32 → MS → Prop} (K : CX p s m args meth c cX3_isWell 2 RX3 A D ct gT) (hr : meth.sig.returnType = (some .boolean))    (st : MS) (h : wX3_isWell_17 post  st) : jJ p l e { frames := 10, cells := 0, slots := 0, locals := 233 } s m args below meth c (MQ below (va_Qi post (fun u => cB D ct A (MW ct ad u)) A) args s 0 0 A) A D 2 (MW ct ad st) 0 0 17 [(0, .ref (ad 0))] [] := by
  unfold wX3_isWell_17 at h
  refine j_iconst K (0 : Int32) dX3_isWell_17 (by decide) ?_
  exact kX3_isWell_18 K hr  (0 : Int32) st h
theorem kX3_isWell_13 {p : Program} {l : Launch} {e : Env} {s : State} {m : MethodId} {args : Array Value} {below : List Frame} {meth : Method} {c : Code} {A : Nat → Prop} {D : va_G} {ct : Nat → ClassId} {ad : Nat → Nat} {post : Int32 → MS → Prop} (K : CX p s m args meth c cX3_isWell 2 RX3 A D ct gT) (hr : meth.sig.returnType = (some .boolean))    (st : MS) (h : wX3_isWell_13 post  st) : jJ p l e { frames := 10, cells := 0, slots := 0, locals := 233 } s m args below meth c (MQ below (va_Qi post (fun u => cB D ct A (MW ct ad u)) A) args s 0 0 A) A D 2 (MW ct ad st) 0 0 13 [(0, .ref (ad 0))] [] := by
  unfold wX3_isWell_13 at h
  refine j_iconst K (1 : Int32) dX3_isWell_13 (by decide) ?_
  refine j_goto K 18 dX3_isWell_14 (by decide) ?_
  exact kX3_isWell_18 K hr  (1 : Int32) st h
theorem kX3_isWell_0 {p : Program} {l : Launch} {e : Env} {s : State} {m : MethodId} {args : Array Value} {below : List Frame} {meth : Method} {c : Code} {A : Nat → Prop} {D : va_G} {ct : Nat → ClassId} {ad : Nat → Nat} {post : Int32 → MS → Prop} (K : CX p s m args meth c cX3_isWell 2 RX3 A D ct gT) (hr : meth.sig.returnType = (some .boolean))    (st : MS) (h : wX3_isWell_0 post  st) : jJ p l e { frames := 10, cells := 0, slots := 0, locals := 233 } s m args below meth c (MQ below (va_Qi post (fun u => cB D ct A (MW ct ad u)) A) args s 0 0 A) A D 2 (MW ct ad st) 0 0 0 [(0, .ref (ad 0))] [] := by
  unfold wX3_isWell_0 at h
  refine j_aload_n K 0 dX3_isWell_0 rfl rfl ?_
  refine j_iconst K (0 : Int32) dX3_isWell_1 (by decide) ?_
  refine mp_at K dX3_isWell_2 ?_
  refine j_aload_n K 0 dX3_isWell_5 rfl rfl ?_
  refine j_iconst K (0 : Int32) dX3_isWell_6 (by decide) ?_
  obtain ⟨hp, h⟩ := h
  refine j_callVi K (As := [.int (0 : Int32)]) (rest := []) (ctX3_order (l := l) (D := D) (ct := ct) (ad := ad) (0 : Int32) (mF st 2 (0 : Int32)) hp) gwX3_order gdX3_order ⟨Nat.le_of_ble_eq_true rfl, Nat.le_of_ble_eq_true rfl⟩ 0 rfl rfl rfl rfl rfl (Nat.le_of_ble_eq_true rfl) dX3_isWell_7 ⟨Nat.le_of_ble_eq_true rfl, Nat.le_of_ble_eq_true rfl⟩ (fun r_1 st_2 hq => ?_)
  replace h := h r_1 st_2 hq
  refine j_if_ne K 17 dX3_isWell_10 (by decide) (fun hc => ?_) (fun hc => ?_)
  · exact kX3_isWell_17 K hr  st_2 (h.1 hc)
  · exact kX3_isWell_13 K hr  st_2 (h.2 hc)
theorem ctX3_isWell {l : Launch} {D : va_G} {ct : Nat → ClassId} {ad : Nat → Nat}  (st : MS) (hp : pX3_isWell  st) : ∀ sz, Met l yX3_isWell (ws_ yX3_isWell cX3_isWell 2 (some .boolean)) { frames := 10, cells := 0, slots := 0, locals := 233 } (va_Pc [.ref (ad 0)] (cPre gT D ct (MW ct ad st) sz)) (va_Qi (qX3_isWell  st) (fun u => cB D ct (va_A (MW ct ad st) sz) (MW ct ad u)) (va_A (MW ct ad st) sz)) 0 0 (va_A (MW ct ad st) sz) := fun sz =>
  j_met (Qc := fun A => va_Qi (qX3_isWell  st) (fun u => cB D ct A (MW ct ad u)) A) (by decide) gT_ok (Nat.le_of_ble_eq_true rfl) (fun p e s m args below meth c A K hr _ _ => kX3_isWell_0 K hr  st (vcX3_isWell  st hp))
-- X3_fault
theorem kX3_fault_16 {p : Program} {l : Launch} {e : Env} {s : State} {m : MethodId} {args : Array Value} {below : List Frame} {meth : Method} {c : Code} {A : Nat → Prop} {D : va_G} {ct : Nat → ClassId} {ad : Nat → Nat} {post : Int32 → MS → Prop} (K : CX p s m args meth c cX3_fault 1 RX3 A D ct gT) (hr : meth.sig.returnType = (some .int))   (s0 : Int32) (st : MS) (h : wX3_fault_16 post  s0 st) : jJ p l e { frames := 11, cells := 0, slots := 0, locals := 254 } s m args below meth c (MQ below (va_Qi post (fun u => cB D ct A (MW ct ad u)) A) args s 0 0 A) A D 1 (MW ct ad st) 0 0 16 [] [.int s0] := by
  unfold wX3_fault_16 at h
  exact j_iret st K hr rfl h (Nat.le_of_ble_eq_true rfl) (Nat.le_of_ble_eq_true rfl) dX3_fault_16
theorem kX3_fault_12 {p : Program} {l : Launch} {e : Env} {s : State} {m : MethodId} {args : Array Value} {below : List Frame} {meth : Method} {c : Code} {A : Nat → Prop} {D : va_G} {ct : Nat → ClassId} {ad : Nat → Nat} {post : Int32 → MS → Prop} (K : CX p s m args meth c cX3_fault 1 RX3 A D ct gT) (hr : meth.sig.returnType = (some .int))    (st : MS) (h : wX3_fault_12 post  st) : jJ p l e { frames := 11, cells := 0, slots := 0, locals := 254 } s m args below meth c (MQ below (va_Qi post (fun u => cB D ct A (MW ct ad u)) A) args s 0 0 A) A D 1 (MW ct ad st) 0 0 12 [(0, .ref (ad 0))] [] := by
  unfold wX3_fault_12 at h
  refine j_aload_n K 0 dX3_fault_12 rfl rfl ?_
  refine mg_at K dX3_fault_13 ?_
  refine j_lv K [] (lv' := []) rfl ?_
  exact kX3_fault_16 K hr  (st.2 2) st h
theorem kX3_fault_7 {p : Program} {l : Launch} {e : Env} {s : State} {m : MethodId} {args : Array Value} {below : List Frame} {meth : Method} {c : Code} {A : Nat → Prop} {D : va_G} {ct : Nat → ClassId} {ad : Nat → Nat} {post : Int32 → MS → Prop} (K : CX p s m args meth c cX3_fault 1 RX3 A D ct gT) (hr : meth.sig.returnType = (some .int))    (st : MS) (h : wX3_fault_7 post  st) : jJ p l e { frames := 11, cells := 0, slots := 0, locals := 254 } s m args below meth c (MQ below (va_Qi post (fun u => cB D ct A (MW ct ad u)) A) args s 0 0 A) A D 1 (MW ct ad st) 0 0 7 [] [] := by
  unfold wX3_fault_7 at h
  refine j_bipush K (-6 : Int32) dX3_fault_7 (by decide) ?_
  refine j_goto K 16 dX3_fault_9 (by decide) ?_
  exact kX3_fault_16 K hr  (-6 : Int32) st h
theorem kX3_fault_0 {p : Program} {l : Launch} {e : Env} {s : State} {m : MethodId} {args : Array Value} {below : List Frame} {meth : Method} {c : Code} {A : Nat → Prop} {D : va_G} {ct : Nat → ClassId} {ad : Nat → Nat} {post : Int32 → MS → Prop} (K : CX p s m args meth c cX3_fault 1 RX3 A D ct gT) (hr : meth.sig.returnType = (some .int))    (st : MS) (h : wX3_fault_0 post  st) : jJ p l e { frames := 11, cells := 0, slots := 0, locals := 254 } s m args below meth c (MQ below (va_Qi post (fun u => cB D ct A (MW ct ad u)) A) args s 0 0 A) A D 1 (MW ct ad st) 0 0 0 [(0, .ref (ad 0))] [] := by
  unfold wX3_fault_0 at h
  refine j_aload_n K 0 dX3_fault_0 rfl rfl ?_
  obtain ⟨hp, h⟩ := h
  refine j_callVi K (As := []) (rest := []) (ctX3_isWell (l := l) (D := D) (ct := ct) (ad := ad)  st hp) gwX3_isWell gdX3_isWell ⟨Nat.le_of_ble_eq_true rfl, Nat.le_of_ble_eq_true rfl⟩ 0 rfl rfl rfl rfl rfl (Nat.le_of_ble_eq_true rfl) dX3_fault_1 ⟨Nat.le_of_ble_eq_true rfl, Nat.le_of_ble_eq_true rfl⟩ (fun r_1 st_2 hq => ?_)
  replace h := h r_1 st_2 hq
  refine j_if_eq K 12 dX3_fault_4 (by decide) (fun hc => ?_) (fun hc => ?_)
  · exact kX3_fault_12 K hr  st_2 (h.1 hc)
  · refine j_lv K [] (lv' := []) rfl ?_
    exact kX3_fault_7 K hr  st_2 (h.2 hc)
theorem cgX3_fault {l : Launch} {D : va_G} {ct : Nat → ClassId} {ad : Nat → Nat} {post : Int32 → MS → Prop}  (st : MS) (hw : wX3_fault_0 post  st) : ∀ sz, Met l yX3_fault (ws_ yX3_fault cX3_fault 1 (some .int)) { frames := 11, cells := 0, slots := 0, locals := 254 } (va_Pc [.ref (ad 0)] (cPre gT D ct (MW ct ad st) sz)) (va_Qi post (fun u => cB D ct (va_A (MW ct ad st) sz) (MW ct ad u)) (va_A (MW ct ad st) sz)) 0 0 (va_A (MW ct ad st) sz) := fun sz =>
  j_met (Qc := fun A => va_Qi post (fun u => cB D ct A (MW ct ad u)) A) (by decide) gT_ok (Nat.le_of_ble_eq_true rfl) (fun p e s m args below meth c A K hr _ _ => kX3_fault_0 K hr  st hw)
-- X3_carryOut
theorem kX3_carryOut_77 {p : Program} {l : Launch} {e : Env} {s : State} {m : MethodId} {args : Array Value} {below : List Frame} {meth : Method} {c : Code} {A : Nat → Prop} {D : va_G} {ct : Nat → ClassId} {ad : Nat → Nat} {post : Int32 → MS → Prop} (K : CX p s m args meth c cX3_carryOut 3 RX3 A D ct gT) (hr : meth.sig.returnType = (some .int))   (x1 : Int32) (st : MS) (h : wX3_carryOut_77 post  x1 st) : jJ p l e { frames := 11, cells := 0, slots := 0, locals := 254 } s m args below meth c (MQ below (va_Qi post (fun u => cB D ct A (MW ct ad u)) A) args s 0 0 A) A D 3 (MW ct ad st) 0 0 77 [(0, .ref (ad 0)), (1, .int x1)] [] := by
  unfold wX3_carryOut_77 at h
  refine j_aload_n K 0 dX3_carryOut_77 rfl rfl ?_
  refine j_iconst K (0 : Int32) dX3_carryOut_78 (by decide) ?_
  refine mp_length K dX3_carryOut_79 ?_
  refine j_aload_n K 0 dX3_carryOut_82 rfl rfl ?_
  refine j_iload_n K 1 dX3_carryOut_83 rfl rfl ?_
  obtain ⟨hp, h⟩ := h
  refine j_callVi K (As := [.int x1]) (rest := []) (ctX3_record (l := l) (D := D) (ct := ct) (ad := ad) x1 (mF st 1 (0 : Int32)) hp) gwX3_record gdX3_record ⟨Nat.le_of_ble_eq_true rfl, Nat.le_of_ble_eq_true rfl⟩ 0 rfl rfl rfl rfl rfl (Nat.le_of_ble_eq_true rfl) dX3_carryOut_84 ⟨Nat.le_of_ble_eq_true rfl, Nat.le_of_ble_eq_true rfl⟩ (fun r_1 st_2 hq => ?_)
  replace h := h r_1 st_2 hq
  exact j_iret st_2 K hr rfl h (Nat.le_of_ble_eq_true rfl) (Nat.le_of_ble_eq_true rfl) dX3_carryOut_87
theorem kX3_carryOut_62 {p : Program} {l : Launch} {e : Env} {s : State} {m : MethodId} {args : Array Value} {below : List Frame} {meth : Method} {c : Code} {A : Nat → Prop} {D : va_G} {ct : Nat → ClassId} {ad : Nat → Nat} {post : Int32 → MS → Prop} (K : CX p s m args meth c cX3_carryOut 3 RX3 A D ct gT) (hr : meth.sig.returnType = (some .int)) (L23 : Int32 → Int32 → MS → Prop) (hL23 : ∀ (x1 : Int32) (x2 : Int32) (st : MS), L23 x1 x2 st → jJ p l e { frames := 11, cells := 0, slots := 0, locals := 254 } s m args below meth c (MQ below (va_Qi post (fun u => cB D ct A (MW ct ad u)) A) args s 0 0 A) A D 3 (MW ct ad st) 0 0 23 [(0, .ref (ad 0)), (1, .int x1), (2, .int x2)] []) (x2 : Int32) (s0 : Int32) (s1 : Int32) (st : MS) (h : wX3_carryOut_62 post L23 x2 s0 s1 st) : jJ p l e { frames := 11, cells := 0, slots := 0, locals := 254 } s m args below meth c (MQ below (va_Qi post (fun u => cB D ct A (MW ct ad u)) A) args s 0 0 A) A D 3 (MW ct ad st) 0 0 62 [(0, .ref (ad 0)), (2, .int x2)] [.int s1, .int s0] := by
  unfold wX3_carryOut_62 at h
  refine j_iadd K dX3_carryOut_62 ?_
  refine j_istore_n K [(1, .int (s0 + s1)), (0, .ref (ad 0)), (2, .int x2)] dX3_carryOut_63 rfl (by decide) rfl ?_
  refine j_aload_n K 1 dX3_carryOut_64 rfl rfl ?_
  refine j_dup K dX3_carryOut_65 rfl ?_
  refine mg_at K dX3_carryOut_66 ?_
  refine j_iconst K (1 : Int32) dX3_carryOut_69 (by decide) ?_
  refine j_iadd K dX3_carryOut_70 ?_
  refine mp_at K dX3_carryOut_71 ?_
  refine j_goto K 23 dX3_carryOut_74 (by decide) ?_
  refine j_lv K [1, 0, 2] (lv' := [(0, .ref (ad 0)), (1, .int (s0 + s1)), (2, .int x2)]) rfl ?_
  exact hL23 (s0 + s1) x2 (mF st 2 ((st.2 2) + (1 : Int32))) h
theorem kX3_carryOut_61 {p : Program} {l : Launch} {e : Env} {s : State} {m : MethodId} {args : Array Value} {below : List Frame} {meth : Method} {c : Code} {A : Nat → Prop} {D : va_G} {ct : Nat → ClassId} {ad : Nat → Nat} {post : Int32 → MS → Prop} (K : CX p s m args meth c cX3_carryOut 3 RX3 A D ct gT) (hr : meth.sig.returnType = (some .int)) (L23 : Int32 → Int32 → MS → Prop) (hL23 : ∀ (x1 : Int32) (x2 : Int32) (st : MS), L23 x1 x2 st → jJ p l e { frames := 11, cells := 0, slots := 0, locals := 254 } s m args below meth c (MQ below (va_Qi post (fun u => cB D ct A (MW ct ad u)) A) args s 0 0 A) A D 3 (MW ct ad st) 0 0 23 [(0, .ref (ad 0)), (1, .int x1), (2, .int x2)] []) (x2 : Int32) (s0 : Int32) (st : MS) (h : wX3_carryOut_61 post L23 x2 s0 st) : jJ p l e { frames := 11, cells := 0, slots := 0, locals := 254 } s m args below meth c (MQ below (va_Qi post (fun u => cB D ct A (MW ct ad u)) A) args s 0 0 A) A D 3 (MW ct ad st) 0 0 61 [(0, .ref (ad 0)), (2, .int x2)] [.int s0] := by
  unfold wX3_carryOut_61 at h
  refine j_iconst K (0 : Int32) dX3_carryOut_61 (by decide) ?_
  exact kX3_carryOut_62 K hr L23 hL23 x2 s0 (0 : Int32) st h
theorem kX3_carryOut_57 {p : Program} {l : Launch} {e : Env} {s : State} {m : MethodId} {args : Array Value} {below : List Frame} {meth : Method} {c : Code} {A : Nat → Prop} {D : va_G} {ct : Nat → ClassId} {ad : Nat → Nat} {post : Int32 → MS → Prop} (K : CX p s m args meth c cX3_carryOut 3 RX3 A D ct gT) (hr : meth.sig.returnType = (some .int)) (L23 : Int32 → Int32 → MS → Prop) (hL23 : ∀ (x1 : Int32) (x2 : Int32) (st : MS), L23 x1 x2 st → jJ p l e { frames := 11, cells := 0, slots := 0, locals := 254 } s m args below meth c (MQ below (va_Qi post (fun u => cB D ct A (MW ct ad u)) A) args s 0 0 A) A D 3 (MW ct ad st) 0 0 23 [(0, .ref (ad 0)), (1, .int x1), (2, .int x2)] []) (x2 : Int32) (s0 : Int32) (st : MS) (h : wX3_carryOut_57 post L23 x2 s0 st) : jJ p l e { frames := 11, cells := 0, slots := 0, locals := 254 } s m args below meth c (MQ below (va_Qi post (fun u => cB D ct A (MW ct ad u)) A) args s 0 0 A) A D 3 (MW ct ad st) 0 0 57 [(0, .ref (ad 0)), (2, .int x2)] [.int s0] := by
  unfold wX3_carryOut_57 at h
  refine j_iconst K (1 : Int32) dX3_carryOut_57 (by decide) ?_
  refine j_goto K 62 dX3_carryOut_58 (by decide) ?_
  exact kX3_carryOut_62 K hr L23 hL23 x2 s0 (1 : Int32) st h
theorem kX3_carryOut_51 {p : Program} {l : Launch} {e : Env} {s : State} {m : MethodId} {args : Array Value} {below : List Frame} {meth : Method} {c : Code} {A : Nat → Prop} {D : va_G} {ct : Nat → ClassId} {ad : Nat → Nat} {post : Int32 → MS → Prop} (K : CX p s m args meth c cX3_carryOut 3 RX3 A D ct gT) (hr : meth.sig.returnType = (some .int)) (L23 : Int32 → Int32 → MS → Prop) (hL23 : ∀ (x1 : Int32) (x2 : Int32) (st : MS), L23 x1 x2 st → jJ p l e { frames := 11, cells := 0, slots := 0, locals := 254 } s m args below meth c (MQ below (va_Qi post (fun u => cB D ct A (MW ct ad u)) A) args s 0 0 A) A D 3 (MW ct ad st) 0 0 23 [(0, .ref (ad 0)), (1, .int x1), (2, .int x2)] []) (x1 : Int32) (s0 : Int32) (st : MS) (h : wX3_carryOut_51 post L23 x1 s0 st) : jJ p l e { frames := 11, cells := 0, slots := 0, locals := 254 } s m args below meth c (MQ below (va_Qi post (fun u => cB D ct A (MW ct ad u)) A) args s 0 0 A) A D 3 (MW ct ad st) 0 0 51 [(0, .ref (ad 0)), (1, .int x1)] [.int s0] := by
  unfold wX3_carryOut_51 at h
  refine j_istore_n K [(2, .int s0), (0, .ref (ad 0)), (1, .int x1)] dX3_carryOut_51 rfl (by decide) rfl ?_
  refine j_iload_n K 2 dX3_carryOut_52 rfl rfl ?_
  refine j_iload_n K 0 dX3_carryOut_53 rfl rfl ?_
  refine j_if_eq K 61 dX3_carryOut_54 (by decide) (fun hc => ?_) (fun hc => ?_)
  · refine j_lv K [1, 0] (lv' := [(0, .ref (ad 0)), (2, .int s0)]) rfl ?_
    exact kX3_carryOut_61 K hr L23 hL23 s0 x1 st (h.1 hc)
  · refine j_lv K [1, 0] (lv' := [(0, .ref (ad 0)), (2, .int s0)]) rfl ?_
    exact kX3_carryOut_57 K hr L23 hL23 s0 x1 st (h.2 hc)
theorem kX3_carryOut_50 {p : Program} {l : Launch} {e : Env} {s : State} {m : MethodId} {args : Array Value} {below : List Frame} {meth : Method} {c : Code} {A : Nat → Prop} {D : va_G} {ct : Nat → ClassId} {ad : Nat → Nat} {post : Int32 → MS → Prop} (K : CX p s m args meth c cX3_carryOut 3 RX3 A D ct gT) (hr : meth.sig.returnType = (some .int)) (L23 : Int32 → Int32 → MS → Prop) (hL23 : ∀ (x1 : Int32) (x2 : Int32) (st : MS), L23 x1 x2 st → jJ p l e { frames := 11, cells := 0, slots := 0, locals := 254 } s m args below meth c (MQ below (va_Qi post (fun u => cB D ct A (MW ct ad u)) A) args s 0 0 A) A D 3 (MW ct ad st) 0 0 23 [(0, .ref (ad 0)), (1, .int x1), (2, .int x2)] []) (x1 : Int32) (st : MS) (h : wX3_carryOut_50 post L23 x1 st) : jJ p l e { frames := 11, cells := 0, slots := 0, locals := 254 } s m args below meth c (MQ below (va_Qi post (fun u => cB D ct A (MW ct ad u)) A) args s 0 0 A) A D 3 (MW ct ad st) 0 0 50 [(0, .ref (ad 0)), (1, .int x1)] [] := by
  unfold wX3_carryOut_50 at h
  refine j_iconst K (0 : Int32) dX3_carryOut_50 (by decide) ?_
  exact kX3_carryOut_51 K hr L23 hL23 x1 (0 : Int32) st h
theorem kX3_carryOut_46 {p : Program} {l : Launch} {e : Env} {s : State} {m : MethodId} {args : Array Value} {below : List Frame} {meth : Method} {c : Code} {A : Nat → Prop} {D : va_G} {ct : Nat → ClassId} {ad : Nat → Nat} {post : Int32 → MS → Prop} (K : CX p s m args meth c cX3_carryOut 3 RX3 A D ct gT) (hr : meth.sig.returnType = (some .int)) (L23 : Int32 → Int32 → MS → Prop) (hL23 : ∀ (x1 : Int32) (x2 : Int32) (st : MS), L23 x1 x2 st → jJ p l e { frames := 11, cells := 0, slots := 0, locals := 254 } s m args below meth c (MQ below (va_Qi post (fun u => cB D ct A (MW ct ad u)) A) args s 0 0 A) A D 3 (MW ct ad st) 0 0 23 [(0, .ref (ad 0)), (1, .int x1), (2, .int x2)] []) (x1 : Int32) (st : MS) (h : wX3_carryOut_46 post L23 x1 st) : jJ p l e { frames := 11, cells := 0, slots := 0, locals := 254 } s m args below meth c (MQ below (va_Qi post (fun u => cB D ct A (MW ct ad u)) A) args s 0 0 A) A D 3 (MW ct ad st) 0 0 46 [(0, .ref (ad 0)), (1, .int x1)] [] := by
  unfold wX3_carryOut_46 at h
  refine j_iconst K (1 : Int32) dX3_carryOut_46 (by decide) ?_
  refine j_goto K 51 dX3_carryOut_47 (by decide) ?_
  exact kX3_carryOut_51 K hr L23 hL23 x1 (1 : Int32) st h
theorem kX3_carryOut_38 {p : Program} {l : Launch} {e : Env} {s : State} {m : MethodId} {args : Array Value} {below : List Frame} {meth : Method} {c : Code} {A : Nat → Prop} {D : va_G} {ct : Nat → ClassId} {ad : Nat → Nat} {post : Int32 → MS → Prop} (K : CX p s m args meth c cX3_carryOut 3 RX3 A D ct gT) (hr : meth.sig.returnType = (some .int)) (L23 : Int32 → Int32 → MS → Prop) (hL23 : ∀ (x1 : Int32) (x2 : Int32) (st : MS), L23 x1 x2 st → jJ p l e { frames := 11, cells := 0, slots := 0, locals := 254 } s m args below meth c (MQ below (va_Qi post (fun u => cB D ct A (MW ct ad u)) A) args s 0 0 A) A D 3 (MW ct ad st) 0 0 23 [(0, .ref (ad 0)), (1, .int x1), (2, .int x2)] []) (x1 : Int32) (st : MS) (h : wX3_carryOut_38 post L23 x1 st) : jJ p l e { frames := 11, cells := 0, slots := 0, locals := 254 } s m args below meth c (MQ below (va_Qi post (fun u => cB D ct A (MW ct ad u)) A) args s 0 0 A) A D 3 (MW ct ad st) 0 0 38 [(0, .ref (ad 0)), (1, .int x1)] [] := by
  unfold wX3_carryOut_38 at h
  refine j_aload_n K 0 dX3_carryOut_38 rfl rfl ?_
  refine j_iconst K (1 : Int32) dX3_carryOut_39 (by decide) ?_
  obtain ⟨hp, h⟩ := h
  refine j_callVi K (As := [.int (1 : Int32)]) (rest := []) (ctX3_order (l := l) (D := D) (ct := ct) (ad := ad) (1 : Int32) st hp) gwX3_order gdX3_order ⟨Nat.le_of_ble_eq_true rfl, Nat.le_of_ble_eq_true rfl⟩ 0 rfl rfl rfl rfl rfl (Nat.le_of_ble_eq_true rfl) dX3_carryOut_40 ⟨Nat.le_of_ble_eq_true rfl, Nat.le_of_ble_eq_true rfl⟩ (fun r_1 st_2 hq => ?_)
  replace h := h r_1 st_2 hq
  refine j_if_lt K 50 dX3_carryOut_43 (by decide) (fun hc => ?_) (fun hc => ?_)
  · exact kX3_carryOut_50 K hr L23 hL23 x1 st_2 (h.1 hc)
  · exact kX3_carryOut_46 K hr L23 hL23 x1 st_2 (h.2 hc)
theorem kX3_carryOut_27 {p : Program} {l : Launch} {e : Env} {s : State} {m : MethodId} {args : Array Value} {below : List Frame} {meth : Method} {c : Code} {A : Nat → Prop} {D : va_G} {ct : Nat → ClassId} {ad : Nat → Nat} {post : Int32 → MS → Prop} (K : CX p s m args meth c cX3_carryOut 3 RX3 A D ct gT) (hr : meth.sig.returnType = (some .int)) (L23 : Int32 → Int32 → MS → Prop) (hL23 : ∀ (x1 : Int32) (x2 : Int32) (st : MS), L23 x1 x2 st → jJ p l e { frames := 11, cells := 0, slots := 0, locals := 254 } s m args below meth c (MQ below (va_Qi post (fun u => cB D ct A (MW ct ad u)) A) args s 0 0 A) A D 3 (MW ct ad st) 0 0 23 [(0, .ref (ad 0)), (1, .int x1), (2, .int x2)] []) (x1 : Int32) (st : MS) (h : wX3_carryOut_27 post L23 x1 st) : jJ p l e { frames := 11, cells := 0, slots := 0, locals := 254 } s m args below meth c (MQ below (va_Qi post (fun u => cB D ct A (MW ct ad u)) A) args s 0 0 A) A D 3 (MW ct ad st) 0 0 27 [(0, .ref (ad 0)), (1, .int x1)] [] := by
  unfold wX3_carryOut_27 at h
  refine j_aload_n K 0 dX3_carryOut_27 rfl rfl ?_
  refine mg_at K dX3_carryOut_28 ?_
  refine j_aload_n K 0 dX3_carryOut_31 rfl rfl ?_
  refine mg_length K dX3_carryOut_32 ?_
  refine j_icmp_ge K 77 dX3_carryOut_35 (by decide) (fun hc => ?_) (fun hc => ?_)
  · exact kX3_carryOut_77 K hr  x1 st (h.1 hc)
  · exact kX3_carryOut_38 K hr L23 hL23 x1 st (h.2 hc)
theorem kX3_carryOut_23_b {p : Program} {l : Launch} {e : Env} {s : State} {m : MethodId} {args : Array Value} {below : List Frame} {meth : Method} {c : Code} {A : Nat → Prop} {D : va_G} {ct : Nat → ClassId} {ad : Nat → Nat} {post : Int32 → MS → Prop} (K : CX p s m args meth c cX3_carryOut 3 RX3 A D ct gT) (hr : meth.sig.returnType = (some .int)) (L23 : Int32 → Int32 → MS → Prop) (hL23 : ∀ (x1 : Int32) (x2 : Int32) (st : MS), L23 x1 x2 st → jJ p l e { frames := 11, cells := 0, slots := 0, locals := 254 } s m args below meth c (MQ below (va_Qi post (fun u => cB D ct A (MW ct ad u)) A) args s 0 0 A) A D 3 (MW ct ad st) 0 0 23 [(0, .ref (ad 0)), (1, .int x1), (2, .int x2)] []) (x1 : Int32) (x2 : Int32) (st : MS) (h : wX3_carryOut_23_b post L23 x1 x2 st) : jJ p l e { frames := 11, cells := 0, slots := 0, locals := 254 } s m args below meth c (MQ below (va_Qi post (fun u => cB D ct A (MW ct ad u)) A) args s 0 0 A) A D 3 (MW ct ad st) 0 0 23 [(0, .ref (ad 0)), (1, .int x1), (2, .int x2)] [] := by
  unfold wX3_carryOut_23_b at h
  refine j_iload_n K 2 dX3_carryOut_23 rfl rfl ?_
  refine j_if_eq K 77 dX3_carryOut_24 (by decide) (fun hc => ?_) (fun hc => ?_)
  · refine j_lv K [0, 1] (lv' := [(0, .ref (ad 0)), (1, .int x1)]) rfl ?_
    exact kX3_carryOut_77 K hr  x1 st (h.1 hc)
  · refine j_lv K [0, 1] (lv' := [(0, .ref (ad 0)), (1, .int x1)]) rfl ?_
    exact kX3_carryOut_27 K hr L23 hL23 x1 st (h.2 hc)
theorem kX3_carryOut_23 {p : Program} {l : Launch} {e : Env} {s : State} {m : MethodId} {args : Array Value} {below : List Frame} {meth : Method} {c : Code} {A : Nat → Prop} {D : va_G} {ct : Nat → ClassId} {ad : Nat → Nat} {post : Int32 → MS → Prop} (K : CX p s m args meth c cX3_carryOut 3 RX3 A D ct gT) (hr : meth.sig.returnType = (some .int))   (x1 : Int32) (x2 : Int32) (st : MS) (h : wX3_carryOut_23 post  x1 x2 st) : jJ p l e { frames := 11, cells := 0, slots := 0, locals := 254 } s m args below meth c (MQ below (va_Qi post (fun u => cB D ct A (MW ct ad u)) A) args s 0 0 A) A D 3 (MW ct ad st) 0 0 23 [(0, .ref (ad 0)), (1, .int x1), (2, .int x2)] [] :=
  wloop_sound (V := Int32 × Int32 × MS) (Wk := fun v => jJ p l e { frames := 11, cells := 0, slots := 0, locals := 254 } s m args below meth c (MQ below (va_Qi post (fun u => cB D ct A (MW ct ad u)) A) args s 0 0 A) A D 3 (MW ct ad v.2.2) 0 0 23 [(0, .ref (ad 0)), (1, .int v.1), (2, .int v.2.1)] []) (fun L hL v hb => kX3_carryOut_23_b K hr (fun x1 x2 st => L (x1, x2, st)) (fun x1 x2 st hx => hL (x1, x2, st) hx) v.1 v.2.1 v.2.2 hb) h
theorem kX3_carryOut_10 {p : Program} {l : Launch} {e : Env} {s : State} {m : MethodId} {args : Array Value} {below : List Frame} {meth : Method} {c : Code} {A : Nat → Prop} {D : va_G} {ct : Nat → ClassId} {ad : Nat → Nat} {post : Int32 → MS → Prop} (K : CX p s m args meth c cX3_carryOut 3 RX3 A D ct gT) (hr : meth.sig.returnType = (some .int))    (st : MS) (h : wX3_carryOut_10 post  st) : jJ p l e { frames := 11, cells := 0, slots := 0, locals := 254 } s m args below meth c (MQ below (va_Qi post (fun u => cB D ct A (MW ct ad u)) A) args s 0 0 A) A D 3 (MW ct ad st) 0 0 10 [(0, .ref (ad 0))] [] := by
  unfold wX3_carryOut_10 at h
  refine j_aload_n K 0 dX3_carryOut_10 rfl rfl ?_
  obtain ⟨hp, h⟩ := h
  refine j_callVv K (As := []) (rest := []) (ctX3_remember (l := l) (D := D) (ct := ct) (ad := ad)  st hp) gwX3_remember gdX3_remember ⟨Nat.le_of_ble_eq_true rfl, Nat.le_of_ble_eq_true rfl⟩ 0 rfl rfl rfl rfl rfl (Nat.le_of_ble_eq_true rfl) dX3_carryOut_11 ⟨Nat.le_of_ble_eq_true rfl, Nat.le_of_ble_eq_true rfl⟩ (fun st_1 hq => ?_)
  replace h := h st_1 hq
  refine j_aload_n K 0 dX3_carryOut_14 rfl rfl ?_
  refine j_iconst K (0 : Int32) dX3_carryOut_15 (by decide) ?_
  refine mp_at K dX3_carryOut_16 ?_
  refine j_iconst K (0 : Int32) dX3_carryOut_19 (by decide) ?_
  refine j_istore_n K [(1, .int (0 : Int32)), (0, .ref (ad 0))] dX3_carryOut_20 rfl (by decide) rfl ?_
  refine j_iconst K (1 : Int32) dX3_carryOut_21 (by decide) ?_
  refine j_istore_n K [(2, .int (1 : Int32)), (1, .int (0 : Int32)), (0, .ref (ad 0))] dX3_carryOut_22 rfl (by decide) rfl ?_
  refine j_lv K [2, 1, 0] (lv' := [(0, .ref (ad 0)), (1, .int (0 : Int32)), (2, .int (1 : Int32))]) rfl ?_
  exact kX3_carryOut_23 K hr  (0 : Int32) (1 : Int32) (mF st_1 2 (0 : Int32)) h
theorem kX3_carryOut_7 {p : Program} {l : Launch} {e : Env} {s : State} {m : MethodId} {args : Array Value} {below : List Frame} {meth : Method} {c : Code} {A : Nat → Prop} {D : va_G} {ct : Nat → ClassId} {ad : Nat → Nat} {post : Int32 → MS → Prop} (K : CX p s m args meth c cX3_carryOut 3 RX3 A D ct gT) (hr : meth.sig.returnType = (some .int))    (st : MS) (h : wX3_carryOut_7 post  st) : jJ p l e { frames := 11, cells := 0, slots := 0, locals := 254 } s m args below meth c (MQ below (va_Qi post (fun u => cB D ct A (MW ct ad u)) A) args s 0 0 A) A D 3 (MW ct ad st) 0 0 7 [] [] := by
  unfold wX3_carryOut_7 at h
  refine j_bipush K (-3 : Int32) dX3_carryOut_7 (by decide) ?_
  exact j_iret st K hr rfl h (Nat.le_of_ble_eq_true rfl) (Nat.le_of_ble_eq_true rfl) dX3_carryOut_9
theorem kX3_carryOut_0 {p : Program} {l : Launch} {e : Env} {s : State} {m : MethodId} {args : Array Value} {below : List Frame} {meth : Method} {c : Code} {A : Nat → Prop} {D : va_G} {ct : Nat → ClassId} {ad : Nat → Nat} {post : Int32 → MS → Prop} (K : CX p s m args meth c cX3_carryOut 3 RX3 A D ct gT) (hr : meth.sig.returnType = (some .int))    (st : MS) (h : wX3_carryOut_0 post  st) : jJ p l e { frames := 11, cells := 0, slots := 0, locals := 254 } s m args below meth c (MQ below (va_Qi post (fun u => cB D ct A (MW ct ad u)) A) args s 0 0 A) A D 3 (MW ct ad st) 0 0 0 [(0, .ref (ad 0))] [] := by
  unfold wX3_carryOut_0 at h
  refine j_aload_n K 0 dX3_carryOut_0 rfl rfl ?_
  obtain ⟨hp, h⟩ := h
  refine j_callVi K (As := []) (rest := []) (ctX3_isWell (l := l) (D := D) (ct := ct) (ad := ad)  st hp) gwX3_isWell gdX3_isWell ⟨Nat.le_of_ble_eq_true rfl, Nat.le_of_ble_eq_true rfl⟩ 0 rfl rfl rfl rfl rfl (Nat.le_of_ble_eq_true rfl) dX3_carryOut_1 ⟨Nat.le_of_ble_eq_true rfl, Nat.le_of_ble_eq_true rfl⟩ (fun r_1 st_2 hq => ?_)
  replace h := h r_1 st_2 hq
  refine j_if_ne K 10 dX3_carryOut_4 (by decide) (fun hc => ?_) (fun hc => ?_)
  · exact kX3_carryOut_10 K hr  st_2 (h.1 hc)
  · refine j_lv K [] (lv' := []) rfl ?_
    exact kX3_carryOut_7 K hr  st_2 (h.2 hc)
theorem cgX3_carryOut {l : Launch} {D : va_G} {ct : Nat → ClassId} {ad : Nat → Nat} {post : Int32 → MS → Prop}  (st : MS) (hw : wX3_carryOut_0 post  st) : ∀ sz, Met l yX3_carryOut (ws_ yX3_carryOut cX3_carryOut 3 (some .int)) { frames := 11, cells := 0, slots := 0, locals := 254 } (va_Pc [.ref (ad 0)] (cPre gT D ct (MW ct ad st) sz)) (va_Qi post (fun u => cB D ct (va_A (MW ct ad st) sz) (MW ct ad u)) (va_A (MW ct ad st) sz)) 0 0 (va_A (MW ct ad st) sz) := fun sz =>
  j_met (Qc := fun A => va_Qi post (fun u => cB D ct A (MW ct ad u)) A) (by decide) gT_ok (Nat.le_of_ble_eq_true rfl) (fun p e s m args below meth c A K hr _ _ => kX3_carryOut_0 K hr  st hw)
