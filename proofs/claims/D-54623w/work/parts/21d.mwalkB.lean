/-! WALKS and CONTRACTS of the reference, printed by gen_model.py -/
-- X3_found
theorem gwX3_found : GoodIn lw_all (wsV RX3 102 RX3 yX3_found (ws_ yX3_found cX3_found 7 (some .int))) := lw_V q1183 q1185 qs63 q84 q1186
theorem gdX3_found : yX3_found.cls = RX3 ∧ yX3_found.cls ≠ "java/lang/invoke/MethodHandle" ∧ yX3_found.cls ≠ "java/lang/invoke/VarHandle" ∧ (parseMethodDescriptor yX3_found.desc).map (fun d => d.parameters.length) = some 3 := by decide +kernel
theorem kX3_found_96 {p : Program} {l : Launch} {e : Env} {s : State} {m : MethodId} {args : Array Value} {below : List Frame} {meth : Method} {c : Code} {A : Nat → Prop} {D : va_G} {ct : Nat → ClassId} {ad : Nat → Nat} {post : Int32 → MS → Prop} (K : CX p s m args meth c cX3_found 7 RX3 A D ct gT) (hr : meth.sig.returnType = (some .int))   (s0 : Int32) (st : MS) (h : wX3_found_96 post  s0 st) : jJ p l e { frames := 3, cells := 0, slots := 0, locals := 69 } s m args below meth c (MQ below (va_Qi post (fun u => cB D ct A (MW ct ad u)) A) args s 0 0 A) A D 7 (MW ct ad st) 0 0 96 [] [.int s0] := by
  unfold wX3_found_96 at h
  exact j_iret st K hr rfl h (Nat.le_of_ble_eq_true rfl) (Nat.le_of_ble_eq_true rfl) dX3_found_96
theorem kX3_found_93 {p : Program} {l : Launch} {e : Env} {s : State} {m : MethodId} {args : Array Value} {below : List Frame} {meth : Method} {c : Code} {A : Nat → Prop} {D : va_G} {ct : Nat → ClassId} {ad : Nat → Nat} {post : Int32 → MS → Prop} (K : CX p s m args meth c cX3_found 7 RX3 A D ct gT) (hr : meth.sig.returnType = (some .int))    (st : MS) (h : wX3_found_93 post  st) : jJ p l e { frames := 3, cells := 0, slots := 0, locals := 69 } s m args below meth c (MQ below (va_Qi post (fun u => cB D ct A (MW ct ad u)) A) args s 0 0 A) A D 7 (MW ct ad st) 0 0 93 [] [] := by
  unfold wX3_found_93 at h
  refine j_sipush K (1000 : Int32) dX3_found_93 (by decide) ?_
  exact kX3_found_96 K hr  (1000 : Int32) st h
theorem kX3_found_87 {p : Program} {l : Launch} {e : Env} {s : State} {m : MethodId} {args : Array Value} {below : List Frame} {meth : Method} {c : Code} {A : Nat → Prop} {D : va_G} {ct : Nat → ClassId} {ad : Nat → Nat} {post : Int32 → MS → Prop} (K : CX p s m args meth c cX3_found 7 RX3 A D ct gT) (hr : meth.sig.returnType = (some .int))   (x3 : Int32) (st : MS) (h : wX3_found_87 post  x3 st) : jJ p l e { frames := 3, cells := 0, slots := 0, locals := 69 } s m args below meth c (MQ below (va_Qi post (fun u => cB D ct A (MW ct ad u)) A) args s 0 0 A) A D 7 (MW ct ad st) 0 0 87 [(3, .int x3)] [] := by
  unfold wX3_found_87 at h
  refine j_iconst K (-1 : Int32) dX3_found_87 (by decide) ?_
  refine j_iload_n K 0 dX3_found_88 rfl rfl ?_
  refine j_isub K dX3_found_89 ?_
  refine j_goto K 96 dX3_found_90 (by decide) ?_
  refine j_lv K [] (lv' := []) rfl ?_
  exact kX3_found_96 K hr  ((-1 : Int32) - x3) st h
theorem kX3_found_82 {p : Program} {l : Launch} {e : Env} {s : State} {m : MethodId} {args : Array Value} {below : List Frame} {meth : Method} {c : Code} {A : Nat → Prop} {D : va_G} {ct : Nat → ClassId} {ad : Nat → Nat} {post : Int32 → MS → Prop} (K : CX p s m args meth c cX3_found 7 RX3 A D ct gT) (hr : meth.sig.returnType = (some .int))   (x3 : Int32) (x4 : Int32) (st : MS) (h : wX3_found_82 post  x3 x4 st) : jJ p l e { frames := 3, cells := 0, slots := 0, locals := 69 } s m args below meth c (MQ below (va_Qi post (fun u => cB D ct A (MW ct ad u)) A) args s 0 0 A) A D 7 (MW ct ad st) 0 0 82 [(3, .int x3), (4, .int x4)] [] := by
  unfold wX3_found_82 at h
  refine j_iload K 1 dX3_found_82 rfl ?_
  refine j_if_eq K 93 dX3_found_84 (by decide) (fun hc => ?_) (fun hc => ?_)
  · refine j_lv K [] (lv' := []) rfl ?_
    exact kX3_found_93 K hr  st (h.1 hc)
  · refine j_lv K [0] (lv' := [(3, .int x3)]) rfl ?_
    exact kX3_found_87 K hr  x3 st (h.2 hc)
theorem kX3_found_74 {p : Program} {l : Launch} {e : Env} {s : State} {m : MethodId} {args : Array Value} {below : List Frame} {meth : Method} {c : Code} {A : Nat → Prop} {D : va_G} {ct : Nat → ClassId} {ad : Nat → Nat} {post : Int32 → MS → Prop} (K : CX p s m args meth c cX3_found 7 RX3 A D ct gT) (hr : meth.sig.returnType = (some .int)) (L15 : Int32 → Int32 → Int32 → Int32 → MS → Prop) (hL15 : ∀ (x1 : Int32) (x3 : Int32) (x4 : Int32) (x5 : Int32) (st : MS), L15 x1 x3 x4 x5 st → jJ p l e { frames := 3, cells := 0, slots := 0, locals := 69 } s m args below meth c (MQ below (va_Qi post (fun u => cB D ct A (MW ct ad u)) A) args s 0 0 A) A D 7 (MW ct ad st) 0 0 15 [(0, .ref (ad 0)), (1, .int x1), (3, .int x3), (4, .int x4), (5, .int x5)] []) (x1 : Int32) (x3 : Int32) (x5 : Int32) (s0 : Int32) (st : MS) (h : wX3_found_74 post L15 x1 x3 x5 s0 st) : jJ p l e { frames := 3, cells := 0, slots := 0, locals := 69 } s m args below meth c (MQ below (va_Qi post (fun u => cB D ct A (MW ct ad u)) A) args s 0 0 A) A D 7 (MW ct ad st) 0 0 74 [(0, .ref (ad 0)), (1, .int x1), (3, .int x3), (5, .int x5)] [.int s0] := by
  unfold wX3_found_74 at h
  refine j_istore K [(4, .int s0), (0, .ref (ad 0)), (1, .int x1), (3, .int x3), (5, .int x5)] dX3_found_74 (by decide) rfl ?_
  refine j_iinc K 4 (x5 + (1 : Int32)) [(5, .int (x5 + (1 : Int32))), (4, .int s0), (0, .ref (ad 0)), (1, .int x1), (3, .int x3)] dX3_found_76 rfl rfl (by decide) rfl ?_
  refine j_goto K 15 dX3_found_79 (by decide) ?_
  refine j_lv K [2, 3, 4, 1, 0] (lv' := [(0, .ref (ad 0)), (1, .int x1), (3, .int x3), (4, .int s0), (5, .int (x5 + (1 : Int32)))]) rfl ?_
  exact hL15 x1 x3 s0 (x5 + (1 : Int32)) st h
theorem kX3_found_73 {p : Program} {l : Launch} {e : Env} {s : State} {m : MethodId} {args : Array Value} {below : List Frame} {meth : Method} {c : Code} {A : Nat → Prop} {D : va_G} {ct : Nat → ClassId} {ad : Nat → Nat} {post : Int32 → MS → Prop} (K : CX p s m args meth c cX3_found 7 RX3 A D ct gT) (hr : meth.sig.returnType = (some .int)) (L15 : Int32 → Int32 → Int32 → Int32 → MS → Prop) (hL15 : ∀ (x1 : Int32) (x3 : Int32) (x4 : Int32) (x5 : Int32) (st : MS), L15 x1 x3 x4 x5 st → jJ p l e { frames := 3, cells := 0, slots := 0, locals := 69 } s m args below meth c (MQ below (va_Qi post (fun u => cB D ct A (MW ct ad u)) A) args s 0 0 A) A D 7 (MW ct ad st) 0 0 15 [(0, .ref (ad 0)), (1, .int x1), (3, .int x3), (4, .int x4), (5, .int x5)] []) (x1 : Int32) (x3 : Int32) (x5 : Int32) (st : MS) (h : wX3_found_73 post L15 x1 x3 x5 st) : jJ p l e { frames := 3, cells := 0, slots := 0, locals := 69 } s m args below meth c (MQ below (va_Qi post (fun u => cB D ct A (MW ct ad u)) A) args s 0 0 A) A D 7 (MW ct ad st) 0 0 73 [(0, .ref (ad 0)), (1, .int x1), (3, .int x3), (5, .int x5)] [] := by
  unfold wX3_found_73 at h
  refine j_iconst K (0 : Int32) dX3_found_73 (by decide) ?_
  exact kX3_found_74 K hr L15 hL15 x1 x3 x5 (0 : Int32) st h
theorem kX3_found_69 {p : Program} {l : Launch} {e : Env} {s : State} {m : MethodId} {args : Array Value} {below : List Frame} {meth : Method} {c : Code} {A : Nat → Prop} {D : va_G} {ct : Nat → ClassId} {ad : Nat → Nat} {post : Int32 → MS → Prop} (K : CX p s m args meth c cX3_found 7 RX3 A D ct gT) (hr : meth.sig.returnType = (some .int)) (L15 : Int32 → Int32 → Int32 → Int32 → MS → Prop) (hL15 : ∀ (x1 : Int32) (x3 : Int32) (x4 : Int32) (x5 : Int32) (st : MS), L15 x1 x3 x4 x5 st → jJ p l e { frames := 3, cells := 0, slots := 0, locals := 69 } s m args below meth c (MQ below (va_Qi post (fun u => cB D ct A (MW ct ad u)) A) args s 0 0 A) A D 7 (MW ct ad st) 0 0 15 [(0, .ref (ad 0)), (1, .int x1), (3, .int x3), (4, .int x4), (5, .int x5)] []) (x1 : Int32) (x3 : Int32) (x5 : Int32) (st : MS) (h : wX3_found_69 post L15 x1 x3 x5 st) : jJ p l e { frames := 3, cells := 0, slots := 0, locals := 69 } s m args below meth c (MQ below (va_Qi post (fun u => cB D ct A (MW ct ad u)) A) args s 0 0 A) A D 7 (MW ct ad st) 0 0 69 [(0, .ref (ad 0)), (1, .int x1), (3, .int x3), (5, .int x5)] [] := by
  unfold wX3_found_69 at h
  refine j_iconst K (1 : Int32) dX3_found_69 (by decide) ?_
  refine j_goto K 74 dX3_found_70 (by decide) ?_
  exact kX3_found_74 K hr L15 hL15 x1 x3 x5 (1 : Int32) st h
theorem kX3_found_63 {p : Program} {l : Launch} {e : Env} {s : State} {m : MethodId} {args : Array Value} {below : List Frame} {meth : Method} {c : Code} {A : Nat → Prop} {D : va_G} {ct : Nat → ClassId} {ad : Nat → Nat} {post : Int32 → MS → Prop} (K : CX p s m args meth c cX3_found 7 RX3 A D ct gT) (hr : meth.sig.returnType = (some .int)) (L15 : Int32 → Int32 → Int32 → Int32 → MS → Prop) (hL15 : ∀ (x1 : Int32) (x3 : Int32) (x4 : Int32) (x5 : Int32) (st : MS), L15 x1 x3 x4 x5 st → jJ p l e { frames := 3, cells := 0, slots := 0, locals := 69 } s m args below meth c (MQ below (va_Qi post (fun u => cB D ct A (MW ct ad u)) A) args s 0 0 A) A D 7 (MW ct ad st) 0 0 15 [(0, .ref (ad 0)), (1, .int x1), (3, .int x3), (4, .int x4), (5, .int x5)] []) (x1 : Int32) (x3 : Int32) (x5 : Int32) (x6 : Int32) (st : MS) (h : wX3_found_63 post L15 x1 x3 x5 x6 st) : jJ p l e { frames := 3, cells := 0, slots := 0, locals := 69 } s m args below meth c (MQ below (va_Qi post (fun u => cB D ct A (MW ct ad u)) A) args s 0 0 A) A D 7 (MW ct ad st) 0 0 63 [(0, .ref (ad 0)), (1, .int x1), (3, .int x3), (5, .int x5), (6, .int x6)] [] := by
  unfold wX3_found_63 at h
  refine j_iload K 4 dX3_found_63 rfl ?_
  refine j_iload_n K 2 dX3_found_65 rfl rfl ?_
  refine j_icmp_ge K 73 dX3_found_66 (by decide) (fun hc => ?_) (fun hc => ?_)
  · refine j_lv K [0, 1, 2, 3] (lv' := [(0, .ref (ad 0)), (1, .int x1), (3, .int x3), (5, .int x5)]) rfl ?_
    exact kX3_found_73 K hr L15 hL15 x1 x3 x5 st (h.1 hc)
  · refine j_lv K [0, 1, 2, 3] (lv' := [(0, .ref (ad 0)), (1, .int x1), (3, .int x3), (5, .int x5)]) rfl ?_
    exact kX3_found_69 K hr L15 hL15 x1 x3 x5 st (h.2 hc)
theorem kX3_found_58 {p : Program} {l : Launch} {e : Env} {s : State} {m : MethodId} {args : Array Value} {below : List Frame} {meth : Method} {c : Code} {A : Nat → Prop} {D : va_G} {ct : Nat → ClassId} {ad : Nat → Nat} {post : Int32 → MS → Prop} (K : CX p s m args meth c cX3_found 7 RX3 A D ct gT) (hr : meth.sig.returnType = (some .int)) (L15 : Int32 → Int32 → Int32 → Int32 → MS → Prop) (hL15 : ∀ (x1 : Int32) (x3 : Int32) (x4 : Int32) (x5 : Int32) (st : MS), L15 x1 x3 x4 x5 st → jJ p l e { frames := 3, cells := 0, slots := 0, locals := 69 } s m args below meth c (MQ below (va_Qi post (fun u => cB D ct A (MW ct ad u)) A) args s 0 0 A) A D 7 (MW ct ad st) 0 0 15 [(0, .ref (ad 0)), (1, .int x1), (3, .int x3), (4, .int x4), (5, .int x5)] []) (x1 : Int32) (x3 : Int32) (x5 : Int32) (x6 : Int32) (st : MS) (h : wX3_found_58 post L15 x1 x3 x5 x6 st) : jJ p l e { frames := 3, cells := 0, slots := 0, locals := 69 } s m args below meth c (MQ below (va_Qi post (fun u => cB D ct A (MW ct ad u)) A) args s 0 0 A) A D 7 (MW ct ad st) 0 0 58 [(0, .ref (ad 0)), (1, .int x1), (3, .int x3), (5, .int x5), (6, .int x6)] [] := by
  unfold wX3_found_58 at h
  refine j_iload K 4 dX3_found_58 rfl ?_
  refine j_if_le K 73 dX3_found_60 (by decide) (fun hc => ?_) (fun hc => ?_)
  · refine j_lv K [0, 1, 2, 3] (lv' := [(0, .ref (ad 0)), (1, .int x1), (3, .int x3), (5, .int x5)]) rfl ?_
    exact kX3_found_73 K hr L15 hL15 x1 x3 x5 st (h.1 hc)
  · exact kX3_found_63 K hr L15 hL15 x1 x3 x5 x6 st (h.2 hc)
theorem kX3_found_53 {p : Program} {l : Launch} {e : Env} {s : State} {m : MethodId} {args : Array Value} {below : List Frame} {meth : Method} {c : Code} {A : Nat → Prop} {D : va_G} {ct : Nat → ClassId} {ad : Nat → Nat} {post : Int32 → MS → Prop} (K : CX p s m args meth c cX3_found 7 RX3 A D ct gT) (hr : meth.sig.returnType = (some .int)) (L15 : Int32 → Int32 → Int32 → Int32 → MS → Prop) (hL15 : ∀ (x1 : Int32) (x3 : Int32) (x4 : Int32) (x5 : Int32) (st : MS), L15 x1 x3 x4 x5 st → jJ p l e { frames := 3, cells := 0, slots := 0, locals := 69 } s m args below meth c (MQ below (va_Qi post (fun u => cB D ct A (MW ct ad u)) A) args s 0 0 A) A D 7 (MW ct ad st) 0 0 15 [(0, .ref (ad 0)), (1, .int x1), (3, .int x3), (4, .int x4), (5, .int x5)] []) (x1 : Int32) (x3 : Int32) (x4 : Int32) (x5 : Int32) (x6 : Int32) (st : MS) (h : wX3_found_53 post L15 x1 x3 x4 x5 x6 st) : jJ p l e { frames := 3, cells := 0, slots := 0, locals := 69 } s m args below meth c (MQ below (va_Qi post (fun u => cB D ct A (MW ct ad u)) A) args s 0 0 A) A D 7 (MW ct ad st) 0 0 53 [(0, .ref (ad 0)), (1, .int x1), (3, .int x3), (4, .int x4), (5, .int x5), (6, .int x6)] [] := by
  unfold wX3_found_53 at h
  refine j_iload K 3 dX3_found_53 rfl ?_
  refine j_if_eq K 73 dX3_found_55 (by decide) (fun hc => ?_) (fun hc => ?_)
  · refine j_lv K [0, 1, 2, 4] (lv' := [(0, .ref (ad 0)), (1, .int x1), (3, .int x3), (5, .int x5)]) rfl ?_
    exact kX3_found_73 K hr L15 hL15 x1 x3 x5 st (h.1 hc)
  · refine j_lv K [0, 1, 2, 4, 5] (lv' := [(0, .ref (ad 0)), (1, .int x1), (3, .int x3), (5, .int x5), (6, .int x6)]) rfl ?_
    exact kX3_found_58 K hr L15 hL15 x1 x3 x5 x6 st (h.2 hc)
theorem kX3_found_51 {p : Program} {l : Launch} {e : Env} {s : State} {m : MethodId} {args : Array Value} {below : List Frame} {meth : Method} {c : Code} {A : Nat → Prop} {D : va_G} {ct : Nat → ClassId} {ad : Nat → Nat} {post : Int32 → MS → Prop} (K : CX p s m args meth c cX3_found 7 RX3 A D ct gT) (hr : meth.sig.returnType = (some .int))   (x3 : Int32) (st : MS) (h : wX3_found_51 post  x3 st) : jJ p l e { frames := 3, cells := 0, slots := 0, locals := 69 } s m args below meth c (MQ below (va_Qi post (fun u => cB D ct A (MW ct ad u)) A) args s 0 0 A) A D 7 (MW ct ad st) 0 0 51 [(3, .int x3)] [] := by
  unfold wX3_found_51 at h
  refine j_iload_n K 0 dX3_found_51 rfl rfl ?_
  exact j_iret st K hr rfl h (Nat.le_of_ble_eq_true rfl) (Nat.le_of_ble_eq_true rfl) dX3_found_52
theorem kX3_found_24 {p : Program} {l : Launch} {e : Env} {s : State} {m : MethodId} {args : Array Value} {below : List Frame} {meth : Method} {c : Code} {A : Nat → Prop} {D : va_G} {ct : Nat → ClassId} {ad : Nat → Nat} {post : Int32 → MS → Prop} (K : CX p s m args meth c cX3_found 7 RX3 A D ct gT) (hr : meth.sig.returnType = (some .int)) (L15 : Int32 → Int32 → Int32 → Int32 → MS → Prop) (hL15 : ∀ (x1 : Int32) (x3 : Int32) (x4 : Int32) (x5 : Int32) (st : MS), L15 x1 x3 x4 x5 st → jJ p l e { frames := 3, cells := 0, slots := 0, locals := 69 } s m args below meth c (MQ below (va_Qi post (fun u => cB D ct A (MW ct ad u)) A) args s 0 0 A) A D 7 (MW ct ad st) 0 0 15 [(0, .ref (ad 0)), (1, .int x1), (3, .int x3), (4, .int x4), (5, .int x5)] []) (x1 : Int32) (x3 : Int32) (x4 : Int32) (x5 : Int32) (st : MS) (h : wX3_found_24 post L15 x1 x3 x4 x5 st) : jJ p l e { frames := 3, cells := 0, slots := 0, locals := 69 } s m args below meth c (MQ below (va_Qi post (fun u => cB D ct A (MW ct ad u)) A) args s 0 0 A) A D 7 (MW ct ad st) 0 0 24 [(0, .ref (ad 0)), (1, .int x1), (3, .int x3), (4, .int x4), (5, .int x5)] [] := by
  unfold wX3_found_24 at h
  refine j_aload_n K 0 dX3_found_24 rfl rfl ?_
  refine mg_worths K dX3_found_25 ?_
  refine j_iload_n K 1 dX3_found_28 rfl rfl ?_
  refine j_aload_n K 0 dX3_found_29 rfl rfl ?_
  refine j_aload_n K 0 dX3_found_30 rfl rfl ?_
  refine mg_list K dX3_found_31 ?_
  refine j_iload K 4 dX3_found_34 rfl ?_
  obtain ⟨hc, h⟩ := h
  refine ml_list K hc dX3_found_36 ?_
  obtain ⟨hp, h⟩ := h
  refine j_callVi K (As := [.int (st.1 8 (x5).toNatClampNeg)]) (rest := [.int x1, .ref (ad 10)]) (ctX3_next (l := l) (D := D) (ct := ct) (ad := ad) (st.1 8 (x5).toNatClampNeg) st hp) gwX3_next gdX3_next ⟨Nat.le_of_ble_eq_true rfl, Nat.le_of_ble_eq_true rfl⟩ 0 rfl rfl rfl rfl rfl (Nat.le_of_ble_eq_true rfl) dX3_found_37 ⟨Nat.le_of_ble_eq_true rfl, Nat.le_of_ble_eq_true rfl⟩ (fun r_1 st_2 hq => ?_)
  replace h := h r_1 st_2 hq
  refine j_iadd K dX3_found_40 ?_
  obtain ⟨hc, h⟩ := h
  refine ml_worths K hc dX3_found_41 ?_
  refine j_istore K [(6, .int (st_2.1 9 ((x1 + r_1)).toNatClampNeg)), (0, .ref (ad 0)), (1, .int x1), (3, .int x3), (4, .int x4), (5, .int x5)] dX3_found_42 (by decide) rfl ?_
  refine j_iload K 0 dX3_found_44 rfl ?_
  refine j_iload_n K 3 dX3_found_46 rfl rfl ?_
  refine j_ineg K dX3_found_47 ?_
  refine j_icmp_ne K 53 dX3_found_48 (by decide) (fun hc => ?_) (fun hc => ?_)
  · refine j_lv K [1, 2, 3, 4, 5, 0] (lv' := [(0, .ref (ad 0)), (1, .int x1), (3, .int x3), (4, .int x4), (5, .int x5), (6, .int (st_2.1 9 ((x1 + r_1)).toNatClampNeg))]) rfl ?_
    exact kX3_found_53 K hr L15 hL15 x1 x3 x4 x5 (st_2.1 9 ((x1 + r_1)).toNatClampNeg) st_2 (h.1 hc)
  · refine j_lv K [3] (lv' := [(3, .int x3)]) rfl ?_
    exact kX3_found_51 K hr  x3 st_2 (h.2 hc)
theorem kX3_found_15_b {p : Program} {l : Launch} {e : Env} {s : State} {m : MethodId} {args : Array Value} {below : List Frame} {meth : Method} {c : Code} {A : Nat → Prop} {D : va_G} {ct : Nat → ClassId} {ad : Nat → Nat} {post : Int32 → MS → Prop} (K : CX p s m args meth c cX3_found 7 RX3 A D ct gT) (hr : meth.sig.returnType = (some .int)) (L15 : Int32 → Int32 → Int32 → Int32 → MS → Prop) (hL15 : ∀ (x1 : Int32) (x3 : Int32) (x4 : Int32) (x5 : Int32) (st : MS), L15 x1 x3 x4 x5 st → jJ p l e { frames := 3, cells := 0, slots := 0, locals := 69 } s m args below meth c (MQ below (va_Qi post (fun u => cB D ct A (MW ct ad u)) A) args s 0 0 A) A D 7 (MW ct ad st) 0 0 15 [(0, .ref (ad 0)), (1, .int x1), (3, .int x3), (4, .int x4), (5, .int x5)] []) (x1 : Int32) (x3 : Int32) (x4 : Int32) (x5 : Int32) (st : MS) (h : wX3_found_15_b post L15 x1 x3 x4 x5 st) : jJ p l e { frames := 3, cells := 0, slots := 0, locals := 69 } s m args below meth c (MQ below (va_Qi post (fun u => cB D ct A (MW ct ad u)) A) args s 0 0 A) A D 7 (MW ct ad st) 0 0 15 [(0, .ref (ad 0)), (1, .int x1), (3, .int x3), (4, .int x4), (5, .int x5)] [] := by
  unfold wX3_found_15_b at h
  refine j_iload K 4 dX3_found_15 rfl ?_
  refine j_aload_n K 0 dX3_found_17 rfl rfl ?_
  refine mg_many K dX3_found_18 ?_
  refine j_icmp_ge K 82 dX3_found_21 (by decide) (fun hc => ?_) (fun hc => ?_)
  · refine j_lv K [2, 3] (lv' := [(3, .int x3), (4, .int x4)]) rfl ?_
    exact kX3_found_82 K hr  x3 x4 st (h.1 hc)
  · exact kX3_found_24 K hr L15 hL15 x1 x3 x4 x5 st (h.2 hc)
theorem kX3_found_15 {p : Program} {l : Launch} {e : Env} {s : State} {m : MethodId} {args : Array Value} {below : List Frame} {meth : Method} {c : Code} {A : Nat → Prop} {D : va_G} {ct : Nat → ClassId} {ad : Nat → Nat} {post : Int32 → MS → Prop} (K : CX p s m args meth c cX3_found 7 RX3 A D ct gT) (hr : meth.sig.returnType = (some .int))   (x1 : Int32) (x3 : Int32) (x4 : Int32) (x5 : Int32) (st : MS) (h : wX3_found_15 post  x1 x3 x4 x5 st) : jJ p l e { frames := 3, cells := 0, slots := 0, locals := 69 } s m args below meth c (MQ below (va_Qi post (fun u => cB D ct A (MW ct ad u)) A) args s 0 0 A) A D 7 (MW ct ad st) 0 0 15 [(0, .ref (ad 0)), (1, .int x1), (3, .int x3), (4, .int x4), (5, .int x5)] [] :=
  wloop_sound (V := Int32 × Int32 × Int32 × Int32 × MS) (Wk := fun v => jJ p l e { frames := 3, cells := 0, slots := 0, locals := 69 } s m args below meth c (MQ below (va_Qi post (fun u => cB D ct A (MW ct ad u)) A) args s 0 0 A) A D 7 (MW ct ad v.2.2.2.2) 0 0 15 [(0, .ref (ad 0)), (1, .int v.1), (3, .int v.2.1), (4, .int v.2.2.1), (5, .int v.2.2.2.1)] []) (fun L hL v hb => kX3_found_15_b K hr (fun x1 x3 x4 x5 st => L (x1, x3, x4, x5, st)) (fun x1 x3 x4 x5 st hx => hL (x1, x3, x4, x5, st) hx) v.1 v.2.1 v.2.2.1 v.2.2.2.1 v.2.2.2.2 hb) h
theorem kX3_found_0 {p : Program} {l : Launch} {e : Env} {s : State} {m : MethodId} {args : Array Value} {below : List Frame} {meth : Method} {c : Code} {A : Nat → Prop} {D : va_G} {ct : Nat → ClassId} {ad : Nat → Nat} {post : Int32 → MS → Prop} (K : CX p s m args meth c cX3_found 7 RX3 A D ct gT) (hr : meth.sig.returnType = (some .int))   (x1 : Int32) (x2 : Int32) (x3 : Int32) (st : MS) (h : wX3_found_0 post  x1 x2 x3 st) : jJ p l e { frames := 3, cells := 0, slots := 0, locals := 69 } s m args below meth c (MQ below (va_Qi post (fun u => cB D ct A (MW ct ad u)) A) args s 0 0 A) A D 7 (MW ct ad st) 0 0 0 [(0, .ref (ad 0)), (1, .int x1), (2, .int x2), (3, .int x3)] [] := by
  unfold wX3_found_0 at h
  refine j_aload_n K 0 dX3_found_0 rfl rfl ?_
  refine j_iload_n K 2 dX3_found_1 rfl rfl ?_
  obtain ⟨hp, h⟩ := h
  refine j_callVv K (As := [.int x2]) (rest := []) (ctX3_open (l := l) (D := D) (ct := ct) (ad := ad) x2 st hp) gwX3_open gdX3_open ⟨Nat.le_of_ble_eq_true rfl, Nat.le_of_ble_eq_true rfl⟩ 0 rfl rfl rfl rfl rfl (Nat.le_of_ble_eq_true rfl) dX3_found_2 ⟨Nat.le_of_ble_eq_true rfl, Nat.le_of_ble_eq_true rfl⟩ (fun st_1 hq => ?_)
  replace h := h st_1 hq
  refine j_aload_n K 0 dX3_found_5 rfl rfl ?_
  obtain ⟨hp, h⟩ := h
  refine j_callVv K (As := []) (rest := []) (ctX3_look (l := l) (D := D) (ct := ct) (ad := ad)  st_1 hp) gwX3_look gdX3_look ⟨Nat.le_of_ble_eq_true rfl, Nat.le_of_ble_eq_true rfl⟩ 0 rfl rfl rfl rfl rfl (Nat.le_of_ble_eq_true rfl) dX3_found_6 ⟨Nat.le_of_ble_eq_true rfl, Nat.le_of_ble_eq_true rfl⟩ (fun st_2 hq => ?_)
  replace h := h st_2 hq
  refine j_iconst K (1 : Int32) dX3_found_9 (by decide) ?_
  refine j_istore K [(4, .int (1 : Int32)), (0, .ref (ad 0)), (1, .int x1), (2, .int x2), (3, .int x3)] dX3_found_10 (by decide) rfl ?_
  refine j_iconst K (0 : Int32) dX3_found_12 (by decide) ?_
  refine j_istore K [(5, .int (0 : Int32)), (4, .int (1 : Int32)), (0, .ref (ad 0)), (1, .int x1), (2, .int x2), (3, .int x3)] dX3_found_13 (by decide) rfl ?_
  refine j_lv K [2, 3, 5, 1, 0] (lv' := [(0, .ref (ad 0)), (1, .int x1), (3, .int x3), (4, .int (1 : Int32)), (5, .int (0 : Int32))]) rfl ?_
  exact kX3_found_15 K hr  x1 x3 (1 : Int32) (0 : Int32) st_2 h
theorem ctX3_found {l : Launch} {D : va_G} {ct : Nat → ClassId} {ad : Nat → Nat} (x1 : Int32) (x2 : Int32) (x3 : Int32) (st : MS) (hp : pX3_found x1 x2 x3 st) : ∀ sz, Met l yX3_found (ws_ yX3_found cX3_found 7 (some .int)) { frames := 3, cells := 0, slots := 0, locals := 69 } (va_Pc [.ref (ad 0), .int x1, .int x2, .int x3] (cPre gT D ct (MW ct ad st) sz)) (va_Qi (qX3_found x1 x2 x3 st) (fun u => cB D ct (va_A (MW ct ad st) sz) (MW ct ad u)) (va_A (MW ct ad st) sz)) 0 0 (va_A (MW ct ad st) sz) := fun sz =>
  j_met (Qc := fun A => va_Qi (qX3_found x1 x2 x3 st) (fun u => cB D ct A (MW ct ad u)) A) (by decide) gT_ok (Nat.le_of_ble_eq_true rfl) (fun p e s m args below meth c A K hr _ _ => kX3_found_0 K hr x1 x2 x3 st (vcX3_found x1 x2 x3 st hp))
-- X3_make
theorem gwX3_make : GoodIn lw_all (wsV RX3 92 RX3 yX3_make (ws_ yX3_make cX3_make 6 none)) := lw_V q1175 q1177 qs61 q84 q1178
theorem gdX3_make : yX3_make.cls = RX3 ∧ yX3_make.cls ≠ "java/lang/invoke/MethodHandle" ∧ yX3_make.cls ≠ "java/lang/invoke/VarHandle" ∧ (parseMethodDescriptor yX3_make.desc).map (fun d => d.parameters.length) = some 1 := by decide +kernel
theorem kX3_make_270 {p : Program} {l : Launch} {e : Env} {s : State} {m : MethodId} {args : Array Value} {below : List Frame} {meth : Method} {c : Code} {A : Nat → Prop} {D : va_G} {ct : Nat → ClassId} {ad : Nat → Nat} {post : MS → Prop} (K : CX p s m args meth c cX3_make 6 RX3 A D ct gT) (hr : meth.sig.returnType = none)    (st : MS) (h : wX3_make_270 post  st) : jJ p l e { frames := 4, cells := 0, slots := 0, locals := 95 } s m args below meth c (MQ below (va_Qv post (fun u => cB D ct A (MW ct ad u)) A) args s 0 0 A) A D 6 (MW ct ad st) 0 0 270 [] [] := by
  unfold wX3_make_270 at h
  exact j_vret st K hr rfl h (Nat.le_of_ble_eq_true rfl) (Nat.le_of_ble_eq_true rfl) dX3_make_270
theorem kX3_make_263 {p : Program} {l : Launch} {e : Env} {s : State} {m : MethodId} {args : Array Value} {below : List Frame} {meth : Method} {c : Code} {A : Nat → Prop} {D : va_G} {ct : Nat → ClassId} {ad : Nat → Nat} {post : MS → Prop} (K : CX p s m args meth c cX3_make 6 RX3 A D ct gT) (hr : meth.sig.returnType = none) (L228 : Int32 → Int32 → MS → Prop) (hL228 : ∀ (x1 : Int32) (x3 : Int32) (st : MS), L228 x1 x3 st → jJ p l e { frames := 4, cells := 0, slots := 0, locals := 95 } s m args below meth c (MQ below (va_Qv post (fun u => cB D ct A (MW ct ad u)) A) args s 0 0 A) A D 6 (MW ct ad st) 0 0 228 [(0, .ref (ad 0)), (1, .int x1), (3, .int x3)] []) (x1 : Int32) (x3 : Int32) (s1 : Int32) (s2 : Int32) (st : MS) (h : wX3_make_263 post L228 x1 x3 s1 s2 st) : jJ p l e { frames := 4, cells := 0, slots := 0, locals := 95 } s m args below meth c (MQ below (va_Qv post (fun u => cB D ct A (MW ct ad u)) A) args s 0 0 A) A D 6 (MW ct ad st) 0 0 263 [(0, .ref (ad 0)), (1, .int x1), (3, .int x3)] [.int s2, .int s1, .ref (ad 10)] := by
  unfold wX3_make_263 at h
  obtain ⟨hc, h⟩ := h
  refine mt_worths K hc dX3_make_263 ?_
  refine j_iinc K 2 (x3 + (1 : Int32)) [(3, .int (x3 + (1 : Int32))), (0, .ref (ad 0)), (1, .int x1)] dX3_make_264 rfl rfl (by decide) rfl ?_
  refine j_goto K 228 dX3_make_267 (by decide) ?_
  refine j_lv K [1, 2, 0] (lv' := [(0, .ref (ad 0)), (1, .int x1), (3, .int (x3 + (1 : Int32)))]) rfl ?_
  exact hL228 x1 (x3 + (1 : Int32)) (mA st 9 (s1).toNatClampNeg s2) h
theorem kX3_make_257 {p : Program} {l : Launch} {e : Env} {s : State} {m : MethodId} {args : Array Value} {below : List Frame} {meth : Method} {c : Code} {A : Nat → Prop} {D : va_G} {ct : Nat → ClassId} {ad : Nat → Nat} {post : MS → Prop} (K : CX p s m args meth c cX3_make 6 RX3 A D ct gT) (hr : meth.sig.returnType = none) (L228 : Int32 → Int32 → MS → Prop) (hL228 : ∀ (x1 : Int32) (x3 : Int32) (st : MS), L228 x1 x3 st → jJ p l e { frames := 4, cells := 0, slots := 0, locals := 95 } s m args below meth c (MQ below (va_Qv post (fun u => cB D ct A (MW ct ad u)) A) args s 0 0 A) A D 6 (MW ct ad st) 0 0 228 [(0, .ref (ad 0)), (1, .int x1), (3, .int x3)] []) (x1 : Int32) (x3 : Int32) (s1 : Int32) (st : MS) (h : wX3_make_257 post L228 x1 x3 s1 st) : jJ p l e { frames := 4, cells := 0, slots := 0, locals := 95 } s m args below meth c (MQ below (va_Qv post (fun u => cB D ct A (MW ct ad u)) A) args s 0 0 A) A D 6 (MW ct ad st) 0 0 257 [(0, .ref (ad 0)), (1, .int x1), (3, .int x3)] [.int s1, .ref (ad 10)] := by
  unfold wX3_make_257 at h
  refine j_aload_n K 0 dX3_make_257 rfl rfl ?_
  refine mg_worths K dX3_make_258 ?_
  refine j_iload_n K 2 dX3_make_261 rfl rfl ?_
  obtain ⟨hc, h⟩ := h
  refine ml_worths K hc dX3_make_262 ?_
  exact kX3_make_263 K hr L228 hL228 x1 x3 s1 (st.1 9 (x3).toNatClampNeg) st h
theorem kX3_make_253 {p : Program} {l : Launch} {e : Env} {s : State} {m : MethodId} {args : Array Value} {below : List Frame} {meth : Method} {c : Code} {A : Nat → Prop} {D : va_G} {ct : Nat → ClassId} {ad : Nat → Nat} {post : MS → Prop} (K : CX p s m args meth c cX3_make 6 RX3 A D ct gT) (hr : meth.sig.returnType = none) (L228 : Int32 → Int32 → MS → Prop) (hL228 : ∀ (x1 : Int32) (x3 : Int32) (st : MS), L228 x1 x3 st → jJ p l e { frames := 4, cells := 0, slots := 0, locals := 95 } s m args below meth c (MQ below (va_Qv post (fun u => cB D ct A (MW ct ad u)) A) args s 0 0 A) A D 6 (MW ct ad st) 0 0 228 [(0, .ref (ad 0)), (1, .int x1), (3, .int x3)] []) (x1 : Int32) (x3 : Int32) (s1 : Int32) (st : MS) (h : wX3_make_253 post L228 x1 x3 s1 st) : jJ p l e { frames := 4, cells := 0, slots := 0, locals := 95 } s m args below meth c (MQ below (va_Qv post (fun u => cB D ct A (MW ct ad u)) A) args s 0 0 A) A D 6 (MW ct ad st) 0 0 253 [(0, .ref (ad 0)), (1, .int x1), (3, .int x3)] [.int s1, .ref (ad 10)] := by
  unfold wX3_make_253 at h
  refine j_iconst K (0 : Int32) dX3_make_253 (by decide) ?_
  refine j_goto K 263 dX3_make_254 (by decide) ?_
  exact kX3_make_263 K hr L228 hL228 x1 x3 s1 (0 : Int32) st h
theorem kX3_make_236 {p : Program} {l : Launch} {e : Env} {s : State} {m : MethodId} {args : Array Value} {below : List Frame} {meth : Method} {c : Code} {A : Nat → Prop} {D : va_G} {ct : Nat → ClassId} {ad : Nat → Nat} {post : MS → Prop} (K : CX p s m args meth c cX3_make 6 RX3 A D ct gT) (hr : meth.sig.returnType = none) (L228 : Int32 → Int32 → MS → Prop) (hL228 : ∀ (x1 : Int32) (x3 : Int32) (st : MS), L228 x1 x3 st → jJ p l e { frames := 4, cells := 0, slots := 0, locals := 95 } s m args below meth c (MQ below (va_Qv post (fun u => cB D ct A (MW ct ad u)) A) args s 0 0 A) A D 6 (MW ct ad st) 0 0 228 [(0, .ref (ad 0)), (1, .int x1), (3, .int x3)] []) (x1 : Int32) (x3 : Int32) (st : MS) (h : wX3_make_236 post L228 x1 x3 st) : jJ p l e { frames := 4, cells := 0, slots := 0, locals := 95 } s m args below meth c (MQ below (va_Qv post (fun u => cB D ct A (MW ct ad u)) A) args s 0 0 A) A D 6 (MW ct ad st) 0 0 236 [(0, .ref (ad 0)), (1, .int x1), (3, .int x3)] [] := by
  unfold wX3_make_236 at h
  refine j_aload_n K 0 dX3_make_236 rfl rfl ?_
  refine mg_worths K dX3_make_237 ?_
  refine j_iload_n K 2 dX3_make_240 rfl rfl ?_
  refine j_aload_n K 0 dX3_make_241 rfl rfl ?_
  refine mg_worths K dX3_make_242 ?_
  refine j_iload_n K 2 dX3_make_245 rfl rfl ?_
  obtain ⟨hc, h⟩ := h
  refine ml_worths K hc dX3_make_246 ?_
  refine j_sipush K (1000 : Int32) dX3_make_247 (by decide) ?_
  refine j_icmp_ne K 257 dX3_make_250 (by decide) (fun hc => ?_) (fun hc => ?_)
  · exact kX3_make_257 K hr L228 hL228 x1 x3 x3 st (h.1 hc)
  · exact kX3_make_253 K hr L228 hL228 x1 x3 x3 st (h.2 hc)
theorem kX3_make_228_b {p : Program} {l : Launch} {e : Env} {s : State} {m : MethodId} {args : Array Value} {below : List Frame} {meth : Method} {c : Code} {A : Nat → Prop} {D : va_G} {ct : Nat → ClassId} {ad : Nat → Nat} {post : MS → Prop} (K : CX p s m args meth c cX3_make 6 RX3 A D ct gT) (hr : meth.sig.returnType = none) (L228 : Int32 → Int32 → MS → Prop) (hL228 : ∀ (x1 : Int32) (x3 : Int32) (st : MS), L228 x1 x3 st → jJ p l e { frames := 4, cells := 0, slots := 0, locals := 95 } s m args below meth c (MQ below (va_Qv post (fun u => cB D ct A (MW ct ad u)) A) args s 0 0 A) A D 6 (MW ct ad st) 0 0 228 [(0, .ref (ad 0)), (1, .int x1), (3, .int x3)] []) (x1 : Int32) (x3 : Int32) (st : MS) (h : wX3_make_228_b post L228 x1 x3 st) : jJ p l e { frames := 4, cells := 0, slots := 0, locals := 95 } s m args below meth c (MQ below (va_Qv post (fun u => cB D ct A (MW ct ad u)) A) args s 0 0 A) A D 6 (MW ct ad st) 0 0 228 [(0, .ref (ad 0)), (1, .int x1), (3, .int x3)] [] := by
  unfold wX3_make_228_b at h
  refine j_iload_n K 2 dX3_make_228 rfl rfl ?_
  refine j_iload_n K 1 dX3_make_229 rfl rfl ?_
  refine j_ldc K q1174 dX3_make_230 ?_
  refine j_iadd K dX3_make_232 ?_
  refine j_icmp_ge K 270 dX3_make_233 (by decide) (fun hc => ?_) (fun hc => ?_)
  · refine j_lv K [] (lv' := []) rfl ?_
    exact kX3_make_270 K hr  st (h.1 hc)
  · exact kX3_make_236 K hr L228 hL228 x1 x3 st (h.2 hc)
theorem kX3_make_228 {p : Program} {l : Launch} {e : Env} {s : State} {m : MethodId} {args : Array Value} {below : List Frame} {meth : Method} {c : Code} {A : Nat → Prop} {D : va_G} {ct : Nat → ClassId} {ad : Nat → Nat} {post : MS → Prop} (K : CX p s m args meth c cX3_make 6 RX3 A D ct gT) (hr : meth.sig.returnType = none)   (x1 : Int32) (x3 : Int32) (st : MS) (h : wX3_make_228 post  x1 x3 st) : jJ p l e { frames := 4, cells := 0, slots := 0, locals := 95 } s m args below meth c (MQ below (va_Qv post (fun u => cB D ct A (MW ct ad u)) A) args s 0 0 A) A D 6 (MW ct ad st) 0 0 228 [(0, .ref (ad 0)), (1, .int x1), (3, .int x3)] [] :=
  wloop_sound (V := Int32 × Int32 × MS) (Wk := fun v => jJ p l e { frames := 4, cells := 0, slots := 0, locals := 95 } s m args below meth c (MQ below (va_Qv post (fun u => cB D ct A (MW ct ad u)) A) args s 0 0 A) A D 6 (MW ct ad v.2.2) 0 0 228 [(0, .ref (ad 0)), (1, .int v.1), (3, .int v.2.1)] []) (fun L hL v hb => kX3_make_228_b K hr (fun x1 x3 st => L (x1, x3, st)) (fun x1 x3 st hx => hL (x1, x3, st) hx) v.1 v.2.1 v.2.2 hb) h
theorem kX3_make_226 {p : Program} {l : Launch} {e : Env} {s : State} {m : MethodId} {args : Array Value} {below : List Frame} {meth : Method} {c : Code} {A : Nat → Prop} {D : va_G} {ct : Nat → ClassId} {ad : Nat → Nat} {post : MS → Prop} (K : CX p s m args meth c cX3_make 6 RX3 A D ct gT) (hr : meth.sig.returnType = none)   (x1 : Int32) (st : MS) (h : wX3_make_226 post  x1 st) : jJ p l e { frames := 4, cells := 0, slots := 0, locals := 95 } s m args below meth c (MQ below (va_Qv post (fun u => cB D ct A (MW ct ad u)) A) args s 0 0 A) A D 6 (MW ct ad st) 0 0 226 [(0, .ref (ad 0)), (1, .int x1)] [] := by
  unfold wX3_make_226 at h
  refine j_iload_n K 1 dX3_make_226 rfl rfl ?_
  refine j_istore_n K [(3, .int x1), (0, .ref (ad 0)), (1, .int x1)] dX3_make_227 rfl (by decide) rfl ?_
  refine j_lv K [1, 2, 0] (lv' := [(0, .ref (ad 0)), (1, .int x1), (3, .int x1)]) rfl ?_
  exact kX3_make_228 K hr  x1 x1 st h
theorem kX3_make_220 {p : Program} {l : Launch} {e : Env} {s : State} {m : MethodId} {args : Array Value} {below : List Frame} {meth : Method} {c : Code} {A : Nat → Prop} {D : va_G} {ct : Nat → ClassId} {ad : Nat → Nat} {post : MS → Prop} (K : CX p s m args meth c cX3_make 6 RX3 A D ct gT) (hr : meth.sig.returnType = none) (L64 : Int32 → Int32 → Int32 → MS → Prop) (hL64 : ∀ (x1 : Int32) (x2 : Int32) (x3 : Int32) (st : MS), L64 x1 x2 x3 st → jJ p l e { frames := 4, cells := 0, slots := 0, locals := 95 } s m args below meth c (MQ below (va_Qv post (fun u => cB D ct A (MW ct ad u)) A) args s 0 0 A) A D 6 (MW ct ad st) 0 0 64 [(0, .ref (ad 0)), (1, .int x1), (2, .int x2), (3, .int x3)] []) (x1 : Int32) (x2 : Int32) (x3 : Int32) (st : MS) (h : wX3_make_220 post L64 x1 x2 x3 st) : jJ p l e { frames := 4, cells := 0, slots := 0, locals := 95 } s m args below meth c (MQ below (va_Qv post (fun u => cB D ct A (MW ct ad u)) A) args s 0 0 A) A D 6 (MW ct ad st) 0 0 220 [(0, .ref (ad 0)), (1, .int x1), (2, .int x2), (3, .int x3)] [] := by
  unfold wX3_make_220 at h
  refine j_iinc K 3 (x3 + (1 : Int32)) [(3, .int (x3 + (1 : Int32))), (0, .ref (ad 0)), (1, .int x1), (2, .int x2)] dX3_make_220 rfl rfl (by decide) rfl ?_
  refine j_goto K 64 dX3_make_223 (by decide) ?_
  refine j_lv K [1, 2, 3, 0] (lv' := [(0, .ref (ad 0)), (1, .int x1), (2, .int x2), (3, .int (x3 + (1 : Int32)))]) rfl ?_
  exact hL64 x1 x2 (x3 + (1 : Int32)) st h
theorem kX3_make_212 {p : Program} {l : Launch} {e : Env} {s : State} {m : MethodId} {args : Array Value} {below : List Frame} {meth : Method} {c : Code} {A : Nat → Prop} {D : va_G} {ct : Nat → ClassId} {ad : Nat → Nat} {post : MS → Prop} (K : CX p s m args meth c cX3_make 6 RX3 A D ct gT) (hr : meth.sig.returnType = none) (L156 : Int32 → Int32 → Int32 → Int32 → MS → Prop) (hL156 : ∀ (x1 : Int32) (x2 : Int32) (x3 : Int32) (x4 : Int32) (st : MS), L156 x1 x2 x3 x4 st → jJ p l e { frames := 4, cells := 0, slots := 0, locals := 95 } s m args below meth c (MQ below (va_Qv post (fun u => cB D ct A (MW ct ad u)) A) args s 0 0 A) A D 6 (MW ct ad st) 0 0 156 [(0, .ref (ad 0)), (1, .int x1), (2, .int x2), (3, .int x3), (4, .int x4)] []) (x1 : Int32) (x2 : Int32) (x3 : Int32) (x4 : Int32) (s1 : Int32) (s2 : Int32) (s3 : Int32) (st : MS) (h : wX3_make_212 post L156 x1 x2 x3 x4 s1 s2 s3 st) : jJ p l e { frames := 4, cells := 0, slots := 0, locals := 95 } s m args below meth c (MQ below (va_Qv post (fun u => cB D ct A (MW ct ad u)) A) args s 0 0 A) A D 6 (MW ct ad st) 0 0 212 [(0, .ref (ad 0)), (1, .int x1), (2, .int x2), (3, .int x3), (4, .int x4)] [.int s3, .int s2, .int s1, .ref (ad 10)] := by
  unfold wX3_make_212 at h
  refine j_iadd K dX3_make_212 ?_
  obtain ⟨hc, h⟩ := h
  refine mt_worths K hc dX3_make_213 ?_
  refine j_iinc K 4 (x4 + (1 : Int32)) [(4, .int (x4 + (1 : Int32))), (0, .ref (ad 0)), (1, .int x1), (2, .int x2), (3, .int x3)] dX3_make_214 rfl rfl (by decide) rfl ?_
  refine j_goto K 156 dX3_make_217 (by decide) ?_
  refine j_lv K [1, 2, 3, 4, 0] (lv' := [(0, .ref (ad 0)), (1, .int x1), (2, .int x2), (3, .int x3), (4, .int (x4 + (1 : Int32)))]) rfl ?_
  exact hL156 x1 x2 x3 (x4 + (1 : Int32)) (mA st 9 (s1).toNatClampNeg (s2 + s3)) h
theorem kX3_make_211 {p : Program} {l : Launch} {e : Env} {s : State} {m : MethodId} {args : Array Value} {below : List Frame} {meth : Method} {c : Code} {A : Nat → Prop} {D : va_G} {ct : Nat → ClassId} {ad : Nat → Nat} {post : MS → Prop} (K : CX p s m args meth c cX3_make 6 RX3 A D ct gT) (hr : meth.sig.returnType = none) (L156 : Int32 → Int32 → Int32 → Int32 → MS → Prop) (hL156 : ∀ (x1 : Int32) (x2 : Int32) (x3 : Int32) (x4 : Int32) (st : MS), L156 x1 x2 x3 x4 st → jJ p l e { frames := 4, cells := 0, slots := 0, locals := 95 } s m args below meth c (MQ below (va_Qv post (fun u => cB D ct A (MW ct ad u)) A) args s 0 0 A) A D 6 (MW ct ad st) 0 0 156 [(0, .ref (ad 0)), (1, .int x1), (2, .int x2), (3, .int x3), (4, .int x4)] []) (x1 : Int32) (x2 : Int32) (x3 : Int32) (x4 : Int32) (s1 : Int32) (s2 : Int32) (st : MS) (h : wX3_make_211 post L156 x1 x2 x3 x4 s1 s2 st) : jJ p l e { frames := 4, cells := 0, slots := 0, locals := 95 } s m args below meth c (MQ below (va_Qv post (fun u => cB D ct A (MW ct ad u)) A) args s 0 0 A) A D 6 (MW ct ad st) 0 0 211 [(0, .ref (ad 0)), (1, .int x1), (2, .int x2), (3, .int x3), (4, .int x4)] [.int s2, .int s1, .ref (ad 10)] := by
  unfold wX3_make_211 at h
  refine j_iconst K (0 : Int32) dX3_make_211 (by decide) ?_
  exact kX3_make_212 K hr L156 hL156 x1 x2 x3 x4 s1 s2 (0 : Int32) st h
theorem kX3_make_205 {p : Program} {l : Launch} {e : Env} {s : State} {m : MethodId} {args : Array Value} {below : List Frame} {meth : Method} {c : Code} {A : Nat → Prop} {D : va_G} {ct : Nat → ClassId} {ad : Nat → Nat} {post : MS → Prop} (K : CX p s m args meth c cX3_make 6 RX3 A D ct gT) (hr : meth.sig.returnType = none) (L156 : Int32 → Int32 → Int32 → Int32 → MS → Prop) (hL156 : ∀ (x1 : Int32) (x2 : Int32) (x3 : Int32) (x4 : Int32) (st : MS), L156 x1 x2 x3 x4 st → jJ p l e { frames := 4, cells := 0, slots := 0, locals := 95 } s m args below meth c (MQ below (va_Qv post (fun u => cB D ct A (MW ct ad u)) A) args s 0 0 A) A D 6 (MW ct ad st) 0 0 156 [(0, .ref (ad 0)), (1, .int x1), (2, .int x2), (3, .int x3), (4, .int x4)] []) (x1 : Int32) (x2 : Int32) (x3 : Int32) (x4 : Int32) (s1 : Int32) (s2 : Int32) (st : MS) (h : wX3_make_205 post L156 x1 x2 x3 x4 s1 s2 st) : jJ p l e { frames := 4, cells := 0, slots := 0, locals := 95 } s m args below meth c (MQ below (va_Qv post (fun u => cB D ct A (MW ct ad u)) A) args s 0 0 A) A D 6 (MW ct ad st) 0 0 205 [(0, .ref (ad 0)), (1, .int x1), (2, .int x2), (3, .int x3), (4, .int x4)] [.int s2, .int s1, .ref (ad 10)] := by
  unfold wX3_make_205 at h
  refine j_sipush K (10000 : Int32) dX3_make_205 (by decide) ?_
  refine j_goto K 212 dX3_make_208 (by decide) ?_
  exact kX3_make_212 K hr L156 hL156 x1 x2 x3 x4 s1 s2 (10000 : Int32) st h
theorem kX3_make_192 {p : Program} {l : Launch} {e : Env} {s : State} {m : MethodId} {args : Array Value} {below : List Frame} {meth : Method} {c : Code} {A : Nat → Prop} {D : va_G} {ct : Nat → ClassId} {ad : Nat → Nat} {post : MS → Prop} (K : CX p s m args meth c cX3_make 6 RX3 A D ct gT) (hr : meth.sig.returnType = none) (L156 : Int32 → Int32 → Int32 → Int32 → MS → Prop) (hL156 : ∀ (x1 : Int32) (x2 : Int32) (x3 : Int32) (x4 : Int32) (st : MS), L156 x1 x2 x3 x4 st → jJ p l e { frames := 4, cells := 0, slots := 0, locals := 95 } s m args below meth c (MQ below (va_Qv post (fun u => cB D ct A (MW ct ad u)) A) args s 0 0 A) A D 6 (MW ct ad st) 0 0 156 [(0, .ref (ad 0)), (1, .int x1), (2, .int x2), (3, .int x3), (4, .int x4)] []) (x1 : Int32) (x2 : Int32) (x3 : Int32) (x4 : Int32) (s1 : Int32) (s2 : Int32) (st : MS) (h : wX3_make_192 post L156 x1 x2 x3 x4 s1 s2 st) : jJ p l e { frames := 4, cells := 0, slots := 0, locals := 95 } s m args below meth c (MQ below (va_Qv post (fun u => cB D ct A (MW ct ad u)) A) args s 0 0 A) A D 6 (MW ct ad st) 0 0 192 [(0, .ref (ad 0)), (1, .int x1), (2, .int x2), (3, .int x3), (4, .int x4)] [.int s2, .int s1, .ref (ad 10)] := by
  unfold wX3_make_192 at h
  refine j_aload_n K 0 dX3_make_192 rfl rfl ?_
  refine mg_worths K dX3_make_193 ?_
  refine j_iload K 4 dX3_make_196 rfl ?_
  obtain ⟨hc, h⟩ := h
  refine ml_worths K hc dX3_make_198 ?_
  refine j_sipush K (-5000 : Int32) dX3_make_199 (by decide) ?_
  refine j_icmp_ge K 211 dX3_make_202 (by decide) (fun hc => ?_) (fun hc => ?_)
  · exact kX3_make_211 K hr L156 hL156 x1 x2 x3 x4 s1 s2 st (h.1 hc)
  · exact kX3_make_205 K hr L156 hL156 x1 x2 x3 x4 s1 s2 st (h.2 hc)
theorem kX3_make_186 {p : Program} {l : Launch} {e : Env} {s : State} {m : MethodId} {args : Array Value} {below : List Frame} {meth : Method} {c : Code} {A : Nat → Prop} {D : va_G} {ct : Nat → ClassId} {ad : Nat → Nat} {post : MS → Prop} (K : CX p s m args meth c cX3_make 6 RX3 A D ct gT) (hr : meth.sig.returnType = none) (L156 : Int32 → Int32 → Int32 → Int32 → MS → Prop) (hL156 : ∀ (x1 : Int32) (x2 : Int32) (x3 : Int32) (x4 : Int32) (st : MS), L156 x1 x2 x3 x4 st → jJ p l e { frames := 4, cells := 0, slots := 0, locals := 95 } s m args below meth c (MQ below (va_Qv post (fun u => cB D ct A (MW ct ad u)) A) args s 0 0 A) A D 6 (MW ct ad st) 0 0 156 [(0, .ref (ad 0)), (1, .int x1), (2, .int x2), (3, .int x3), (4, .int x4)] []) (x1 : Int32) (x2 : Int32) (x3 : Int32) (x4 : Int32) (s1 : Int32) (s2 : Int32) (st : MS) (h : wX3_make_186 post L156 x1 x2 x3 x4 s1 s2 st) : jJ p l e { frames := 4, cells := 0, slots := 0, locals := 95 } s m args below meth c (MQ below (va_Qv post (fun u => cB D ct A (MW ct ad u)) A) args s 0 0 A) A D 6 (MW ct ad st) 0 0 186 [(0, .ref (ad 0)), (1, .int x1), (2, .int x2), (3, .int x3), (4, .int x4)] [.int s2, .int s1, .ref (ad 10)] := by
  unfold wX3_make_186 at h
  refine j_sipush K (-10000 : Int32) dX3_make_186 (by decide) ?_
  refine j_goto K 212 dX3_make_189 (by decide) ?_
  exact kX3_make_212 K hr L156 hL156 x1 x2 x3 x4 s1 s2 (-10000 : Int32) st h
theorem kX3_make_165 {p : Program} {l : Launch} {e : Env} {s : State} {m : MethodId} {args : Array Value} {below : List Frame} {meth : Method} {c : Code} {A : Nat → Prop} {D : va_G} {ct : Nat → ClassId} {ad : Nat → Nat} {post : MS → Prop} (K : CX p s m args meth c cX3_make 6 RX3 A D ct gT) (hr : meth.sig.returnType = none) (L156 : Int32 → Int32 → Int32 → Int32 → MS → Prop) (hL156 : ∀ (x1 : Int32) (x2 : Int32) (x3 : Int32) (x4 : Int32) (st : MS), L156 x1 x2 x3 x4 st → jJ p l e { frames := 4, cells := 0, slots := 0, locals := 95 } s m args below meth c (MQ below (va_Qv post (fun u => cB D ct A (MW ct ad u)) A) args s 0 0 A) A D 6 (MW ct ad st) 0 0 156 [(0, .ref (ad 0)), (1, .int x1), (2, .int x2), (3, .int x3), (4, .int x4)] []) (x1 : Int32) (x2 : Int32) (x3 : Int32) (x4 : Int32) (st : MS) (h : wX3_make_165 post L156 x1 x2 x3 x4 st) : jJ p l e { frames := 4, cells := 0, slots := 0, locals := 95 } s m args below meth c (MQ below (va_Qv post (fun u => cB D ct A (MW ct ad u)) A) args s 0 0 A) A D 6 (MW ct ad st) 0 0 165 [(0, .ref (ad 0)), (1, .int x1), (2, .int x2), (3, .int x3), (4, .int x4)] [] := by
  unfold wX3_make_165 at h
  refine j_aload_n K 0 dX3_make_165 rfl rfl ?_
  refine mg_worths K dX3_make_166 ?_
  refine j_iload K 4 dX3_make_169 rfl ?_
  refine j_dup2 K dX3_make_171 rfl rfl ?_
  obtain ⟨hc, h⟩ := h
  refine ml_worths K hc dX3_make_172 ?_
  refine j_aload_n K 0 dX3_make_173 rfl rfl ?_
  refine mg_worths K dX3_make_174 ?_
  refine j_iload K 4 dX3_make_177 rfl ?_
  obtain ⟨hc, h⟩ := h
  refine ml_worths K hc dX3_make_179 ?_
  refine j_sipush K (5000 : Int32) dX3_make_180 (by decide) ?_
  refine j_icmp_le K 192 dX3_make_183 (by decide) (fun hc => ?_) (fun hc => ?_)
  · exact kX3_make_192 K hr L156 hL156 x1 x2 x3 x4 x4 (st.1 9 (x4).toNatClampNeg) st (h.1 hc)
  · exact kX3_make_186 K hr L156 hL156 x1 x2 x3 x4 x4 (st.1 9 (x4).toNatClampNeg) st (h.2 hc)
theorem kX3_make_156_b {p : Program} {l : Launch} {e : Env} {s : State} {m : MethodId} {args : Array Value} {below : List Frame} {meth : Method} {c : Code} {A : Nat → Prop} {D : va_G} {ct : Nat → ClassId} {ad : Nat → Nat} {post : MS → Prop} (K : CX p s m args meth c cX3_make 6 RX3 A D ct gT) (hr : meth.sig.returnType = none) (L64 : Int32 → Int32 → Int32 → MS → Prop) (L156 : Int32 → Int32 → Int32 → Int32 → MS → Prop) (hL64 : ∀ (x1 : Int32) (x2 : Int32) (x3 : Int32) (st : MS), L64 x1 x2 x3 st → jJ p l e { frames := 4, cells := 0, slots := 0, locals := 95 } s m args below meth c (MQ below (va_Qv post (fun u => cB D ct A (MW ct ad u)) A) args s 0 0 A) A D 6 (MW ct ad st) 0 0 64 [(0, .ref (ad 0)), (1, .int x1), (2, .int x2), (3, .int x3)] []) (hL156 : ∀ (x1 : Int32) (x2 : Int32) (x3 : Int32) (x4 : Int32) (st : MS), L156 x1 x2 x3 x4 st → jJ p l e { frames := 4, cells := 0, slots := 0, locals := 95 } s m args below meth c (MQ below (va_Qv post (fun u => cB D ct A (MW ct ad u)) A) args s 0 0 A) A D 6 (MW ct ad st) 0 0 156 [(0, .ref (ad 0)), (1, .int x1), (2, .int x2), (3, .int x3), (4, .int x4)] []) (x1 : Int32) (x2 : Int32) (x3 : Int32) (x4 : Int32) (st : MS) (h : wX3_make_156_b post L64 L156 x1 x2 x3 x4 st) : jJ p l e { frames := 4, cells := 0, slots := 0, locals := 95 } s m args below meth c (MQ below (va_Qv post (fun u => cB D ct A (MW ct ad u)) A) args s 0 0 A) A D 6 (MW ct ad st) 0 0 156 [(0, .ref (ad 0)), (1, .int x1), (2, .int x2), (3, .int x3), (4, .int x4)] [] := by
  unfold wX3_make_156_b at h
  refine j_iload K 4 dX3_make_156 rfl ?_
  refine j_iload_n K 1 dX3_make_158 rfl rfl ?_
  refine j_ldc K q1174 dX3_make_159 ?_
  refine j_iadd K dX3_make_161 ?_
  refine j_icmp_ge K 220 dX3_make_162 (by decide) (fun hc => ?_) (fun hc => ?_)
  · refine j_lv K [0, 1, 2, 3] (lv' := [(0, .ref (ad 0)), (1, .int x1), (2, .int x2), (3, .int x3)]) rfl ?_
    exact kX3_make_220 K hr L64 hL64 x1 x2 x3 st (h.1 hc)
  · exact kX3_make_165 K hr L156 hL156 x1 x2 x3 x4 st (h.2 hc)
theorem kX3_make_156 {p : Program} {l : Launch} {e : Env} {s : State} {m : MethodId} {args : Array Value} {below : List Frame} {meth : Method} {c : Code} {A : Nat → Prop} {D : va_G} {ct : Nat → ClassId} {ad : Nat → Nat} {post : MS → Prop} (K : CX p s m args meth c cX3_make 6 RX3 A D ct gT) (hr : meth.sig.returnType = none) (L64 : Int32 → Int32 → Int32 → MS → Prop) (hL64 : ∀ (x1 : Int32) (x2 : Int32) (x3 : Int32) (st : MS), L64 x1 x2 x3 st → jJ p l e { frames := 4, cells := 0, slots := 0, locals := 95 } s m args below meth c (MQ below (va_Qv post (fun u => cB D ct A (MW ct ad u)) A) args s 0 0 A) A D 6 (MW ct ad st) 0 0 64 [(0, .ref (ad 0)), (1, .int x1), (2, .int x2), (3, .int x3)] []) (x1 : Int32) (x2 : Int32) (x3 : Int32) (x4 : Int32) (st : MS) (h : wX3_make_156 post L64 x1 x2 x3 x4 st) : jJ p l e { frames := 4, cells := 0, slots := 0, locals := 95 } s m args below meth c (MQ below (va_Qv post (fun u => cB D ct A (MW ct ad u)) A) args s 0 0 A) A D 6 (MW ct ad st) 0 0 156 [(0, .ref (ad 0)), (1, .int x1), (2, .int x2), (3, .int x3), (4, .int x4)] [] :=
  wloop_sound (V := Int32 × Int32 × Int32 × Int32 × MS) (Wk := fun v => jJ p l e { frames := 4, cells := 0, slots := 0, locals := 95 } s m args below meth c (MQ below (va_Qv post (fun u => cB D ct A (MW ct ad u)) A) args s 0 0 A) A D 6 (MW ct ad v.2.2.2.2) 0 0 156 [(0, .ref (ad 0)), (1, .int v.1), (2, .int v.2.1), (3, .int v.2.2.1), (4, .int v.2.2.2.1)] []) (fun L hL v hb => kX3_make_156_b K hr L64 (fun x1 x2 x3 x4 st => L (x1, x2, x3, x4, st)) hL64 (fun x1 x2 x3 x4 st hx => hL (x1, x2, x3, x4, st) hx) v.1 v.2.1 v.2.2.1 v.2.2.2.1 v.2.2.2.2 hb) h
theorem kX3_make_153 {p : Program} {l : Launch} {e : Env} {s : State} {m : MethodId} {args : Array Value} {below : List Frame} {meth : Method} {c : Code} {A : Nat → Prop} {D : va_G} {ct : Nat → ClassId} {ad : Nat → Nat} {post : MS → Prop} (K : CX p s m args meth c cX3_make 6 RX3 A D ct gT) (hr : meth.sig.returnType = none) (L64 : Int32 → Int32 → Int32 → MS → Prop) (hL64 : ∀ (x1 : Int32) (x2 : Int32) (x3 : Int32) (st : MS), L64 x1 x2 x3 st → jJ p l e { frames := 4, cells := 0, slots := 0, locals := 95 } s m args below meth c (MQ below (va_Qv post (fun u => cB D ct A (MW ct ad u)) A) args s 0 0 A) A D 6 (MW ct ad st) 0 0 64 [(0, .ref (ad 0)), (1, .int x1), (2, .int x2), (3, .int x3)] []) (x1 : Int32) (x2 : Int32) (x3 : Int32) (st : MS) (h : wX3_make_153 post L64 x1 x2 x3 st) : jJ p l e { frames := 4, cells := 0, slots := 0, locals := 95 } s m args below meth c (MQ below (va_Qv post (fun u => cB D ct A (MW ct ad u)) A) args s 0 0 A) A D 6 (MW ct ad st) 0 0 153 [(0, .ref (ad 0)), (1, .int x1), (2, .int x2), (3, .int x3)] [] := by
  unfold wX3_make_153 at h
  refine j_iload_n K 1 dX3_make_153 rfl rfl ?_
  refine j_istore K [(4, .int x1), (0, .ref (ad 0)), (1, .int x1), (2, .int x2), (3, .int x3)] dX3_make_154 (by decide) rfl ?_
  refine j_lv K [1, 2, 3, 4, 0] (lv' := [(0, .ref (ad 0)), (1, .int x1), (2, .int x2), (3, .int x3), (4, .int x1)]) rfl ?_
  exact kX3_make_156 K hr L64 hL64 x1 x2 x3 x1 st h
theorem kX3_make_147 {p : Program} {l : Launch} {e : Env} {s : State} {m : MethodId} {args : Array Value} {below : List Frame} {meth : Method} {c : Code} {A : Nat → Prop} {D : va_G} {ct : Nat → ClassId} {ad : Nat → Nat} {post : MS → Prop} (K : CX p s m args meth c cX3_make 6 RX3 A D ct gT) (hr : meth.sig.returnType = none) (L73 : Int32 → Int32 → Int32 → Int32 → MS → Prop) (hL73 : ∀ (x1 : Int32) (x2 : Int32) (x3 : Int32) (x4 : Int32) (st : MS), L73 x1 x2 x3 x4 st → jJ p l e { frames := 4, cells := 0, slots := 0, locals := 95 } s m args below meth c (MQ below (va_Qv post (fun u => cB D ct A (MW ct ad u)) A) args s 0 0 A) A D 6 (MW ct ad st) 0 0 73 [(0, .ref (ad 0)), (1, .int x1), (2, .int x2), (3, .int x3), (4, .int x4)] []) (x1 : Int32) (x2 : Int32) (x3 : Int32) (x4 : Int32) (st : MS) (h : wX3_make_147 post L73 x1 x2 x3 x4 st) : jJ p l e { frames := 4, cells := 0, slots := 0, locals := 95 } s m args below meth c (MQ below (va_Qv post (fun u => cB D ct A (MW ct ad u)) A) args s 0 0 A) A D 6 (MW ct ad st) 0 0 147 [(0, .ref (ad 0)), (1, .int x1), (2, .int x2), (3, .int x3), (4, .int x4)] [] := by
  unfold wX3_make_147 at h
  refine j_iinc K 4 (x4 + (1 : Int32)) [(4, .int (x4 + (1 : Int32))), (0, .ref (ad 0)), (1, .int x1), (2, .int x2), (3, .int x3)] dX3_make_147 rfl rfl (by decide) rfl ?_
  refine j_goto K 73 dX3_make_150 (by decide) ?_
  refine j_lv K [1, 2, 3, 4, 0] (lv' := [(0, .ref (ad 0)), (1, .int x1), (2, .int x2), (3, .int x3), (4, .int (x4 + (1 : Int32)))]) rfl ?_
  exact hL73 x1 x2 x3 (x4 + (1 : Int32)) st h
theorem kX3_make_143 {p : Program} {l : Launch} {e : Env} {s : State} {m : MethodId} {args : Array Value} {below : List Frame} {meth : Method} {c : Code} {A : Nat → Prop} {D : va_G} {ct : Nat → ClassId} {ad : Nat → Nat} {post : MS → Prop} (K : CX p s m args meth c cX3_make 6 RX3 A D ct gT) (hr : meth.sig.returnType = none) (L73 : Int32 → Int32 → Int32 → Int32 → MS → Prop) (hL73 : ∀ (x1 : Int32) (x2 : Int32) (x3 : Int32) (x4 : Int32) (st : MS), L73 x1 x2 x3 x4 st → jJ p l e { frames := 4, cells := 0, slots := 0, locals := 95 } s m args below meth c (MQ below (va_Qv post (fun u => cB D ct A (MW ct ad u)) A) args s 0 0 A) A D 6 (MW ct ad st) 0 0 73 [(0, .ref (ad 0)), (1, .int x1), (2, .int x2), (3, .int x3), (4, .int x4)] []) (x1 : Int32) (x3 : Int32) (x4 : Int32) (s1 : Int32) (s2 : Int32) (s3 : Int32) (st : MS) (h : wX3_make_143 post L73 x1 x3 x4 s1 s2 s3 st) : jJ p l e { frames := 4, cells := 0, slots := 0, locals := 95 } s m args below meth c (MQ below (va_Qv post (fun u => cB D ct A (MW ct ad u)) A) args s 0 0 A) A D 6 (MW ct ad st) 0 0 143 [(0, .ref (ad 0)), (1, .int x1), (3, .int x3), (4, .int x4)] [.int s3, .int s2, .int s1, .ref (ad 10)] := by
  unfold wX3_make_143 at h
  refine j_iadd K dX3_make_143 ?_
  obtain ⟨hc, h⟩ := h
  refine mt_worths K hc dX3_make_144 ?_
  refine j_iconst K (1 : Int32) dX3_make_145 (by decide) ?_
  refine j_istore_n K [(2, .int (1 : Int32)), (0, .ref (ad 0)), (1, .int x1), (3, .int x3), (4, .int x4)] dX3_make_146 rfl (by decide) rfl ?_
  refine j_lv K [1, 2, 0, 3, 4] (lv' := [(0, .ref (ad 0)), (1, .int x1), (2, .int (1 : Int32)), (3, .int x3), (4, .int x4)]) rfl ?_
  exact kX3_make_147 K hr L73 hL73 x1 (1 : Int32) x3 x4 (mA st 9 (s1).toNatClampNeg (s2 + s3)) h
theorem kX3_make_140 {p : Program} {l : Launch} {e : Env} {s : State} {m : MethodId} {args : Array Value} {below : List Frame} {meth : Method} {c : Code} {A : Nat → Prop} {D : va_G} {ct : Nat → ClassId} {ad : Nat → Nat} {post : MS → Prop} (K : CX p s m args meth c cX3_make 6 RX3 A D ct gT) (hr : meth.sig.returnType = none) (L73 : Int32 → Int32 → Int32 → Int32 → MS → Prop) (hL73 : ∀ (x1 : Int32) (x2 : Int32) (x3 : Int32) (x4 : Int32) (st : MS), L73 x1 x2 x3 x4 st → jJ p l e { frames := 4, cells := 0, slots := 0, locals := 95 } s m args below meth c (MQ below (va_Qv post (fun u => cB D ct A (MW ct ad u)) A) args s 0 0 A) A D 6 (MW ct ad st) 0 0 73 [(0, .ref (ad 0)), (1, .int x1), (2, .int x2), (3, .int x3), (4, .int x4)] []) (x1 : Int32) (x3 : Int32) (x4 : Int32) (s1 : Int32) (s2 : Int32) (st : MS) (h : wX3_make_140 post L73 x1 x3 x4 s1 s2 st) : jJ p l e { frames := 4, cells := 0, slots := 0, locals := 95 } s m args below meth c (MQ below (va_Qv post (fun u => cB D ct A (MW ct ad u)) A) args s 0 0 A) A D 6 (MW ct ad st) 0 0 140 [(0, .ref (ad 0)), (1, .int x1), (3, .int x3), (4, .int x4)] [.int s2, .int s1, .ref (ad 10)] := by
  unfold wX3_make_140 at h
  refine j_sipush K (-10000 : Int32) dX3_make_140 (by decide) ?_
  exact kX3_make_143 K hr L73 hL73 x1 x3 x4 s1 s2 (-10000 : Int32) st h
theorem kX3_make_134 {p : Program} {l : Launch} {e : Env} {s : State} {m : MethodId} {args : Array Value} {below : List Frame} {meth : Method} {c : Code} {A : Nat → Prop} {D : va_G} {ct : Nat → ClassId} {ad : Nat → Nat} {post : MS → Prop} (K : CX p s m args meth c cX3_make 6 RX3 A D ct gT) (hr : meth.sig.returnType = none) (L73 : Int32 → Int32 → Int32 → Int32 → MS → Prop) (hL73 : ∀ (x1 : Int32) (x2 : Int32) (x3 : Int32) (x4 : Int32) (st : MS), L73 x1 x2 x3 x4 st → jJ p l e { frames := 4, cells := 0, slots := 0, locals := 95 } s m args below meth c (MQ below (va_Qv post (fun u => cB D ct A (MW ct ad u)) A) args s 0 0 A) A D 6 (MW ct ad st) 0 0 73 [(0, .ref (ad 0)), (1, .int x1), (2, .int x2), (3, .int x3), (4, .int x4)] []) (x1 : Int32) (x3 : Int32) (x4 : Int32) (s1 : Int32) (s2 : Int32) (st : MS) (h : wX3_make_134 post L73 x1 x3 x4 s1 s2 st) : jJ p l e { frames := 4, cells := 0, slots := 0, locals := 95 } s m args below meth c (MQ below (va_Qv post (fun u => cB D ct A (MW ct ad u)) A) args s 0 0 A) A D 6 (MW ct ad st) 0 0 134 [(0, .ref (ad 0)), (1, .int x1), (3, .int x3), (4, .int x4)] [.int s2, .int s1, .ref (ad 10)] := by
  unfold wX3_make_134 at h
  refine j_sipush K (10000 : Int32) dX3_make_134 (by decide) ?_
  refine j_goto K 143 dX3_make_137 (by decide) ?_
  exact kX3_make_143 K hr L73 hL73 x1 x3 x4 s1 s2 (10000 : Int32) st h
theorem kX3_make_119 {p : Program} {l : Launch} {e : Env} {s : State} {m : MethodId} {args : Array Value} {below : List Frame} {meth : Method} {c : Code} {A : Nat → Prop} {D : va_G} {ct : Nat → ClassId} {ad : Nat → Nat} {post : MS → Prop} (K : CX p s m args meth c cX3_make 6 RX3 A D ct gT) (hr : meth.sig.returnType = none) (L73 : Int32 → Int32 → Int32 → Int32 → MS → Prop) (hL73 : ∀ (x1 : Int32) (x2 : Int32) (x3 : Int32) (x4 : Int32) (st : MS), L73 x1 x2 x3 x4 st → jJ p l e { frames := 4, cells := 0, slots := 0, locals := 95 } s m args below meth c (MQ below (va_Qv post (fun u => cB D ct A (MW ct ad u)) A) args s 0 0 A) A D 6 (MW ct ad st) 0 0 73 [(0, .ref (ad 0)), (1, .int x1), (2, .int x2), (3, .int x3), (4, .int x4)] []) (x1 : Int32) (x3 : Int32) (x4 : Int32) (x5 : Int32) (st : MS) (h : wX3_make_119 post L73 x1 x3 x4 x5 st) : jJ p l e { frames := 4, cells := 0, slots := 0, locals := 95 } s m args below meth c (MQ below (va_Qv post (fun u => cB D ct A (MW ct ad u)) A) args s 0 0 A) A D 6 (MW ct ad st) 0 0 119 [(0, .ref (ad 0)), (1, .int x1), (3, .int x3), (4, .int x4), (5, .int x5)] [] := by
  unfold wX3_make_119 at h
  refine j_aload_n K 0 dX3_make_119 rfl rfl ?_
  refine mg_worths K dX3_make_120 ?_
  refine j_iload_n K 1 dX3_make_123 rfl rfl ?_
  refine j_iload K 3 dX3_make_124 rfl ?_
  refine j_iadd K dX3_make_126 ?_
  refine j_iload K 4 dX3_make_127 rfl ?_
  refine j_iload K 4 dX3_make_129 rfl ?_
  refine j_if_le K 140 dX3_make_131 (by decide) (fun hc => ?_) (fun hc => ?_)
  · refine j_lv K [0, 1, 2, 3] (lv' := [(0, .ref (ad 0)), (1, .int x1), (3, .int x3), (4, .int x4)]) rfl ?_
    exact kX3_make_140 K hr L73 hL73 x1 x3 x4 (x1 + x4) x5 st (h.1 hc)
  · refine j_lv K [0, 1, 2, 3] (lv' := [(0, .ref (ad 0)), (1, .int x1), (3, .int x3), (4, .int x4)]) rfl ?_
    exact kX3_make_134 K hr L73 hL73 x1 x3 x4 (x1 + x4) x5 st (h.2 hc)
theorem kX3_make_109 {p : Program} {l : Launch} {e : Env} {s : State} {m : MethodId} {args : Array Value} {below : List Frame} {meth : Method} {c : Code} {A : Nat → Prop} {D : va_G} {ct : Nat → ClassId} {ad : Nat → Nat} {post : MS → Prop} (K : CX p s m args meth c cX3_make 6 RX3 A D ct gT) (hr : meth.sig.returnType = none) (L73 : Int32 → Int32 → Int32 → Int32 → MS → Prop) (hL73 : ∀ (x1 : Int32) (x2 : Int32) (x3 : Int32) (x4 : Int32) (st : MS), L73 x1 x2 x3 x4 st → jJ p l e { frames := 4, cells := 0, slots := 0, locals := 95 } s m args below meth c (MQ below (va_Qv post (fun u => cB D ct A (MW ct ad u)) A) args s 0 0 A) A D 6 (MW ct ad st) 0 0 73 [(0, .ref (ad 0)), (1, .int x1), (2, .int x2), (3, .int x3), (4, .int x4)] []) (x1 : Int32) (x2 : Int32) (x3 : Int32) (x4 : Int32) (s0 : Int32) (st : MS) (h : wX3_make_109 post L73 x1 x2 x3 x4 s0 st) : jJ p l e { frames := 4, cells := 0, slots := 0, locals := 95 } s m args below meth c (MQ below (va_Qv post (fun u => cB D ct A (MW ct ad u)) A) args s 0 0 A) A D 6 (MW ct ad st) 0 0 109 [(0, .ref (ad 0)), (1, .int x1), (2, .int x2), (3, .int x3), (4, .int x4)] [.int s0] := by
  unfold wX3_make_109 at h
  refine j_istore K [(5, .int s0), (0, .ref (ad 0)), (1, .int x1), (2, .int x2), (3, .int x3), (4, .int x4)] dX3_make_109 (by decide) rfl ?_
  refine j_iload K 0 dX3_make_111 rfl ?_
  refine j_sipush K (1000 : Int32) dX3_make_113 (by decide) ?_
  refine j_icmp_eq K 147 dX3_make_116 (by decide) (fun hc => ?_) (fun hc => ?_)
  · refine j_lv K [1, 2, 3, 4, 5] (lv' := [(0, .ref (ad 0)), (1, .int x1), (2, .int x2), (3, .int x3), (4, .int x4)]) rfl ?_
    exact kX3_make_147 K hr L73 hL73 x1 x2 x3 x4 st (h.1 hc)
  · refine j_lv K [1, 2, 4, 5, 0] (lv' := [(0, .ref (ad 0)), (1, .int x1), (3, .int x3), (4, .int x4), (5, .int s0)]) rfl ?_
    exact kX3_make_119 K hr L73 hL73 x1 x3 x4 s0 st (h.2 hc)
theorem kX3_make_106 {p : Program} {l : Launch} {e : Env} {s : State} {m : MethodId} {args : Array Value} {below : List Frame} {meth : Method} {c : Code} {A : Nat → Prop} {D : va_G} {ct : Nat → ClassId} {ad : Nat → Nat} {post : MS → Prop} (K : CX p s m args meth c cX3_make 6 RX3 A D ct gT) (hr : meth.sig.returnType = none) (L73 : Int32 → Int32 → Int32 → Int32 → MS → Prop) (hL73 : ∀ (x1 : Int32) (x2 : Int32) (x3 : Int32) (x4 : Int32) (st : MS), L73 x1 x2 x3 x4 st → jJ p l e { frames := 4, cells := 0, slots := 0, locals := 95 } s m args below meth c (MQ below (va_Qv post (fun u => cB D ct A (MW ct ad u)) A) args s 0 0 A) A D 6 (MW ct ad st) 0 0 73 [(0, .ref (ad 0)), (1, .int x1), (2, .int x2), (3, .int x3), (4, .int x4)] []) (x1 : Int32) (x2 : Int32) (x3 : Int32) (x4 : Int32) (st : MS) (h : wX3_make_106 post L73 x1 x2 x3 x4 st) : jJ p l e { frames := 4, cells := 0, slots := 0, locals := 95 } s m args below meth c (MQ below (va_Qv post (fun u => cB D ct A (MW ct ad u)) A) args s 0 0 A) A D 6 (MW ct ad st) 0 0 106 [(0, .ref (ad 0)), (1, .int x1), (2, .int x2), (3, .int x3), (4, .int x4)] [] := by
  unfold wX3_make_106 at h
  refine j_sipush K (1000 : Int32) dX3_make_106 (by decide) ?_
  exact kX3_make_109 K hr L73 hL73 x1 x2 x3 x4 (1000 : Int32) st h
theorem kX3_make_95 {p : Program} {l : Launch} {e : Env} {s : State} {m : MethodId} {args : Array Value} {below : List Frame} {meth : Method} {c : Code} {A : Nat → Prop} {D : va_G} {ct : Nat → ClassId} {ad : Nat → Nat} {post : MS → Prop} (K : CX p s m args meth c cX3_make 6 RX3 A D ct gT) (hr : meth.sig.returnType = none) (L73 : Int32 → Int32 → Int32 → Int32 → MS → Prop) (hL73 : ∀ (x1 : Int32) (x2 : Int32) (x3 : Int32) (x4 : Int32) (st : MS), L73 x1 x2 x3 x4 st → jJ p l e { frames := 4, cells := 0, slots := 0, locals := 95 } s m args below meth c (MQ below (va_Qv post (fun u => cB D ct A (MW ct ad u)) A) args s 0 0 A) A D 6 (MW ct ad st) 0 0 73 [(0, .ref (ad 0)), (1, .int x1), (2, .int x2), (3, .int x3), (4, .int x4)] []) (x1 : Int32) (x2 : Int32) (x3 : Int32) (x4 : Int32) (st : MS) (h : wX3_make_95 post L73 x1 x2 x3 x4 st) : jJ p l e { frames := 4, cells := 0, slots := 0, locals := 95 } s m args below meth c (MQ below (va_Qv post (fun u => cB D ct A (MW ct ad u)) A) args s 0 0 A) A D 6 (MW ct ad st) 0 0 95 [(0, .ref (ad 0)), (1, .int x1), (2, .int x2), (3, .int x3), (4, .int x4)] [] := by
  unfold wX3_make_95 at h
  refine j_aload_n K 0 dX3_make_95 rfl rfl ?_
  refine j_iload_n K 1 dX3_make_96 rfl rfl ?_
  refine j_iload K 4 dX3_make_97 rfl ?_
  refine j_iload_n K 3 dX3_make_99 rfl rfl ?_
  obtain ⟨hp, h⟩ := h
  refine j_callVi K (As := [.int x1, .int x4, .int x3]) (rest := []) (ctX3_found (l := l) (D := D) (ct := ct) (ad := ad) x1 x4 x3 st hp) gwX3_found gdX3_found ⟨Nat.le_of_ble_eq_true rfl, Nat.le_of_ble_eq_true rfl⟩ 0 rfl rfl rfl rfl rfl (Nat.le_of_ble_eq_true rfl) dX3_make_100 ⟨Nat.le_of_ble_eq_true rfl, Nat.le_of_ble_eq_true rfl⟩ (fun r_1 st_2 hq => ?_)
  replace h := h r_1 st_2 hq
  refine j_goto K 109 dX3_make_103 (by decide) ?_
  exact kX3_make_109 K hr L73 hL73 x1 x2 x3 x4 r_1 st_2 h
theorem kX3_make_80 {p : Program} {l : Launch} {e : Env} {s : State} {m : MethodId} {args : Array Value} {below : List Frame} {meth : Method} {c : Code} {A : Nat → Prop} {D : va_G} {ct : Nat → ClassId} {ad : Nat → Nat} {post : MS → Prop} (K : CX p s m args meth c cX3_make 6 RX3 A D ct gT) (hr : meth.sig.returnType = none) (L73 : Int32 → Int32 → Int32 → Int32 → MS → Prop) (hL73 : ∀ (x1 : Int32) (x2 : Int32) (x3 : Int32) (x4 : Int32) (st : MS), L73 x1 x2 x3 x4 st → jJ p l e { frames := 4, cells := 0, slots := 0, locals := 95 } s m args below meth c (MQ below (va_Qv post (fun u => cB D ct A (MW ct ad u)) A) args s 0 0 A) A D 6 (MW ct ad st) 0 0 73 [(0, .ref (ad 0)), (1, .int x1), (2, .int x2), (3, .int x3), (4, .int x4)] []) (x1 : Int32) (x2 : Int32) (x3 : Int32) (x4 : Int32) (st : MS) (h : wX3_make_80 post L73 x1 x2 x3 x4 st) : jJ p l e { frames := 4, cells := 0, slots := 0, locals := 95 } s m args below meth c (MQ below (va_Qv post (fun u => cB D ct A (MW ct ad u)) A) args s 0 0 A) A D 6 (MW ct ad st) 0 0 80 [(0, .ref (ad 0)), (1, .int x1), (2, .int x2), (3, .int x3), (4, .int x4)] [] := by
  unfold wX3_make_80 at h
  refine j_aload_n K 0 dX3_make_80 rfl rfl ?_
  refine mg_worths K dX3_make_81 ?_
  refine j_iload_n K 1 dX3_make_84 rfl rfl ?_
  refine j_iload K 4 dX3_make_85 rfl ?_
  refine j_iadd K dX3_make_87 ?_
  obtain ⟨hc, h⟩ := h
  refine ml_worths K hc dX3_make_88 ?_
  refine j_sipush K (1000 : Int32) dX3_make_89 (by decide) ?_
  refine j_icmp_ne K 106 dX3_make_92 (by decide) (fun hc => ?_) (fun hc => ?_)
  · exact kX3_make_106 K hr L73 hL73 x1 x2 x3 x4 st (h.1 hc)
  · exact kX3_make_95 K hr L73 hL73 x1 x2 x3 x4 st (h.2 hc)
theorem kX3_make_73_b {p : Program} {l : Launch} {e : Env} {s : State} {m : MethodId} {args : Array Value} {below : List Frame} {meth : Method} {c : Code} {A : Nat → Prop} {D : va_G} {ct : Nat → ClassId} {ad : Nat → Nat} {post : MS → Prop} (K : CX p s m args meth c cX3_make 6 RX3 A D ct gT) (hr : meth.sig.returnType = none) (L64 : Int32 → Int32 → Int32 → MS → Prop) (L73 : Int32 → Int32 → Int32 → Int32 → MS → Prop) (hL64 : ∀ (x1 : Int32) (x2 : Int32) (x3 : Int32) (st : MS), L64 x1 x2 x3 st → jJ p l e { frames := 4, cells := 0, slots := 0, locals := 95 } s m args below meth c (MQ below (va_Qv post (fun u => cB D ct A (MW ct ad u)) A) args s 0 0 A) A D 6 (MW ct ad st) 0 0 64 [(0, .ref (ad 0)), (1, .int x1), (2, .int x2), (3, .int x3)] []) (hL73 : ∀ (x1 : Int32) (x2 : Int32) (x3 : Int32) (x4 : Int32) (st : MS), L73 x1 x2 x3 x4 st → jJ p l e { frames := 4, cells := 0, slots := 0, locals := 95 } s m args below meth c (MQ below (va_Qv post (fun u => cB D ct A (MW ct ad u)) A) args s 0 0 A) A D 6 (MW ct ad st) 0 0 73 [(0, .ref (ad 0)), (1, .int x1), (2, .int x2), (3, .int x3), (4, .int x4)] []) (x1 : Int32) (x2 : Int32) (x3 : Int32) (x4 : Int32) (st : MS) (h : wX3_make_73_b post L64 L73 x1 x2 x3 x4 st) : jJ p l e { frames := 4, cells := 0, slots := 0, locals := 95 } s m args below meth c (MQ below (va_Qv post (fun u => cB D ct A (MW ct ad u)) A) args s 0 0 A) A D 6 (MW ct ad st) 0 0 73 [(0, .ref (ad 0)), (1, .int x1), (2, .int x2), (3, .int x3), (4, .int x4)] [] := by
  unfold wX3_make_73_b at h
  refine j_iload K 4 dX3_make_73 rfl ?_
  refine j_ldc K q1174 dX3_make_75 ?_
  refine j_icmp_ge K 153 dX3_make_77 (by decide) (fun hc => ?_) (fun hc => ?_)
  · refine j_lv K [0, 1, 2, 3] (lv' := [(0, .ref (ad 0)), (1, .int x1), (2, .int x2), (3, .int x3)]) rfl ?_
    exact kX3_make_153 K hr L64 hL64 x1 x2 x3 st (h.1 hc)
  · exact kX3_make_80 K hr L73 hL73 x1 x2 x3 x4 st (h.2 hc)
theorem kX3_make_73 {p : Program} {l : Launch} {e : Env} {s : State} {m : MethodId} {args : Array Value} {below : List Frame} {meth : Method} {c : Code} {A : Nat → Prop} {D : va_G} {ct : Nat → ClassId} {ad : Nat → Nat} {post : MS → Prop} (K : CX p s m args meth c cX3_make 6 RX3 A D ct gT) (hr : meth.sig.returnType = none) (L64 : Int32 → Int32 → Int32 → MS → Prop) (hL64 : ∀ (x1 : Int32) (x2 : Int32) (x3 : Int32) (st : MS), L64 x1 x2 x3 st → jJ p l e { frames := 4, cells := 0, slots := 0, locals := 95 } s m args below meth c (MQ below (va_Qv post (fun u => cB D ct A (MW ct ad u)) A) args s 0 0 A) A D 6 (MW ct ad st) 0 0 64 [(0, .ref (ad 0)), (1, .int x1), (2, .int x2), (3, .int x3)] []) (x1 : Int32) (x2 : Int32) (x3 : Int32) (x4 : Int32) (st : MS) (h : wX3_make_73 post L64 x1 x2 x3 x4 st) : jJ p l e { frames := 4, cells := 0, slots := 0, locals := 95 } s m args below meth c (MQ below (va_Qv post (fun u => cB D ct A (MW ct ad u)) A) args s 0 0 A) A D 6 (MW ct ad st) 0 0 73 [(0, .ref (ad 0)), (1, .int x1), (2, .int x2), (3, .int x3), (4, .int x4)] [] :=
  wloop_sound (V := Int32 × Int32 × Int32 × Int32 × MS) (Wk := fun v => jJ p l e { frames := 4, cells := 0, slots := 0, locals := 95 } s m args below meth c (MQ below (va_Qv post (fun u => cB D ct A (MW ct ad u)) A) args s 0 0 A) A D 6 (MW ct ad v.2.2.2.2) 0 0 73 [(0, .ref (ad 0)), (1, .int v.1), (2, .int v.2.1), (3, .int v.2.2.1), (4, .int v.2.2.2.1)] []) (fun L hL v hb => kX3_make_73_b K hr L64 (fun x1 x2 x3 x4 st => L (x1, x2, x3, x4, st)) hL64 (fun x1 x2 x3 x4 st hx => hL (x1, x2, x3, x4, st) hx) v.1 v.2.1 v.2.2.1 v.2.2.2.1 v.2.2.2.2 hb) h
theorem kX3_make_68 {p : Program} {l : Launch} {e : Env} {s : State} {m : MethodId} {args : Array Value} {below : List Frame} {meth : Method} {c : Code} {A : Nat → Prop} {D : va_G} {ct : Nat → ClassId} {ad : Nat → Nat} {post : MS → Prop} (K : CX p s m args meth c cX3_make 6 RX3 A D ct gT) (hr : meth.sig.returnType = none) (L64 : Int32 → Int32 → Int32 → MS → Prop) (hL64 : ∀ (x1 : Int32) (x2 : Int32) (x3 : Int32) (st : MS), L64 x1 x2 x3 st → jJ p l e { frames := 4, cells := 0, slots := 0, locals := 95 } s m args below meth c (MQ below (va_Qv post (fun u => cB D ct A (MW ct ad u)) A) args s 0 0 A) A D 6 (MW ct ad st) 0 0 64 [(0, .ref (ad 0)), (1, .int x1), (2, .int x2), (3, .int x3)] []) (x1 : Int32) (x3 : Int32) (st : MS) (h : wX3_make_68 post L64 x1 x3 st) : jJ p l e { frames := 4, cells := 0, slots := 0, locals := 95 } s m args below meth c (MQ below (va_Qv post (fun u => cB D ct A (MW ct ad u)) A) args s 0 0 A) A D 6 (MW ct ad st) 0 0 68 [(0, .ref (ad 0)), (1, .int x1), (3, .int x3)] [] := by
  unfold wX3_make_68 at h
  refine j_iconst K (0 : Int32) dX3_make_68 (by decide) ?_
  refine j_istore_n K [(2, .int (0 : Int32)), (0, .ref (ad 0)), (1, .int x1), (3, .int x3)] dX3_make_69 rfl (by decide) rfl ?_
  refine j_iconst K (0 : Int32) dX3_make_70 (by decide) ?_
  refine j_istore K [(4, .int (0 : Int32)), (2, .int (0 : Int32)), (0, .ref (ad 0)), (1, .int x1), (3, .int x3)] dX3_make_71 (by decide) rfl ?_
  refine j_lv K [2, 3, 1, 4, 0] (lv' := [(0, .ref (ad 0)), (1, .int x1), (2, .int (0 : Int32)), (3, .int x3), (4, .int (0 : Int32))]) rfl ?_
  exact kX3_make_73 K hr L64 hL64 x1 (0 : Int32) x3 (0 : Int32) st h
theorem kX3_make_64_b {p : Program} {l : Launch} {e : Env} {s : State} {m : MethodId} {args : Array Value} {below : List Frame} {meth : Method} {c : Code} {A : Nat → Prop} {D : va_G} {ct : Nat → ClassId} {ad : Nat → Nat} {post : MS → Prop} (K : CX p s m args meth c cX3_make 6 RX3 A D ct gT) (hr : meth.sig.returnType = none) (L64 : Int32 → Int32 → Int32 → MS → Prop) (hL64 : ∀ (x1 : Int32) (x2 : Int32) (x3 : Int32) (st : MS), L64 x1 x2 x3 st → jJ p l e { frames := 4, cells := 0, slots := 0, locals := 95 } s m args below meth c (MQ below (va_Qv post (fun u => cB D ct A (MW ct ad u)) A) args s 0 0 A) A D 6 (MW ct ad st) 0 0 64 [(0, .ref (ad 0)), (1, .int x1), (2, .int x2), (3, .int x3)] []) (x1 : Int32) (x2 : Int32) (x3 : Int32) (st : MS) (h : wX3_make_64_b post L64 x1 x2 x3 st) : jJ p l e { frames := 4, cells := 0, slots := 0, locals := 95 } s m args below meth c (MQ below (va_Qv post (fun u => cB D ct A (MW ct ad u)) A) args s 0 0 A) A D 6 (MW ct ad st) 0 0 64 [(0, .ref (ad 0)), (1, .int x1), (2, .int x2), (3, .int x3)] [] := by
  unfold wX3_make_64_b at h
  refine j_iload_n K 2 dX3_make_64 rfl rfl ?_
  refine j_if_eq K 226 dX3_make_65 (by decide) (fun hc => ?_) (fun hc => ?_)
  · refine j_lv K [0, 1] (lv' := [(0, .ref (ad 0)), (1, .int x1)]) rfl ?_
    exact kX3_make_226 K hr  x1 st (h.1 hc)
  · refine j_lv K [0, 1, 3] (lv' := [(0, .ref (ad 0)), (1, .int x1), (3, .int x3)]) rfl ?_
    exact kX3_make_68 K hr L64 hL64 x1 x3 st (h.2 hc)
theorem kX3_make_64 {p : Program} {l : Launch} {e : Env} {s : State} {m : MethodId} {args : Array Value} {below : List Frame} {meth : Method} {c : Code} {A : Nat → Prop} {D : va_G} {ct : Nat → ClassId} {ad : Nat → Nat} {post : MS → Prop} (K : CX p s m args meth c cX3_make 6 RX3 A D ct gT) (hr : meth.sig.returnType = none)   (x1 : Int32) (x2 : Int32) (x3 : Int32) (st : MS) (h : wX3_make_64 post  x1 x2 x3 st) : jJ p l e { frames := 4, cells := 0, slots := 0, locals := 95 } s m args below meth c (MQ below (va_Qv post (fun u => cB D ct A (MW ct ad u)) A) args s 0 0 A) A D 6 (MW ct ad st) 0 0 64 [(0, .ref (ad 0)), (1, .int x1), (2, .int x2), (3, .int x3)] [] :=
  wloop_sound (V := Int32 × Int32 × Int32 × MS) (Wk := fun v => jJ p l e { frames := 4, cells := 0, slots := 0, locals := 95 } s m args below meth c (MQ below (va_Qv post (fun u => cB D ct A (MW ct ad u)) A) args s 0 0 A) A D 6 (MW ct ad v.2.2.2) 0 0 64 [(0, .ref (ad 0)), (1, .int v.1), (2, .int v.2.1), (3, .int v.2.2.1)] []) (fun L hL v hb => kX3_make_64_b K hr (fun x1 x2 x3 st => L (x1, x2, x3, st)) (fun x1 x2 x3 st hx => hL (x1, x2, x3, st) hx) v.1 v.2.1 v.2.2.1 v.2.2.2 hb) h
theorem kX3_make_60 {p : Program} {l : Launch} {e : Env} {s : State} {m : MethodId} {args : Array Value} {below : List Frame} {meth : Method} {c : Code} {A : Nat → Prop} {D : va_G} {ct : Nat → ClassId} {ad : Nat → Nat} {post : MS → Prop} (K : CX p s m args meth c cX3_make 6 RX3 A D ct gT) (hr : meth.sig.returnType = none)   (x1 : Int32) (st : MS) (h : wX3_make_60 post  x1 st) : jJ p l e { frames := 4, cells := 0, slots := 0, locals := 95 } s m args below meth c (MQ below (va_Qv post (fun u => cB D ct A (MW ct ad u)) A) args s 0 0 A) A D 6 (MW ct ad st) 0 0 60 [(0, .ref (ad 0)), (1, .int x1)] [] := by
  unfold wX3_make_60 at h
  refine j_iconst K (1 : Int32) dX3_make_60 (by decide) ?_
  refine j_istore_n K [(2, .int (1 : Int32)), (0, .ref (ad 0)), (1, .int x1)] dX3_make_61 rfl (by decide) rfl ?_
  refine j_iconst K (1 : Int32) dX3_make_62 (by decide) ?_
  refine j_istore_n K [(3, .int (1 : Int32)), (2, .int (1 : Int32)), (0, .ref (ad 0)), (1, .int x1)] dX3_make_63 rfl (by decide) rfl ?_
  refine j_lv K [2, 3, 1, 0] (lv' := [(0, .ref (ad 0)), (1, .int x1), (2, .int (1 : Int32)), (3, .int (1 : Int32))]) rfl ?_
  exact kX3_make_64 K hr  x1 (1 : Int32) (1 : Int32) st h
theorem kX3_make_53 {p : Program} {l : Launch} {e : Env} {s : State} {m : MethodId} {args : Array Value} {below : List Frame} {meth : Method} {c : Code} {A : Nat → Prop} {D : va_G} {ct : Nat → ClassId} {ad : Nat → Nat} {post : MS → Prop} (K : CX p s m args meth c cX3_make 6 RX3 A D ct gT) (hr : meth.sig.returnType = none) (L2 : Int32 → Int32 → MS → Prop) (hL2 : ∀ (x1 : Int32) (x2 : Int32) (st : MS), L2 x1 x2 st → jJ p l e { frames := 4, cells := 0, slots := 0, locals := 95 } s m args below meth c (MQ below (va_Qv post (fun u => cB D ct A (MW ct ad u)) A) args s 0 0 A) A D 6 (MW ct ad st) 0 0 2 [(0, .ref (ad 0)), (1, .int x1), (2, .int x2)] []) (x1 : Int32) (x2 : Int32) (s1 : Int32) (s2 : Int32) (st : MS) (h : wX3_make_53 post L2 x1 x2 s1 s2 st) : jJ p l e { frames := 4, cells := 0, slots := 0, locals := 95 } s m args below meth c (MQ below (va_Qv post (fun u => cB D ct A (MW ct ad u)) A) args s 0 0 A) A D 6 (MW ct ad st) 0 0 53 [(0, .ref (ad 0)), (1, .int x1), (2, .int x2)] [.int s2, .int s1, .ref (ad 10)] := by
  unfold wX3_make_53 at h
  obtain ⟨hc, h⟩ := h
  refine mt_worths K hc dX3_make_53 ?_
  refine j_iinc K 2 (x2 + (1 : Int32)) [(2, .int (x2 + (1 : Int32))), (0, .ref (ad 0)), (1, .int x1)] dX3_make_54 rfl rfl (by decide) rfl ?_
  refine j_goto K 2 dX3_make_57 (by decide) ?_
  refine j_lv K [1, 2, 0] (lv' := [(0, .ref (ad 0)), (1, .int x1), (2, .int (x2 + (1 : Int32)))]) rfl ?_
  exact hL2 x1 (x2 + (1 : Int32)) (mA st 9 (s1).toNatClampNeg s2) h
theorem kX3_make_50 {p : Program} {l : Launch} {e : Env} {s : State} {m : MethodId} {args : Array Value} {below : List Frame} {meth : Method} {c : Code} {A : Nat → Prop} {D : va_G} {ct : Nat → ClassId} {ad : Nat → Nat} {post : MS → Prop} (K : CX p s m args meth c cX3_make 6 RX3 A D ct gT) (hr : meth.sig.returnType = none) (L2 : Int32 → Int32 → MS → Prop) (hL2 : ∀ (x1 : Int32) (x2 : Int32) (st : MS), L2 x1 x2 st → jJ p l e { frames := 4, cells := 0, slots := 0, locals := 95 } s m args below meth c (MQ below (va_Qv post (fun u => cB D ct A (MW ct ad u)) A) args s 0 0 A) A D 6 (MW ct ad st) 0 0 2 [(0, .ref (ad 0)), (1, .int x1), (2, .int x2)] []) (x1 : Int32) (x2 : Int32) (s1 : Int32) (st : MS) (h : wX3_make_50 post L2 x1 x2 s1 st) : jJ p l e { frames := 4, cells := 0, slots := 0, locals := 95 } s m args below meth c (MQ below (va_Qv post (fun u => cB D ct A (MW ct ad u)) A) args s 0 0 A) A D 6 (MW ct ad st) 0 0 50 [(0, .ref (ad 0)), (1, .int x1), (2, .int x2)] [.int s1, .ref (ad 10)] := by
  unfold wX3_make_50 at h
  refine j_sipush K (1000 : Int32) dX3_make_50 (by decide) ?_
  exact kX3_make_53 K hr L2 hL2 x1 x2 s1 (1000 : Int32) st h
theorem kX3_make_46 {p : Program} {l : Launch} {e : Env} {s : State} {m : MethodId} {args : Array Value} {below : List Frame} {meth : Method} {c : Code} {A : Nat → Prop} {D : va_G} {ct : Nat → ClassId} {ad : Nat → Nat} {post : MS → Prop} (K : CX p s m args meth c cX3_make 6 RX3 A D ct gT) (hr : meth.sig.returnType = none) (L2 : Int32 → Int32 → MS → Prop) (hL2 : ∀ (x1 : Int32) (x2 : Int32) (st : MS), L2 x1 x2 st → jJ p l e { frames := 4, cells := 0, slots := 0, locals := 95 } s m args below meth c (MQ below (va_Qv post (fun u => cB D ct A (MW ct ad u)) A) args s 0 0 A) A D 6 (MW ct ad st) 0 0 2 [(0, .ref (ad 0)), (1, .int x1), (2, .int x2)] []) (x1 : Int32) (x2 : Int32) (s1 : Int32) (st : MS) (h : wX3_make_46 post L2 x1 x2 s1 st) : jJ p l e { frames := 4, cells := 0, slots := 0, locals := 95 } s m args below meth c (MQ below (va_Qv post (fun u => cB D ct A (MW ct ad u)) A) args s 0 0 A) A D 6 (MW ct ad st) 0 0 46 [(0, .ref (ad 0)), (1, .int x1), (2, .int x2)] [.int s1, .ref (ad 10)] := by
  unfold wX3_make_46 at h
  refine j_iconst K (-1 : Int32) dX3_make_46 (by decide) ?_
  refine j_goto K 53 dX3_make_47 (by decide) ?_
  exact kX3_make_53 K hr L2 hL2 x1 x2 s1 (-1 : Int32) st h
theorem kX3_make_39 {p : Program} {l : Launch} {e : Env} {s : State} {m : MethodId} {args : Array Value} {below : List Frame} {meth : Method} {c : Code} {A : Nat → Prop} {D : va_G} {ct : Nat → ClassId} {ad : Nat → Nat} {post : MS → Prop} (K : CX p s m args meth c cX3_make 6 RX3 A D ct gT) (hr : meth.sig.returnType = none) (L2 : Int32 → Int32 → MS → Prop) (hL2 : ∀ (x1 : Int32) (x2 : Int32) (st : MS), L2 x1 x2 st → jJ p l e { frames := 4, cells := 0, slots := 0, locals := 95 } s m args below meth c (MQ below (va_Qv post (fun u => cB D ct A (MW ct ad u)) A) args s 0 0 A) A D 6 (MW ct ad st) 0 0 2 [(0, .ref (ad 0)), (1, .int x1), (2, .int x2)] []) (x1 : Int32) (x2 : Int32) (s1 : Int32) (st : MS) (h : wX3_make_39 post L2 x1 x2 s1 st) : jJ p l e { frames := 4, cells := 0, slots := 0, locals := 95 } s m args below meth c (MQ below (va_Qv post (fun u => cB D ct A (MW ct ad u)) A) args s 0 0 A) A D 6 (MW ct ad st) 0 0 39 [(0, .ref (ad 0)), (1, .int x1), (2, .int x2)] [.int s1, .ref (ad 10)] := by
  unfold wX3_make_39 at h
  refine j_aload_n K 0 dX3_make_39 rfl rfl ?_
  refine mg_many K dX3_make_40 ?_
  refine j_if_ne K 50 dX3_make_43 (by decide) (fun hc => ?_) (fun hc => ?_)
  · exact kX3_make_50 K hr L2 hL2 x1 x2 s1 st (h.1 hc)
  · exact kX3_make_46 K hr L2 hL2 x1 x2 s1 st (h.2 hc)
theorem kX3_make_33 {p : Program} {l : Launch} {e : Env} {s : State} {m : MethodId} {args : Array Value} {below : List Frame} {meth : Method} {c : Code} {A : Nat → Prop} {D : va_G} {ct : Nat → ClassId} {ad : Nat → Nat} {post : MS → Prop} (K : CX p s m args meth c cX3_make 6 RX3 A D ct gT) (hr : meth.sig.returnType = none) (L2 : Int32 → Int32 → MS → Prop) (hL2 : ∀ (x1 : Int32) (x2 : Int32) (st : MS), L2 x1 x2 st → jJ p l e { frames := 4, cells := 0, slots := 0, locals := 95 } s m args below meth c (MQ below (va_Qv post (fun u => cB D ct A (MW ct ad u)) A) args s 0 0 A) A D 6 (MW ct ad st) 0 0 2 [(0, .ref (ad 0)), (1, .int x1), (2, .int x2)] []) (x1 : Int32) (x2 : Int32) (s1 : Int32) (st : MS) (h : wX3_make_33 post L2 x1 x2 s1 st) : jJ p l e { frames := 4, cells := 0, slots := 0, locals := 95 } s m args below meth c (MQ below (va_Qv post (fun u => cB D ct A (MW ct ad u)) A) args s 0 0 A) A D 6 (MW ct ad st) 0 0 33 [(0, .ref (ad 0)), (1, .int x1), (2, .int x2)] [.int s1, .ref (ad 10)] := by
  unfold wX3_make_33 at h
  refine j_sipush K (2000 : Int32) dX3_make_33 (by decide) ?_
  refine j_goto K 53 dX3_make_36 (by decide) ?_
  exact kX3_make_53 K hr L2 hL2 x1 x2 s1 (2000 : Int32) st h
theorem kX3_make_8 {p : Program} {l : Launch} {e : Env} {s : State} {m : MethodId} {args : Array Value} {below : List Frame} {meth : Method} {c : Code} {A : Nat → Prop} {D : va_G} {ct : Nat → ClassId} {ad : Nat → Nat} {post : MS → Prop} (K : CX p s m args meth c cX3_make 6 RX3 A D ct gT) (hr : meth.sig.returnType = none) (L2 : Int32 → Int32 → MS → Prop) (hL2 : ∀ (x1 : Int32) (x2 : Int32) (st : MS), L2 x1 x2 st → jJ p l e { frames := 4, cells := 0, slots := 0, locals := 95 } s m args below meth c (MQ below (va_Qv post (fun u => cB D ct A (MW ct ad u)) A) args s 0 0 A) A D 6 (MW ct ad st) 0 0 2 [(0, .ref (ad 0)), (1, .int x1), (2, .int x2)] []) (x1 : Int32) (x2 : Int32) (st : MS) (h : wX3_make_8 post L2 x1 x2 st) : jJ p l e { frames := 4, cells := 0, slots := 0, locals := 95 } s m args below meth c (MQ below (va_Qv post (fun u => cB D ct A (MW ct ad u)) A) args s 0 0 A) A D 6 (MW ct ad st) 0 0 8 [(0, .ref (ad 0)), (1, .int x1), (2, .int x2)] [] := by
  unfold wX3_make_8 at h
  refine j_aload_n K 0 dX3_make_8 rfl rfl ?_
  refine j_iload_n K 2 dX3_make_9 rfl rfl ?_
  obtain ⟨hp, h⟩ := h
  refine j_callVv K (As := [.int x2]) (rest := []) (ctX3_open (l := l) (D := D) (ct := ct) (ad := ad) x2 st hp) gwX3_open gdX3_open ⟨Nat.le_of_ble_eq_true rfl, Nat.le_of_ble_eq_true rfl⟩ 0 rfl rfl rfl rfl rfl (Nat.le_of_ble_eq_true rfl) dX3_make_10 ⟨Nat.le_of_ble_eq_true rfl, Nat.le_of_ble_eq_true rfl⟩ (fun st_1 hq => ?_)
  replace h := h st_1 hq
  refine j_aload_n K 0 dX3_make_13 rfl rfl ?_
  obtain ⟨hp, h⟩ := h
  refine j_callVi K (As := []) (rest := []) (ctX3_isLegal (l := l) (D := D) (ct := ct) (ad := ad)  st_1 hp) gwX3_isLegal gdX3_isLegal ⟨Nat.le_of_ble_eq_true rfl, Nat.le_of_ble_eq_true rfl⟩ 0 rfl rfl rfl rfl rfl (Nat.le_of_ble_eq_true rfl) dX3_make_14 ⟨Nat.le_of_ble_eq_true rfl, Nat.le_of_ble_eq_true rfl⟩ (fun r_2 st_3 hq => ?_)
  obtain ⟨hq, rfl⟩ := hq
  replace h := h r_2 hq
  refine j_istore_n K [(3, .int r_2), (0, .ref (ad 0)), (1, .int x1), (2, .int x2)] dX3_make_17 rfl (by decide) rfl ?_
  refine j_aload_n K 1 dX3_make_18 rfl rfl ?_
  obtain ⟨hp, h⟩ := h
  refine j_callVv K (As := []) (rest := []) (ctX3_look (l := l) (D := D) (ct := ct) (ad := ad)  st_1 hp) gwX3_look gdX3_look ⟨Nat.le_of_ble_eq_true rfl, Nat.le_of_ble_eq_true rfl⟩ 0 rfl rfl rfl rfl rfl (Nat.le_of_ble_eq_true rfl) dX3_make_19 ⟨Nat.le_of_ble_eq_true rfl, Nat.le_of_ble_eq_true rfl⟩ (fun st_4 hq => ?_)
  replace h := h st_4 hq
  refine j_aload_n K 1 dX3_make_22 rfl rfl ?_
  refine mg_worths K dX3_make_23 ?_
  refine j_iload_n K 2 dX3_make_26 rfl rfl ?_
  refine j_iload_n K 3 dX3_make_27 rfl rfl ?_
  refine j_iadd K dX3_make_28 ?_
  refine j_iload_n K 0 dX3_make_29 rfl rfl ?_
  refine j_if_ne K 39 dX3_make_30 (by decide) (fun hc => ?_) (fun hc => ?_)
  · refine j_lv K [1, 2, 3] (lv' := [(0, .ref (ad 0)), (1, .int x1), (2, .int x2)]) rfl ?_
    exact kX3_make_39 K hr L2 hL2 x1 x2 (x1 + x2) st_4 (h.1 hc)
  · refine j_lv K [1, 2, 3] (lv' := [(0, .ref (ad 0)), (1, .int x1), (2, .int x2)]) rfl ?_
    exact kX3_make_33 K hr L2 hL2 x1 x2 (x1 + x2) st_4 (h.2 hc)
theorem kX3_make_2_b {p : Program} {l : Launch} {e : Env} {s : State} {m : MethodId} {args : Array Value} {below : List Frame} {meth : Method} {c : Code} {A : Nat → Prop} {D : va_G} {ct : Nat → ClassId} {ad : Nat → Nat} {post : MS → Prop} (K : CX p s m args meth c cX3_make 6 RX3 A D ct gT) (hr : meth.sig.returnType = none) (L2 : Int32 → Int32 → MS → Prop) (hL2 : ∀ (x1 : Int32) (x2 : Int32) (st : MS), L2 x1 x2 st → jJ p l e { frames := 4, cells := 0, slots := 0, locals := 95 } s m args below meth c (MQ below (va_Qv post (fun u => cB D ct A (MW ct ad u)) A) args s 0 0 A) A D 6 (MW ct ad st) 0 0 2 [(0, .ref (ad 0)), (1, .int x1), (2, .int x2)] []) (x1 : Int32) (x2 : Int32) (st : MS) (h : wX3_make_2_b post L2 x1 x2 st) : jJ p l e { frames := 4, cells := 0, slots := 0, locals := 95 } s m args below meth c (MQ below (va_Qv post (fun u => cB D ct A (MW ct ad u)) A) args s 0 0 A) A D 6 (MW ct ad st) 0 0 2 [(0, .ref (ad 0)), (1, .int x1), (2, .int x2)] [] := by
  unfold wX3_make_2_b at h
  refine j_iload_n K 2 dX3_make_2 rfl rfl ?_
  refine j_ldc K q1174 dX3_make_3 ?_
  refine j_icmp_ge K 60 dX3_make_5 (by decide) (fun hc => ?_) (fun hc => ?_)
  · refine j_lv K [0, 1] (lv' := [(0, .ref (ad 0)), (1, .int x1)]) rfl ?_
    exact kX3_make_60 K hr  x1 st (h.1 hc)
  · exact kX3_make_8 K hr L2 hL2 x1 x2 st (h.2 hc)
theorem kX3_make_2 {p : Program} {l : Launch} {e : Env} {s : State} {m : MethodId} {args : Array Value} {below : List Frame} {meth : Method} {c : Code} {A : Nat → Prop} {D : va_G} {ct : Nat → ClassId} {ad : Nat → Nat} {post : MS → Prop} (K : CX p s m args meth c cX3_make 6 RX3 A D ct gT) (hr : meth.sig.returnType = none)   (x1 : Int32) (x2 : Int32) (st : MS) (h : wX3_make_2 post  x1 x2 st) : jJ p l e { frames := 4, cells := 0, slots := 0, locals := 95 } s m args below meth c (MQ below (va_Qv post (fun u => cB D ct A (MW ct ad u)) A) args s 0 0 A) A D 6 (MW ct ad st) 0 0 2 [(0, .ref (ad 0)), (1, .int x1), (2, .int x2)] [] :=
  wloop_sound (V := Int32 × Int32 × MS) (Wk := fun v => jJ p l e { frames := 4, cells := 0, slots := 0, locals := 95 } s m args below meth c (MQ below (va_Qv post (fun u => cB D ct A (MW ct ad u)) A) args s 0 0 A) A D 6 (MW ct ad v.2.2) 0 0 2 [(0, .ref (ad 0)), (1, .int v.1), (2, .int v.2.1)] []) (fun L hL v hb => kX3_make_2_b K hr (fun x1 x2 st => L (x1, x2, st)) (fun x1 x2 st hx => hL (x1, x2, st) hx) v.1 v.2.1 v.2.2 hb) h
theorem kX3_make_0 {p : Program} {l : Launch} {e : Env} {s : State} {m : MethodId} {args : Array Value} {below : List Frame} {meth : Method} {c : Code} {A : Nat → Prop} {D : va_G} {ct : Nat → ClassId} {ad : Nat → Nat} {post : MS → Prop} (K : CX p s m args meth c cX3_make 6 RX3 A D ct gT) (hr : meth.sig.returnType = none)   (x1 : Int32) (st : MS) (h : wX3_make_0 post  x1 st) : jJ p l e { frames := 4, cells := 0, slots := 0, locals := 95 } s m args below meth c (MQ below (va_Qv post (fun u => cB D ct A (MW ct ad u)) A) args s 0 0 A) A D 6 (MW ct ad st) 0 0 0 [(0, .ref (ad 0)), (1, .int x1)] [] := by
  unfold wX3_make_0 at h
  refine j_iconst K (0 : Int32) dX3_make_0 (by decide) ?_
  refine j_istore_n K [(2, .int (0 : Int32)), (0, .ref (ad 0)), (1, .int x1)] dX3_make_1 rfl (by decide) rfl ?_
  refine j_lv K [1, 2, 0] (lv' := [(0, .ref (ad 0)), (1, .int x1), (2, .int (0 : Int32))]) rfl ?_
  exact kX3_make_2 K hr  x1 (0 : Int32) st h
theorem ctX3_make {l : Launch} {D : va_G} {ct : Nat → ClassId} {ad : Nat → Nat} (x1 : Int32) (st : MS) (hp : pX3_make x1 st) : ∀ sz, Met l yX3_make (ws_ yX3_make cX3_make 6 none) { frames := 4, cells := 0, slots := 0, locals := 95 } (va_Pc [.ref (ad 0), .int x1] (cPre gT D ct (MW ct ad st) sz)) (va_Qv (qX3_make x1 st) (fun u => cB D ct (va_A (MW ct ad st) sz) (MW ct ad u)) (va_A (MW ct ad st) sz)) 0 0 (va_A (MW ct ad st) sz) := fun sz =>
  j_met (Qc := fun A => va_Qv (qX3_make x1 st) (fun u => cB D ct A (MW ct ad u)) A) (by decide) gT_ok (Nat.le_of_ble_eq_true rfl) (fun p e s m args below meth c A K hr _ _ => kX3_make_0 K hr x1 st (vcX3_make x1 st hp))
-- X3_table
theorem gwX3_table : GoodIn lw_all (wsV RX3 109 RX3 yX3_table (ws_ yX3_table cX3_table 3 (some .int))) := lw_V q1170 q1172 qs60 q84 q1173
theorem gdX3_table : yX3_table.cls = RX3 ∧ yX3_table.cls ≠ "java/lang/invoke/MethodHandle" ∧ yX3_table.cls ≠ "java/lang/invoke/VarHandle" ∧ (parseMethodDescriptor yX3_table.desc).map (fun d => d.parameters.length) = some 0 := by decide +kernel
theorem kX3_table_42 {p : Program} {l : Launch} {e : Env} {s : State} {m : MethodId} {args : Array Value} {below : List Frame} {meth : Method} {c : Code} {A : Nat → Prop} {D : va_G} {ct : Nat → ClassId} {ad : Nat → Nat} {post : Int32 → MS → Prop} (K : CX p s m args meth c cX3_table 3 RX3 A D ct gT) (hr : meth.sig.returnType = (some .int))   (x2 : Int32) (st : MS) (h : wX3_table_42 post  x2 st) : jJ p l e { frames := 5, cells := 0, slots := 0, locals := 120 } s m args below meth c (MQ below (va_Qi post (fun u => cB D ct A (MW ct ad u)) A) args s 0 0 A) A D 3 (MW ct ad st) 0 0 42 [(2, .int x2)] [] := by
  unfold wX3_table_42 at h
  refine j_iload_n K 0 dX3_table_42 rfl rfl ?_
  exact j_iret st K hr rfl h (Nat.le_of_ble_eq_true rfl) (Nat.le_of_ble_eq_true rfl) dX3_table_43
theorem kX3_table_30 {p : Program} {l : Launch} {e : Env} {s : State} {m : MethodId} {args : Array Value} {below : List Frame} {meth : Method} {c : Code} {A : Nat → Prop} {D : va_G} {ct : Nat → ClassId} {ad : Nat → Nat} {post : Int32 → MS → Prop} (K : CX p s m args meth c cX3_table 3 RX3 A D ct gT) (hr : meth.sig.returnType = (some .int))   (x1 : Int32) (x2 : Int32) (st : MS) (h : wX3_table_30 post  x1 x2 st) : jJ p l e { frames := 5, cells := 0, slots := 0, locals := 120 } s m args below meth c (MQ below (va_Qi post (fun u => cB D ct A (MW ct ad u)) A) args s 0 0 A) A D 3 (MW ct ad st) 0 0 30 [(0, .ref (ad 0)), (1, .int x1), (2, .int x2)] [] := by
  unfold wX3_table_30 at h
  refine j_aload_n K 0 dX3_table_30 rfl rfl ?_
  refine mg_isMade K dX3_table_31 ?_
  refine j_iload_n K 1 dX3_table_34 rfl rfl ?_
  refine j_iconst K (1 : Int32) dX3_table_35 (by decide) ?_
  obtain ⟨hc, h⟩ := h
  refine mt_isMade K hc dX3_table_36 ?_
  refine j_aload_n K 0 dX3_table_37 rfl rfl ?_
  refine j_iload_n K 2 dX3_table_38 rfl rfl ?_
  obtain ⟨hp, h⟩ := h
  refine j_callVv K (As := [.int x2]) (rest := []) (ctX3_make (l := l) (D := D) (ct := ct) (ad := ad) x2 (mA st 10 (x1).toNatClampNeg (vp_nar .boolean (1 : Int32))) hp) gwX3_make gdX3_make ⟨Nat.le_of_ble_eq_true rfl, Nat.le_of_ble_eq_true rfl⟩ 0 rfl rfl rfl rfl rfl (Nat.le_of_ble_eq_true rfl) dX3_table_39 ⟨Nat.le_of_ble_eq_true rfl, Nat.le_of_ble_eq_true rfl⟩ (fun st_1 hq => ?_)
  replace h := h st_1 hq
  refine j_lv K [2] (lv' := [(2, .int x2)]) rfl ?_
  exact kX3_table_42 K hr  x2 st_1 h
theorem kX3_table_0 {p : Program} {l : Launch} {e : Env} {s : State} {m : MethodId} {args : Array Value} {below : List Frame} {meth : Method} {c : Code} {A : Nat → Prop} {D : va_G} {ct : Nat → ClassId} {ad : Nat → Nat} {post : Int32 → MS → Prop} (K : CX p s m args meth c cX3_table 3 RX3 A D ct gT) (hr : meth.sig.returnType = (some .int))    (st : MS) (h : wX3_table_0 post  st) : jJ p l e { frames := 5, cells := 0, slots := 0, locals := 120 } s m args below meth c (MQ below (va_Qi post (fun u => cB D ct A (MW ct ad u)) A) args s 0 0 A) A D 3 (MW ct ad st) 0 0 0 [(0, .ref (ad 0))] [] := by
  unfold wX3_table_0 at h
  refine j_iconst K (2 : Int32) dX3_table_0 (by decide) ?_
  refine j_aload_n K 0 dX3_table_1 rfl rfl ?_
  refine mg_row K dX3_table_2 ?_
  refine j_iconst K (0 : Int32) dX3_table_5 (by decide) ?_
  obtain ⟨hc, h⟩ := h
  refine ml_row K hc dX3_table_6 ?_
  refine j_imul K dX3_table_7 ?_
  refine j_aload_n K 0 dX3_table_8 rfl rfl ?_
  refine mg_row K dX3_table_9 ?_
  refine j_iconst K (1 : Int32) dX3_table_12 (by decide) ?_
  obtain ⟨hc, h⟩ := h
  refine ml_row K hc dX3_table_13 ?_
  refine j_iadd K dX3_table_14 ?_
  refine j_istore_n K [(1, .int (((2 : Int32) * (st.1 0 ((0 : Int32)).toNatClampNeg)) + (st.1 0 ((1 : Int32)).toNatClampNeg))), (0, .ref (ad 0))] dX3_table_15 rfl (by decide) rfl ?_
  refine j_ldc K q1174 dX3_table_16 ?_
  refine j_iload_n K 0 dX3_table_18 rfl rfl ?_
  refine j_imul K dX3_table_19 ?_
  refine j_istore_n K [(2, .int ((39366 : Int32) * (((2 : Int32) * (st.1 0 ((0 : Int32)).toNatClampNeg)) + (st.1 0 ((1 : Int32)).toNatClampNeg)))), (1, .int (((2 : Int32) * (st.1 0 ((0 : Int32)).toNatClampNeg)) + (st.1 0 ((1 : Int32)).toNatClampNeg))), (0, .ref (ad 0))] dX3_table_20 rfl (by decide) rfl ?_
  refine j_aload_n K 2 dX3_table_21 rfl rfl ?_
  refine mg_isMade K dX3_table_22 ?_
  refine j_iload_n K 1 dX3_table_25 rfl rfl ?_
  obtain ⟨hc, h⟩ := h
  refine ml_isMade K hc dX3_table_26 ?_
  refine j_if_ne K 42 dX3_table_27 (by decide) (fun hc => ?_) (fun hc => ?_)
  · refine j_lv K [0] (lv' := [(2, .int ((39366 : Int32) * (((2 : Int32) * (st.1 0 ((0 : Int32)).toNatClampNeg)) + (st.1 0 ((1 : Int32)).toNatClampNeg))))]) rfl ?_
    exact kX3_table_42 K hr  ((39366 : Int32) * (((2 : Int32) * (st.1 0 ((0 : Int32)).toNatClampNeg)) + (st.1 0 ((1 : Int32)).toNatClampNeg))) st (h.1 hc)
  · refine j_lv K [2, 1, 0] (lv' := [(0, .ref (ad 0)), (1, .int (((2 : Int32) * (st.1 0 ((0 : Int32)).toNatClampNeg)) + (st.1 0 ((1 : Int32)).toNatClampNeg))), (2, .int ((39366 : Int32) * (((2 : Int32) * (st.1 0 ((0 : Int32)).toNatClampNeg)) + (st.1 0 ((1 : Int32)).toNatClampNeg))))]) rfl ?_
    exact kX3_table_30 K hr  (((2 : Int32) * (st.1 0 ((0 : Int32)).toNatClampNeg)) + (st.1 0 ((1 : Int32)).toNatClampNeg)) ((39366 : Int32) * (((2 : Int32) * (st.1 0 ((0 : Int32)).toNatClampNeg)) + (st.1 0 ((1 : Int32)).toNatClampNeg))) st (h.2 hc)
theorem ctX3_table {l : Launch} {D : va_G} {ct : Nat → ClassId} {ad : Nat → Nat}  (st : MS) (hp : pX3_table  st) : ∀ sz, Met l yX3_table (ws_ yX3_table cX3_table 3 (some .int)) { frames := 5, cells := 0, slots := 0, locals := 120 } (va_Pc [.ref (ad 0)] (cPre gT D ct (MW ct ad st) sz)) (va_Qi (qX3_table  st) (fun u => cB D ct (va_A (MW ct ad st) sz) (MW ct ad u)) (va_A (MW ct ad st) sz)) 0 0 (va_A (MW ct ad st) sz) := fun sz =>
  j_met (Qc := fun A => va_Qi (qX3_table  st) (fun u => cB D ct A (MW ct ad u)) A) (by decide) gT_ok (Nat.le_of_ble_eq_true rfl) (fun p e s m args below meth c A K hr _ _ => kX3_table_0 K hr  st (vcX3_table  st hp))
-- X3_worthAt
theorem gwX3_worthAt : GoodIn lw_all (wsV RX3 127 RX3 yX3_worthAt (ws_ yX3_worthAt cX3_worthAt 2 (some .int))) := lw_V q1166 q1168 qs59 q84 q1169
theorem gdX3_worthAt : yX3_worthAt.cls = RX3 ∧ yX3_worthAt.cls ≠ "java/lang/invoke/MethodHandle" ∧ yX3_worthAt.cls ≠ "java/lang/invoke/VarHandle" ∧ (parseMethodDescriptor yX3_worthAt.desc).map (fun d => d.parameters.length) = some 1 := by decide +kernel
theorem kX3_worthAt_0 {p : Program} {l : Launch} {e : Env} {s : State} {m : MethodId} {args : Array Value} {below : List Frame} {meth : Method} {c : Code} {A : Nat → Prop} {D : va_G} {ct : Nat → ClassId} {ad : Nat → Nat} {post : Int32 → MS → Prop} (K : CX p s m args meth c cX3_worthAt 2 RX3 A D ct gT) (hr : meth.sig.returnType = (some .int))   (x1 : Int32) (st : MS) (h : wX3_worthAt_0 post  x1 st) : jJ p l e { frames := 6, cells := 0, slots := 0, locals := 142 } s m args below meth c (MQ below (va_Qi post (fun u => cB D ct A (MW ct ad u)) A) args s 0 0 A) A D 2 (MW ct ad st) 0 0 0 [(0, .ref (ad 0)), (1, .int x1)] [] := by
  unfold wX3_worthAt_0 at h
  refine j_aload_n K 0 dX3_worthAt_0 rfl rfl ?_
  refine mg_worths K dX3_worthAt_1 ?_
  refine j_aload_n K 0 dX3_worthAt_4 rfl rfl ?_
  obtain ⟨hp, h⟩ := h
  refine j_callVi K (As := []) (rest := [.ref (ad 10)]) (ctX3_table (l := l) (D := D) (ct := ct) (ad := ad)  st hp) gwX3_table gdX3_table ⟨Nat.le_of_ble_eq_true rfl, Nat.le_of_ble_eq_true rfl⟩ 0 rfl rfl rfl rfl rfl (Nat.le_of_ble_eq_true rfl) dX3_worthAt_5 ⟨Nat.le_of_ble_eq_true rfl, Nat.le_of_ble_eq_true rfl⟩ (fun r_1 st_2 hq => ?_)
  replace h := h r_1 st_2 hq
  refine j_iload_n K 1 dX3_worthAt_8 rfl rfl ?_
  refine j_iadd K dX3_worthAt_9 ?_
  obtain ⟨hc, h⟩ := h
  refine ml_worths K hc dX3_worthAt_10 ?_
  exact j_iret st_2 K hr rfl h (Nat.le_of_ble_eq_true rfl) (Nat.le_of_ble_eq_true rfl) dX3_worthAt_11
theorem ctX3_worthAt {l : Launch} {D : va_G} {ct : Nat → ClassId} {ad : Nat → Nat} (x1 : Int32) (st : MS) (hp : pX3_worthAt x1 st) : ∀ sz, Met l yX3_worthAt (ws_ yX3_worthAt cX3_worthAt 2 (some .int)) { frames := 6, cells := 0, slots := 0, locals := 142 } (va_Pc [.ref (ad 0), .int x1] (cPre gT D ct (MW ct ad st) sz)) (va_Qi (qX3_worthAt x1 st) (fun u => cB D ct (va_A (MW ct ad st) sz) (MW ct ad u)) (va_A (MW ct ad st) sz)) 0 0 (va_A (MW ct ad st) sz) := fun sz =>
  j_met (Qc := fun A => va_Qi (qX3_worthAt x1 st) (fun u => cB D ct A (MW ct ad u)) A) (by decide) gT_ok (Nat.le_of_ble_eq_true rfl) (fun p e s m args below meth c A K hr _ _ => kX3_worthAt_0 K hr x1 st (vcX3_worthAt x1 st hp))
