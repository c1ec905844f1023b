/-! WALKS and CONTRACTS of the reference, printed by gen_model.py -/
-- X3_in
theorem gwX3_in : GoodIn lw_all (va_wsS RX3 51 yX3_in (ws_ yX3_in cX3_in 4 (some .boolean))) := lw_S q1042 q1043 q84 q1044
theorem gdX3_in : yX3_in.cls ≠ "java/lang/invoke/MethodHandle" ∧ yX3_in.cls ≠ "java/lang/invoke/VarHandle" ∧ (parseMethodDescriptor yX3_in.desc).map (fun d => d.parameters.length) = some 3 := by decide +kernel
theorem kX3_in_19 {p : Program} {l : Launch} {e : Env} {s : State} {m : MethodId} {args : Array Value} {below : List Frame} {meth : Method} {c : Code} {A : Nat → Prop} {D : va_G} {ct : Nat → ClassId} {G : gE} {ws : va_W} {post : Int32 → Unit → Prop} (K : CX p s m args meth c cX3_in 4 RX3 A D ct G) (hr : meth.sig.returnType = (some .boolean))   (s0 : Int32)  (h : wX3_in_19 post  s0) : jJ p l e { frames := 0, cells := 0, slots := 0, locals := 0 } s m args below meth c (MQ below (va_Qi post (fun _ => cB D ct A ws) A) args s 0 0 A) A D 4 ws 0 0 19 [] [.int s0] := by
  unfold wX3_in_19 at h
  exact j_zret () (wf := fun _ => ws) K hr rfl h.2 h.1 (Nat.le_of_ble_eq_true rfl) (Nat.le_of_ble_eq_true rfl) dX3_in_19
theorem kX3_in_18 {p : Program} {l : Launch} {e : Env} {s : State} {m : MethodId} {args : Array Value} {below : List Frame} {meth : Method} {c : Code} {A : Nat → Prop} {D : va_G} {ct : Nat → ClassId} {G : gE} {ws : va_W} {post : Int32 → Unit → Prop} (K : CX p s m args meth c cX3_in 4 RX3 A D ct G) (hr : meth.sig.returnType = (some .boolean))     (h : wX3_in_18 post  ) : jJ p l e { frames := 0, cells := 0, slots := 0, locals := 0 } s m args below meth c (MQ below (va_Qi post (fun _ => cB D ct A ws) A) args s 0 0 A) A D 4 ws 0 0 18 [] [] := by
  unfold wX3_in_18 at h
  refine j_iconst K (0 : Int32) dX3_in_18 (by decide) ?_
  exact kX3_in_19 K hr  (0 : Int32) h
theorem kX3_in_14 {p : Program} {l : Launch} {e : Env} {s : State} {m : MethodId} {args : Array Value} {below : List Frame} {meth : Method} {c : Code} {A : Nat → Prop} {D : va_G} {ct : Nat → ClassId} {G : gE} {ws : va_W} {post : Int32 → Unit → Prop} (K : CX p s m args meth c cX3_in 4 RX3 A D ct G) (hr : meth.sig.returnType = (some .boolean))     (h : wX3_in_14 post  ) : jJ p l e { frames := 0, cells := 0, slots := 0, locals := 0 } s m args below meth c (MQ below (va_Qi post (fun _ => cB D ct A ws) A) args s 0 0 A) A D 4 ws 0 0 14 [] [] := by
  unfold wX3_in_14 at h
  refine j_iconst K (1 : Int32) dX3_in_14 (by decide) ?_
  refine j_goto K 19 dX3_in_15 (by decide) ?_
  exact kX3_in_19 K hr  (1 : Int32) h
theorem kX3_in_7 {p : Program} {l : Launch} {e : Env} {s : State} {m : MethodId} {args : Array Value} {below : List Frame} {meth : Method} {c : Code} {A : Nat → Prop} {D : va_G} {ct : Nat → ClassId} {G : gE} {ws : va_W} {post : Int32 → Unit → Prop} (K : CX p s m args meth c cX3_in 4 RX3 A D ct G) (hr : meth.sig.returnType = (some .boolean))   (x0 : Int64) (x3 : Int32)  (h : wX3_in_7 post  x0 x3) : jJ p l e { frames := 0, cells := 0, slots := 0, locals := 0 } s m args below meth c (MQ below (va_Qi post (fun _ => cB D ct A ws) A) args s 0 0 A) A D 4 ws 0 0 7 [(0, .long x0), (3, .int x3)] [] := by
  unfold wX3_in_7 at h
  refine j_lload_n K 0 dX3_in_7 rfl rfl ?_
  refine j_iload_n K 1 dX3_in_8 rfl rfl ?_
  refine j_i2l K dX3_in_9 ?_
  refine j_lcmp K dX3_in_10 ?_
  refine j_if_gt K 18 dX3_in_11 (by decide) (fun hc => ?_) (fun hc => ?_)
  · refine j_lv K [] (lv' := []) rfl ?_
    exact kX3_in_18 K hr   (h.1 hc)
  · refine j_lv K [] (lv' := []) rfl ?_
    exact kX3_in_14 K hr   (h.2 hc)
theorem kX3_in_0 {p : Program} {l : Launch} {e : Env} {s : State} {m : MethodId} {args : Array Value} {below : List Frame} {meth : Method} {c : Code} {A : Nat → Prop} {D : va_G} {ct : Nat → ClassId} {G : gE} {ws : va_W} {post : Int32 → Unit → Prop} (K : CX p s m args meth c cX3_in 4 RX3 A D ct G) (hr : meth.sig.returnType = (some .boolean))   (x0 : Int64) (x2 : Int32) (x3 : Int32)  (h : wX3_in_0 post  x0 x2 x3) : jJ p l e { frames := 0, cells := 0, slots := 0, locals := 0 } s m args below meth c (MQ below (va_Qi post (fun _ => cB D ct A ws) A) args s 0 0 A) A D 4 ws 0 0 0 [(0, .long x0), (2, .int x2), (3, .int x3)] [] := by
  unfold wX3_in_0 at h
  refine j_lload_n K 0 dX3_in_0 rfl rfl ?_
  refine j_iload_n K 1 dX3_in_1 rfl rfl ?_
  refine j_i2l K dX3_in_2 ?_
  refine j_lcmp K dX3_in_3 ?_
  refine j_if_lt K 18 dX3_in_4 (by decide) (fun hc => ?_) (fun hc => ?_)
  · refine j_lv K [] (lv' := []) rfl ?_
    exact kX3_in_18 K hr   (h.1 hc)
  · refine j_lv K [0, 2] (lv' := [(0, .long x0), (3, .int x3)]) rfl ?_
    exact kX3_in_7 K hr  x0 x3 (h.2 hc)
theorem ctX3_in {l : Launch} {D : va_G} {ct : Nat → ClassId} {G : gE} {ws : va_W} (hG : gOK G) (x0 : Int64) (x2 : Int32) (x3 : Int32) : ∀ sz, Met l yX3_in (ws_ yX3_in cX3_in 4 (some .boolean)) { frames := 0, cells := 0, slots := 0, locals := 0 } (va_Pc [.long x0, .int x2, .int x3] (cPre G D ct ws sz)) (va_Qi (fun (r : Int32) (_ : Unit) => qX3_in x0 x2 x3 r) (fun _ => cB D ct (va_A ws sz) ws) (va_A ws sz)) 0 0 (va_A ws sz) := fun sz =>
  j_met (Qc := fun A => va_Qi (fun (r : Int32) (_ : Unit) => qX3_in x0 x2 x3 r) (fun _ => cB D ct A ws) A) (by decide +kernel) hG (Nat.le_of_ble_eq_true rfl) (fun p e s m args below meth c A K hr _ _ => kX3_in_0 K hr x0 x2 x3 (vcX3_in x0 x2 x3))
-- X3_now
theorem gwX3_now : GoodIn lw_all (wsV RX3 112 RX3 yX3_now (ws_ yX3_now cX3_now 1 (some .int))) := lw_V q1098 q1100 qs45 q84 q1101
theorem gdX3_now : yX3_now.cls = RX3 ∧ yX3_now.cls ≠ "java/lang/invoke/MethodHandle" ∧ yX3_now.cls ≠ "java/lang/invoke/VarHandle" ∧ (parseMethodDescriptor yX3_now.desc).map (fun d => d.parameters.length) = some 0 := by decide +kernel
theorem kX3_now_0 {p : Program} {l : Launch} {e : Env} {s : State} {m : MethodId} {args : Array Value} {below : List Frame} {meth : Method} {c : Code} {A : Nat → Prop} {D : va_G} {ct : Nat → ClassId} {ad : Nat → Nat} {post : Int32 → MS → Prop} (K : CX p s m args meth c cX3_now 1 RX3 A D ct gT) (hr : meth.sig.returnType = (some .int))    (st : MS) (h : wX3_now_0 post  st) : jJ p l e { frames := 0, cells := 0, slots := 0, locals := 0 } s m args below meth c (MQ below (va_Qi post (fun u => cB D ct A (MW ct ad u)) A) args s 0 0 A) A D 1 (MW ct ad st) 0 0 0 [(0, .ref (ad 0))] [] := by
  unfold wX3_now_0 at h
  refine j_aload_n K 0 dX3_now_0 rfl rfl ?_
  refine mg_row K dX3_now_1 ?_
  refine j_iconst K (3 : Int32) dX3_now_4 (by decide) ?_
  refine j_aload_n K 0 dX3_now_5 rfl rfl ?_
  refine mg_row K dX3_now_6 ?_
  refine j_iconst K (2 : Int32) dX3_now_9 (by decide) ?_
  obtain ⟨hc, h⟩ := h
  refine ml_row K hc dX3_now_10 ?_
  refine j_iadd K dX3_now_11 ?_
  obtain ⟨hc, h⟩ := h
  refine ml_row K hc dX3_now_12 ?_
  exact j_iret st K hr rfl h (Nat.le_of_ble_eq_true rfl) (Nat.le_of_ble_eq_true rfl) dX3_now_13
theorem ctX3_now {l : Launch} {D : va_G} {ct : Nat → ClassId} {ad : Nat → Nat}  (st : MS) (hp : pX3_now  st) : ∀ sz, Met l yX3_now (ws_ yX3_now cX3_now 1 (some .int)) { frames := 0, cells := 0, slots := 0, locals := 0 } (va_Pc [.ref (ad 0)] (cPre gT D ct (MW ct ad st) sz)) (va_Qi (fun (r : Int32) (u : MS) => qX3_now  st r ∧ st = u) (fun u => cB D ct (va_A (MW ct ad st) sz) (MW ct ad u)) (va_A (MW ct ad st) sz)) 0 0 (va_A (MW ct ad st) sz) := fun sz =>
  j_met (Qc := fun A => va_Qi (fun (r : Int32) (u : MS) => qX3_now  st r ∧ st = u) (fun u => cB D ct A (MW ct ad u)) A) (by decide) gT_ok (Nat.le_of_ble_eq_true rfl) (fun p e s m args below meth c A K hr _ _ => kX3_now_0 K hr  st (vcX3_now  st hp))
-- X3_open
theorem gwX3_open : GoodIn lw_all (wsV RX3 87 RX3 yX3_open (ws_ yX3_open cX3_open 4 none)) := lw_V q1102 q1104 qs46 q84 q1105
theorem gdX3_open : yX3_open.cls = RX3 ∧ yX3_open.cls ≠ "java/lang/invoke/MethodHandle" ∧ yX3_open.cls ≠ "java/lang/invoke/VarHandle" ∧ (parseMethodDescriptor yX3_open.desc).map (fun d => d.parameters.length) = some 1 := by decide +kernel
theorem kX3_open_42 {p : Program} {l : Launch} {e : Env} {s : State} {m : MethodId} {args : Array Value} {below : List Frame} {meth : Method} {c : Code} {A : Nat → Prop} {D : va_G} {ct : Nat → ClassId} {ad : Nat → Nat} {post : MS → Prop} (K : CX p s m args meth c cX3_open 4 RX3 A D ct gT) (hr : meth.sig.returnType = none)    (st : MS) (h : wX3_open_42 post  st) : jJ p l e { frames := 0, cells := 0, slots := 0, locals := 0 } s m args below meth c (MQ below (va_Qv post (fun u => cB D ct A (MW ct ad u)) A) args s 0 0 A) A D 4 (MW ct ad st) 0 0 42 [] [] := by
  unfold wX3_open_42 at h
  exact j_vret st K hr rfl h (Nat.le_of_ble_eq_true rfl) (Nat.le_of_ble_eq_true rfl) dX3_open_42
theorem kX3_open_23 {p : Program} {l : Launch} {e : Env} {s : State} {m : MethodId} {args : Array Value} {below : List Frame} {meth : Method} {c : Code} {A : Nat → Prop} {D : va_G} {ct : Nat → ClassId} {ad : Nat → Nat} {post : MS → Prop} (K : CX p s m args meth c cX3_open 4 RX3 A D ct gT) (hr : meth.sig.returnType = none) (L17 : Int32 → Int32 → MS → Prop) (hL17 : ∀ (x2 : Int32) (x3 : Int32) (st : MS), L17 x2 x3 st → jJ p l e { frames := 0, cells := 0, slots := 0, locals := 0 } s m args below meth c (MQ below (va_Qv post (fun u => cB D ct A (MW ct ad u)) A) args s 0 0 A) A D 4 (MW ct ad st) 0 0 17 [(0, .ref (ad 0)), (2, .int x2), (3, .int x3)] []) (x2 : Int32) (x3 : Int32) (st : MS) (h : wX3_open_23 post L17 x2 x3 st) : jJ p l e { frames := 0, cells := 0, slots := 0, locals := 0 } s m args below meth c (MQ below (va_Qv post (fun u => cB D ct A (MW ct ad u)) A) args s 0 0 A) A D 4 (MW ct ad st) 0 0 23 [(0, .ref (ad 0)), (2, .int x2), (3, .int x3)] [] := by
  unfold wX3_open_23 at h
  refine j_aload_n K 0 dX3_open_23 rfl rfl ?_
  refine mg_cells K dX3_open_24 ?_
  refine j_iload_n K 2 dX3_open_27 rfl rfl ?_
  refine j_iload_n K 1 dX3_open_28 rfl rfl ?_
  refine j_iconst K (3 : Int32) dX3_open_29 (by decide) ?_
  refine j_irem K (by decide) dX3_open_30 ?_
  obtain ⟨hc, h⟩ := h
  refine mt_cells K hc dX3_open_31 ?_
  refine j_iload_n K 1 dX3_open_32 rfl rfl ?_
  refine j_iconst K (3 : Int32) dX3_open_33 (by decide) ?_
  refine j_idiv K (by decide) dX3_open_34 ?_
  refine j_istore_n K [(2, .int (x2 / (3 : Int32))), (0, .ref (ad 0)), (3, .int x3)] dX3_open_35 rfl (by decide) rfl ?_
  refine j_iinc K 2 (x3 + (1 : Int32)) [(3, .int (x3 + (1 : Int32))), (2, .int (x2 / (3 : Int32))), (0, .ref (ad 0))] dX3_open_36 rfl rfl (by decide) rfl ?_
  refine j_goto K 17 dX3_open_39 (by decide) ?_
  refine j_lv K [2, 1, 0] (lv' := [(0, .ref (ad 0)), (2, .int (x2 / (3 : Int32))), (3, .int (x3 + (1 : Int32)))]) rfl ?_
  exact hL17 (x2 / (3 : Int32)) (x3 + (1 : Int32)) (mA st 7 (x3).toNatClampNeg (irm x2 (3 : Int32))) h
theorem kX3_open_17_b {p : Program} {l : Launch} {e : Env} {s : State} {m : MethodId} {args : Array Value} {below : List Frame} {meth : Method} {c : Code} {A : Nat → Prop} {D : va_G} {ct : Nat → ClassId} {ad : Nat → Nat} {post : MS → Prop} (K : CX p s m args meth c cX3_open 4 RX3 A D ct gT) (hr : meth.sig.returnType = none) (L17 : Int32 → Int32 → MS → Prop) (hL17 : ∀ (x2 : Int32) (x3 : Int32) (st : MS), L17 x2 x3 st → jJ p l e { frames := 0, cells := 0, slots := 0, locals := 0 } s m args below meth c (MQ below (va_Qv post (fun u => cB D ct A (MW ct ad u)) A) args s 0 0 A) A D 4 (MW ct ad st) 0 0 17 [(0, .ref (ad 0)), (2, .int x2), (3, .int x3)] []) (x2 : Int32) (x3 : Int32) (st : MS) (h : wX3_open_17_b post L17 x2 x3 st) : jJ p l e { frames := 0, cells := 0, slots := 0, locals := 0 } s m args below meth c (MQ below (va_Qv post (fun u => cB D ct A (MW ct ad u)) A) args s 0 0 A) A D 4 (MW ct ad st) 0 0 17 [(0, .ref (ad 0)), (2, .int x2), (3, .int x3)] [] := by
  unfold wX3_open_17_b at h
  refine j_iload_n K 2 dX3_open_17 rfl rfl ?_
  refine j_bipush K (9 : Int32) dX3_open_18 (by decide) ?_
  refine j_icmp_ge K 42 dX3_open_20 (by decide) (fun hc => ?_) (fun hc => ?_)
  · refine j_lv K [] (lv' := []) rfl ?_
    exact kX3_open_42 K hr  st (h.1 hc)
  · exact kX3_open_23 K hr L17 hL17 x2 x3 st (h.2 hc)
theorem kX3_open_17 {p : Program} {l : Launch} {e : Env} {s : State} {m : MethodId} {args : Array Value} {below : List Frame} {meth : Method} {c : Code} {A : Nat → Prop} {D : va_G} {ct : Nat → ClassId} {ad : Nat → Nat} {post : MS → Prop} (K : CX p s m args meth c cX3_open 4 RX3 A D ct gT) (hr : meth.sig.returnType = none)   (x2 : Int32) (x3 : Int32) (st : MS) (h : wX3_open_17 post  x2 x3 st) : jJ p l e { frames := 0, cells := 0, slots := 0, locals := 0 } s m args below meth c (MQ below (va_Qv post (fun u => cB D ct A (MW ct ad u)) A) args s 0 0 A) A D 4 (MW ct ad st) 0 0 17 [(0, .ref (ad 0)), (2, .int x2), (3, .int x3)] [] :=
  wloop_sound (V := Int32 × Int32 × MS) (Wk := fun v => jJ p l e { frames := 0, cells := 0, slots := 0, locals := 0 } s m args below meth c (MQ below (va_Qv post (fun u => cB D ct A (MW ct ad u)) A) args s 0 0 A) A D 4 (MW ct ad v.2.2) 0 0 17 [(0, .ref (ad 0)), (2, .int v.1), (3, .int v.2.1)] []) (fun L hL v hb => kX3_open_17_b K hr (fun x2 x3 st => L (x2, x3, st)) (fun x2 x3 st hx => hL (x2, x3, st) hx) v.1 v.2.1 v.2.2 hb) h
theorem kX3_open_0 {p : Program} {l : Launch} {e : Env} {s : State} {m : MethodId} {args : Array Value} {below : List Frame} {meth : Method} {c : Code} {A : Nat → Prop} {D : va_G} {ct : Nat → ClassId} {ad : Nat → Nat} {post : MS → Prop} (K : CX p s m args meth c cX3_open 4 RX3 A D ct gT) (hr : meth.sig.returnType = none)   (x1 : Int32) (st : MS) (h : wX3_open_0 post  x1 st) : jJ p l e { frames := 0, cells := 0, slots := 0, locals := 0 } s m args below meth c (MQ below (va_Qv post (fun u => cB D ct A (MW ct ad u)) A) args s 0 0 A) A D 4 (MW ct ad st) 0 0 0 [(0, .ref (ad 0)), (1, .int x1)] [] := by
  unfold wX3_open_0 at h
  refine j_iload_n K 1 dX3_open_0 rfl rfl ?_
  refine j_sipush K (19683 : Int32) dX3_open_1 (by decide) ?_
  refine j_irem K (by decide) dX3_open_4 ?_
  refine j_istore_n K [(2, .int (irm x1 (19683 : Int32))), (0, .ref (ad 0)), (1, .int x1)] dX3_open_5 rfl (by decide) rfl ?_
  refine j_aload_n K 1 dX3_open_6 rfl rfl ?_
  refine j_iload_n K 2 dX3_open_7 rfl rfl ?_
  refine j_sipush K (19683 : Int32) dX3_open_8 (by decide) ?_
  refine j_idiv K (by decide) dX3_open_11 ?_
  refine mp_mover K dX3_open_12 ?_
  refine j_iconst K (0 : Int32) dX3_open_15 (by decide) ?_
  refine j_istore_n K [(3, .int (0 : Int32)), (2, .int (irm x1 (19683 : Int32))), (0, .ref (ad 0)), (1, .int x1)] dX3_open_16 rfl (by decide) rfl ?_
  refine j_lv K [2, 1, 0] (lv' := [(0, .ref (ad 0)), (2, .int (irm x1 (19683 : Int32))), (3, .int (0 : Int32))]) rfl ?_
  exact kX3_open_17 K hr  (irm x1 (19683 : Int32)) (0 : Int32) (mF st 3 (x1 / (19683 : Int32))) h
theorem ctX3_open {l : Launch} {D : va_G} {ct : Nat → ClassId} {ad : Nat → Nat} (x1 : Int32) (st : MS) (hp : pX3_open x1 st) : ∀ sz, Met l yX3_open (ws_ yX3_open cX3_open 4 none) { frames := 0, cells := 0, slots := 0, locals := 0 } (va_Pc [.ref (ad 0), .int x1] (cPre gT D ct (MW ct ad st) sz)) (va_Qv (qX3_open x1 st) (fun u => cB D ct (va_A (MW ct ad st) sz) (MW ct ad u)) (va_A (MW ct ad st) sz)) 0 0 (va_A (MW ct ad st) sz) := fun sz =>
  j_met (Qc := fun A => va_Qv (qX3_open x1 st) (fun u => cB D ct A (MW ct ad u)) A) (by decide) gT_ok (Nat.le_of_ble_eq_true rfl) (fun p e s m args below meth c A K hr _ _ => kX3_open_0 K hr x1 st (vcX3_open x1 st hp))
-- X3_three
theorem gwX3_three : GoodIn lw_all (wsV RX3 65 RX3 yX3_three (ws_ yX3_three cX3_three 5 (some .boolean))) := lw_V q1114 q1116 qs49 q84 q1117
theorem gdX3_three : yX3_three.cls = RX3 ∧ yX3_three.cls ≠ "java/lang/invoke/MethodHandle" ∧ yX3_three.cls ≠ "java/lang/invoke/VarHandle" ∧ (parseMethodDescriptor yX3_three.desc).map (fun d => d.parameters.length) = some 3 := by decide +kernel
theorem kX3_three_49 {p : Program} {l : Launch} {e : Env} {s : State} {m : MethodId} {args : Array Value} {below : List Frame} {meth : Method} {c : Code} {A : Nat → Prop} {D : va_G} {ct : Nat → ClassId} {ad : Nat → Nat} {post : Int32 → MS → Prop} (K : CX p s m args meth c cX3_three 5 RX3 A D ct gT) (hr : meth.sig.returnType = (some .boolean))   (s0 : Int32) (st : MS) (h : wX3_three_49 post  s0 st) : jJ p l e { frames := 0, cells := 0, slots := 0, locals := 0 } s m args below meth c (MQ below (va_Qi post (fun u => cB D ct A (MW ct ad u)) A) args s 0 0 A) A D 5 (MW ct ad st) 0 0 49 [] [.int s0] := by
  unfold wX3_three_49 at h
  exact j_zret st K hr rfl h.2 h.1 (Nat.le_of_ble_eq_true rfl) (Nat.le_of_ble_eq_true rfl) dX3_three_49
theorem kX3_three_48 {p : Program} {l : Launch} {e : Env} {s : State} {m : MethodId} {args : Array Value} {below : List Frame} {meth : Method} {c : Code} {A : Nat → Prop} {D : va_G} {ct : Nat → ClassId} {ad : Nat → Nat} {post : Int32 → MS → Prop} (K : CX p s m args meth c cX3_three 5 RX3 A D ct gT) (hr : meth.sig.returnType = (some .boolean))    (st : MS) (h : wX3_three_48 post  st) : jJ p l e { frames := 0, cells := 0, slots := 0, locals := 0 } s m args below meth c (MQ below (va_Qi post (fun u => cB D ct A (MW ct ad u)) A) args s 0 0 A) A D 5 (MW ct ad st) 0 0 48 [] [] := by
  unfold wX3_three_48 at h
  refine j_iconst K (0 : Int32) dX3_three_48 (by decide) ?_
  exact kX3_three_49 K hr  (0 : Int32) st h
theorem kX3_three_44 {p : Program} {l : Launch} {e : Env} {s : State} {m : MethodId} {args : Array Value} {below : List Frame} {meth : Method} {c : Code} {A : Nat → Prop} {D : va_G} {ct : Nat → ClassId} {ad : Nat → Nat} {post : Int32 → MS → Prop} (K : CX p s m args meth c cX3_three 5 RX3 A D ct gT) (hr : meth.sig.returnType = (some .boolean))    (st : MS) (h : wX3_three_44 post  st) : jJ p l e { frames := 0, cells := 0, slots := 0, locals := 0 } s m args below meth c (MQ below (va_Qi post (fun u => cB D ct A (MW ct ad u)) A) args s 0 0 A) A D 5 (MW ct ad st) 0 0 44 [] [] := by
  unfold wX3_three_44 at h
  refine j_iconst K (1 : Int32) dX3_three_44 (by decide) ?_
  refine j_goto K 49 dX3_three_45 (by decide) ?_
  exact kX3_three_49 K hr  (1 : Int32) st h
theorem kX3_three_29 {p : Program} {l : Launch} {e : Env} {s : State} {m : MethodId} {args : Array Value} {below : List Frame} {meth : Method} {c : Code} {A : Nat → Prop} {D : va_G} {ct : Nat → ClassId} {ad : Nat → Nat} {post : Int32 → MS → Prop} (K : CX p s m args meth c cX3_three 5 RX3 A D ct gT) (hr : meth.sig.returnType = (some .boolean))   (x2 : Int32) (x3 : Int32) (x4 : Int32) (st : MS) (h : wX3_three_29 post  x2 x3 x4 st) : jJ p l e { frames := 0, cells := 0, slots := 0, locals := 0 } s m args below meth c (MQ below (va_Qi post (fun u => cB D ct A (MW ct ad u)) A) args s 0 0 A) A D 5 (MW ct ad st) 0 0 29 [(0, .ref (ad 0)), (2, .int x2), (3, .int x3), (4, .int x4)] [] := by
  unfold wX3_three_29 at h
  refine j_aload_n K 0 dX3_three_29 rfl rfl ?_
  refine mg_cells K dX3_three_30 ?_
  refine j_iload_n K 1 dX3_three_33 rfl rfl ?_
  refine j_iconst K (2 : Int32) dX3_three_34 (by decide) ?_
  refine j_iload_n K 2 dX3_three_35 rfl rfl ?_
  refine j_imul K dX3_three_36 ?_
  refine j_iadd K dX3_three_37 ?_
  obtain ⟨hc, h⟩ := h
  refine ml_cells K hc dX3_three_38 ?_
  refine j_iload K 3 dX3_three_39 rfl ?_
  refine j_icmp_ne K 48 dX3_three_41 (by decide) (fun hc => ?_) (fun hc => ?_)
  · refine j_lv K [] (lv' := []) rfl ?_
    exact kX3_three_48 K hr  st (h.1 hc)
  · refine j_lv K [] (lv' := []) rfl ?_
    exact kX3_three_44 K hr  st (h.2 hc)
theorem kX3_three_16 {p : Program} {l : Launch} {e : Env} {s : State} {m : MethodId} {args : Array Value} {below : List Frame} {meth : Method} {c : Code} {A : Nat → Prop} {D : va_G} {ct : Nat → ClassId} {ad : Nat → Nat} {post : Int32 → MS → Prop} (K : CX p s m args meth c cX3_three 5 RX3 A D ct gT) (hr : meth.sig.returnType = (some .boolean))   (x2 : Int32) (x3 : Int32) (x4 : Int32) (st : MS) (h : wX3_three_16 post  x2 x3 x4 st) : jJ p l e { frames := 0, cells := 0, slots := 0, locals := 0 } s m args below meth c (MQ below (va_Qi post (fun u => cB D ct A (MW ct ad u)) A) args s 0 0 A) A D 5 (MW ct ad st) 0 0 16 [(0, .ref (ad 0)), (2, .int x2), (3, .int x3), (4, .int x4)] [] := by
  unfold wX3_three_16 at h
  refine j_aload_n K 0 dX3_three_16 rfl rfl ?_
  refine mg_cells K dX3_three_17 ?_
  refine j_iload_n K 1 dX3_three_20 rfl rfl ?_
  refine j_iload_n K 2 dX3_three_21 rfl rfl ?_
  refine j_iadd K dX3_three_22 ?_
  obtain ⟨hc, h⟩ := h
  refine ml_cells K hc dX3_three_23 ?_
  refine j_iload K 3 dX3_three_24 rfl ?_
  refine j_icmp_ne K 48 dX3_three_26 (by decide) (fun hc => ?_) (fun hc => ?_)
  · refine j_lv K [] (lv' := []) rfl ?_
    exact kX3_three_48 K hr  st (h.1 hc)
  · exact kX3_three_29 K hr  x2 x3 x4 st (h.2 hc)
theorem kX3_three_0 {p : Program} {l : Launch} {e : Env} {s : State} {m : MethodId} {args : Array Value} {below : List Frame} {meth : Method} {c : Code} {A : Nat → Prop} {D : va_G} {ct : Nat → ClassId} {ad : Nat → Nat} {post : Int32 → MS → Prop} (K : CX p s m args meth c cX3_three 5 RX3 A D ct gT) (hr : meth.sig.returnType = (some .boolean))   (x1 : Int32) (x2 : Int32) (x3 : Int32) (st : MS) (h : wX3_three_0 post  x1 x2 x3 st) : jJ p l e { frames := 0, cells := 0, slots := 0, locals := 0 } s m args below meth c (MQ below (va_Qi post (fun u => cB D ct A (MW ct ad u)) A) args s 0 0 A) A D 5 (MW ct ad st) 0 0 0 [(0, .ref (ad 0)), (1, .int x1), (2, .int x2), (3, .int x3)] [] := by
  unfold wX3_three_0 at h
  refine j_iload_n K 1 dX3_three_0 rfl rfl ?_
  refine j_iconst K (1 : Int32) dX3_three_1 (by decide) ?_
  refine j_iadd K dX3_three_2 ?_
  refine j_istore K [(4, .int (x1 + (1 : Int32))), (0, .ref (ad 0)), (1, .int x1), (2, .int x2), (3, .int x3)] dX3_three_3 (by decide) rfl ?_
  refine j_aload_n K 1 dX3_three_5 rfl rfl ?_
  refine mg_cells K dX3_three_6 ?_
  refine j_iload_n K 3 dX3_three_9 rfl rfl ?_
  obtain ⟨hc, h⟩ := h
  refine ml_cells K hc dX3_three_10 ?_
  refine j_iload K 0 dX3_three_11 rfl ?_
  refine j_icmp_ne K 48 dX3_three_13 (by decide) (fun hc => ?_) (fun hc => ?_)
  · refine j_lv K [] (lv' := []) rfl ?_
    exact kX3_three_48 K hr  st (h.1 hc)
  · refine j_lv K [1, 3, 4, 0] (lv' := [(0, .ref (ad 0)), (2, .int x2), (3, .int x3), (4, .int (x1 + (1 : Int32)))]) rfl ?_
    exact kX3_three_16 K hr  x2 x3 (x1 + (1 : Int32)) st (h.2 hc)
theorem ctX3_three {l : Launch} {D : va_G} {ct : Nat → ClassId} {ad : Nat → Nat} (x1 : Int32) (x2 : Int32) (x3 : Int32) (st : MS) (hp : pX3_three x1 x2 x3 st) : ∀ sz, Met l yX3_three (ws_ yX3_three cX3_three 5 (some .boolean)) { frames := 0, cells := 0, slots := 0, locals := 0 } (va_Pc [.ref (ad 0), .int x1, .int x2, .int x3] (cPre gT D ct (MW ct ad st) sz)) (va_Qi (fun (r : Int32) (u : MS) => qX3_three x1 x2 x3 st r ∧ st = u) (fun u => cB D ct (va_A (MW ct ad st) sz) (MW ct ad u)) (va_A (MW ct ad st) sz)) 0 0 (va_A (MW ct ad st) sz) := fun sz =>
  j_met (Qc := fun A => va_Qi (fun (r : Int32) (u : MS) => qX3_three x1 x2 x3 st r ∧ st = u) (fun u => cB D ct A (MW ct ad u)) A) (by decide) gT_ok (Nat.le_of_ble_eq_true rfl) (fun p e s m args below meth c A K hr _ _ => kX3_three_0 K hr x1 x2 x3 st (vcX3_three x1 x2 x3 st hp))
-- X3_hasLine
theorem gwX3_hasLine : GoodIn lw_all (wsV RX3 72 RX3 yX3_hasLine (ws_ yX3_hasLine cX3_hasLine 3 (some .boolean))) := lw_V q1110 q1112 qs48 q84 q1113
theorem gdX3_hasLine : yX3_hasLine.cls = RX3 ∧ yX3_hasLine.cls ≠ "java/lang/invoke/MethodHandle" ∧ yX3_hasLine.cls ≠ "java/lang/invoke/VarHandle" ∧ (parseMethodDescriptor yX3_hasLine.desc).map (fun d => d.parameters.length) = some 1 := by decide +kernel
theorem kX3_hasLine_72 {p : Program} {l : Launch} {e : Env} {s : State} {m : MethodId} {args : Array Value} {below : List Frame} {meth : Method} {c : Code} {A : Nat → Prop} {D : va_G} {ct : Nat → ClassId} {ad : Nat → Nat} {post : Int32 → MS → Prop} (K : CX p s m args meth c cX3_hasLine 3 RX3 A D ct gT) (hr : meth.sig.returnType = (some .boolean))   (s0 : Int32) (st : MS) (h : wX3_hasLine_72 post  s0 st) : jJ p l e { frames := 1, cells := 0, slots := 0, locals := 24 } s m args below meth c (MQ below (va_Qi post (fun u => cB D ct A (MW ct ad u)) A) args s 0 0 A) A D 3 (MW ct ad st) 0 0 72 [] [.int s0] := by
  unfold wX3_hasLine_72 at h
  exact j_zret st K hr rfl h.2 h.1 (Nat.le_of_ble_eq_true rfl) (Nat.le_of_ble_eq_true rfl) dX3_hasLine_72
theorem kX3_hasLine_71 {p : Program} {l : Launch} {e : Env} {s : State} {m : MethodId} {args : Array Value} {below : List Frame} {meth : Method} {c : Code} {A : Nat → Prop} {D : va_G} {ct : Nat → ClassId} {ad : Nat → Nat} {post : Int32 → MS → Prop} (K : CX p s m args meth c cX3_hasLine 3 RX3 A D ct gT) (hr : meth.sig.returnType = (some .boolean))    (st : MS) (h : wX3_hasLine_71 post  st) : jJ p l e { frames := 1, cells := 0, slots := 0, locals := 24 } s m args below meth c (MQ below (va_Qi post (fun u => cB D ct A (MW ct ad u)) A) args s 0 0 A) A D 3 (MW ct ad st) 0 0 71 [] [] := by
  unfold wX3_hasLine_71 at h
  refine j_iconst K (0 : Int32) dX3_hasLine_71 (by decide) ?_
  exact kX3_hasLine_72 K hr  (0 : Int32) st h
theorem kX3_hasLine_67 {p : Program} {l : Launch} {e : Env} {s : State} {m : MethodId} {args : Array Value} {below : List Frame} {meth : Method} {c : Code} {A : Nat → Prop} {D : va_G} {ct : Nat → ClassId} {ad : Nat → Nat} {post : Int32 → MS → Prop} (K : CX p s m args meth c cX3_hasLine 3 RX3 A D ct gT) (hr : meth.sig.returnType = (some .boolean))    (st : MS) (h : wX3_hasLine_67 post  st) : jJ p l e { frames := 1, cells := 0, slots := 0, locals := 24 } s m args below meth c (MQ below (va_Qi post (fun u => cB D ct A (MW ct ad u)) A) args s 0 0 A) A D 3 (MW ct ad st) 0 0 67 [] [] := by
  unfold wX3_hasLine_67 at h
  refine j_iconst K (1 : Int32) dX3_hasLine_67 (by decide) ?_
  refine j_goto K 72 dX3_hasLine_68 (by decide) ?_
  exact kX3_hasLine_72 K hr  (1 : Int32) st h
theorem kX3_hasLine_57 {p : Program} {l : Launch} {e : Env} {s : State} {m : MethodId} {args : Array Value} {below : List Frame} {meth : Method} {c : Code} {A : Nat → Prop} {D : va_G} {ct : Nat → ClassId} {ad : Nat → Nat} {post : Int32 → MS → Prop} (K : CX p s m args meth c cX3_hasLine 3 RX3 A D ct gT) (hr : meth.sig.returnType = (some .boolean))   (x1 : Int32) (st : MS) (h : wX3_hasLine_57 post  x1 st) : jJ p l e { frames := 1, cells := 0, slots := 0, locals := 24 } s m args below meth c (MQ below (va_Qi post (fun u => cB D ct A (MW ct ad u)) A) args s 0 0 A) A D 3 (MW ct ad st) 0 0 57 [(0, .ref (ad 0)), (1, .int x1)] [] := by
  unfold wX3_hasLine_57 at h
  refine j_aload_n K 0 dX3_hasLine_57 rfl rfl ?_
  refine j_iload_n K 1 dX3_hasLine_58 rfl rfl ?_
  refine j_iconst K (2 : Int32) dX3_hasLine_59 (by decide) ?_
  refine j_iconst K (2 : Int32) dX3_hasLine_60 (by decide) ?_
  obtain ⟨hp, h⟩ := h
  refine j_callVi K (As := [.int x1, .int (2 : Int32), .int (2 : Int32)]) (rest := []) (ctX3_three (l := l) (D := D) (ct := ct) (ad := ad) x1 (2 : Int32) (2 : Int32) st hp) gwX3_three gdX3_three ⟨Nat.le_of_ble_eq_true rfl, Nat.le_of_ble_eq_true rfl⟩ 0 rfl rfl rfl rfl rfl (Nat.le_of_ble_eq_true rfl) dX3_hasLine_61 ⟨Nat.le_of_ble_eq_true rfl, Nat.le_of_ble_eq_true rfl⟩ (fun r_1 st_2 hq => ?_)
  obtain ⟨hq, rfl⟩ := hq
  replace h := h r_1 hq
  refine j_if_eq K 71 dX3_hasLine_64 (by decide) (fun hc => ?_) (fun hc => ?_)
  · refine j_lv K [] (lv' := []) rfl ?_
    exact kX3_hasLine_71 K hr  st (h.1 hc)
  · refine j_lv K [] (lv' := []) rfl ?_
    exact kX3_hasLine_67 K hr  st (h.2 hc)
theorem kX3_hasLine_47 {p : Program} {l : Launch} {e : Env} {s : State} {m : MethodId} {args : Array Value} {below : List Frame} {meth : Method} {c : Code} {A : Nat → Prop} {D : va_G} {ct : Nat → ClassId} {ad : Nat → Nat} {post : Int32 → MS → Prop} (K : CX p s m args meth c cX3_hasLine 3 RX3 A D ct gT) (hr : meth.sig.returnType = (some .boolean))   (x1 : Int32) (st : MS) (h : wX3_hasLine_47 post  x1 st) : jJ p l e { frames := 1, cells := 0, slots := 0, locals := 24 } s m args below meth c (MQ below (va_Qi post (fun u => cB D ct A (MW ct ad u)) A) args s 0 0 A) A D 3 (MW ct ad st) 0 0 47 [(0, .ref (ad 0)), (1, .int x1)] [] := by
  unfold wX3_hasLine_47 at h
  refine j_aload_n K 0 dX3_hasLine_47 rfl rfl ?_
  refine j_iload_n K 1 dX3_hasLine_48 rfl rfl ?_
  refine j_iconst K (0 : Int32) dX3_hasLine_49 (by decide) ?_
  refine j_iconst K (4 : Int32) dX3_hasLine_50 (by decide) ?_
  obtain ⟨hp, h⟩ := h
  refine j_callVi K (As := [.int x1, .int (0 : Int32), .int (4 : Int32)]) (rest := []) (ctX3_three (l := l) (D := D) (ct := ct) (ad := ad) x1 (0 : Int32) (4 : Int32) st hp) gwX3_three gdX3_three ⟨Nat.le_of_ble_eq_true rfl, Nat.le_of_ble_eq_true rfl⟩ 0 rfl rfl rfl rfl rfl (Nat.le_of_ble_eq_true rfl) dX3_hasLine_51 ⟨Nat.le_of_ble_eq_true rfl, Nat.le_of_ble_eq_true rfl⟩ (fun r_1 st_2 hq => ?_)
  obtain ⟨hq, rfl⟩ := hq
  replace h := h r_1 hq
  refine j_if_ne K 67 dX3_hasLine_54 (by decide) (fun hc => ?_) (fun hc => ?_)
  · refine j_lv K [] (lv' := []) rfl ?_
    exact kX3_hasLine_67 K hr  st (h.1 hc)
  · exact kX3_hasLine_57 K hr  x1 st (h.2 hc)
theorem kX3_hasLine_37 {p : Program} {l : Launch} {e : Env} {s : State} {m : MethodId} {args : Array Value} {below : List Frame} {meth : Method} {c : Code} {A : Nat → Prop} {D : va_G} {ct : Nat → ClassId} {ad : Nat → Nat} {post : Int32 → MS → Prop} (K : CX p s m args meth c cX3_hasLine 3 RX3 A D ct gT) (hr : meth.sig.returnType = (some .boolean))   (x1 : Int32) (st : MS) (h : wX3_hasLine_37 post  x1 st) : jJ p l e { frames := 1, cells := 0, slots := 0, locals := 24 } s m args below meth c (MQ below (va_Qi post (fun u => cB D ct A (MW ct ad u)) A) args s 0 0 A) A D 3 (MW ct ad st) 0 0 37 [(0, .ref (ad 0)), (1, .int x1)] [] := by
  unfold wX3_hasLine_37 at h
  refine j_aload_n K 0 dX3_hasLine_37 rfl rfl ?_
  refine mg_row K dX3_hasLine_38 ?_
  refine j_iconst K (0 : Int32) dX3_hasLine_41 (by decide) ?_
  obtain ⟨hc, h⟩ := h
  refine ml_row K hc dX3_hasLine_42 ?_
  refine j_iconst K (1 : Int32) dX3_hasLine_43 (by decide) ?_
  refine j_icmp_ne K 71 dX3_hasLine_44 (by decide) (fun hc => ?_) (fun hc => ?_)
  · refine j_lv K [] (lv' := []) rfl ?_
    exact kX3_hasLine_71 K hr  st (h.1 hc)
  · exact kX3_hasLine_47 K hr  x1 st (h.2 hc)
theorem kX3_hasLine_29 {p : Program} {l : Launch} {e : Env} {s : State} {m : MethodId} {args : Array Value} {below : List Frame} {meth : Method} {c : Code} {A : Nat → Prop} {D : va_G} {ct : Nat → ClassId} {ad : Nat → Nat} {post : Int32 → MS → Prop} (K : CX p s m args meth c cX3_hasLine 3 RX3 A D ct gT) (hr : meth.sig.returnType = (some .boolean))    (st : MS) (h : wX3_hasLine_29 post  st) : jJ p l e { frames := 1, cells := 0, slots := 0, locals := 24 } s m args below meth c (MQ below (va_Qi post (fun u => cB D ct A (MW ct ad u)) A) args s 0 0 A) A D 3 (MW ct ad st) 0 0 29 [] [] := by
  unfold wX3_hasLine_29 at h
  refine j_iconst K (1 : Int32) dX3_hasLine_29 (by decide) ?_
  exact j_zret st K hr rfl h.2 h.1 (Nat.le_of_ble_eq_true rfl) (Nat.le_of_ble_eq_true rfl) dX3_hasLine_30
theorem kX3_hasLine_31 {p : Program} {l : Launch} {e : Env} {s : State} {m : MethodId} {args : Array Value} {below : List Frame} {meth : Method} {c : Code} {A : Nat → Prop} {D : va_G} {ct : Nat → ClassId} {ad : Nat → Nat} {post : Int32 → MS → Prop} (K : CX p s m args meth c cX3_hasLine 3 RX3 A D ct gT) (hr : meth.sig.returnType = (some .boolean)) (L2 : Int32 → Int32 → MS → Prop) (hL2 : ∀ (x1 : Int32) (x2 : Int32) (st : MS), L2 x1 x2 st → jJ p l e { frames := 1, cells := 0, slots := 0, locals := 24 } s m args below meth c (MQ below (va_Qi post (fun u => cB D ct A (MW ct ad u)) A) args s 0 0 A) A D 3 (MW ct ad st) 0 0 2 [(0, .ref (ad 0)), (1, .int x1), (2, .int x2)] []) (x1 : Int32) (x2 : Int32) (st : MS) (h : wX3_hasLine_31 post L2 x1 x2 st) : jJ p l e { frames := 1, cells := 0, slots := 0, locals := 24 } s m args below meth c (MQ below (va_Qi post (fun u => cB D ct A (MW ct ad u)) A) args s 0 0 A) A D 3 (MW ct ad st) 0 0 31 [(0, .ref (ad 0)), (1, .int x1), (2, .int x2)] [] := by
  unfold wX3_hasLine_31 at h
  refine j_iinc K 2 (x2 + (1 : Int32)) [(2, .int (x2 + (1 : Int32))), (0, .ref (ad 0)), (1, .int x1)] dX3_hasLine_31 rfl rfl (by decide) rfl ?_
  refine j_goto K 2 dX3_hasLine_34 (by decide) ?_
  refine j_lv K [1, 2, 0] (lv' := [(0, .ref (ad 0)), (1, .int x1), (2, .int (x2 + (1 : Int32)))]) rfl ?_
  exact hL2 x1 (x2 + (1 : Int32)) st h
theorem kX3_hasLine_19 {p : Program} {l : Launch} {e : Env} {s : State} {m : MethodId} {args : Array Value} {below : List Frame} {meth : Method} {c : Code} {A : Nat → Prop} {D : va_G} {ct : Nat → ClassId} {ad : Nat → Nat} {post : Int32 → MS → Prop} (K : CX p s m args meth c cX3_hasLine 3 RX3 A D ct gT) (hr : meth.sig.returnType = (some .boolean)) (L2 : Int32 → Int32 → MS → Prop) (hL2 : ∀ (x1 : Int32) (x2 : Int32) (st : MS), L2 x1 x2 st → jJ p l e { frames := 1, cells := 0, slots := 0, locals := 24 } s m args below meth c (MQ below (va_Qi post (fun u => cB D ct A (MW ct ad u)) A) args s 0 0 A) A D 3 (MW ct ad st) 0 0 2 [(0, .ref (ad 0)), (1, .int x1), (2, .int x2)] []) (x1 : Int32) (x2 : Int32) (st : MS) (h : wX3_hasLine_19 post L2 x1 x2 st) : jJ p l e { frames := 1, cells := 0, slots := 0, locals := 24 } s m args below meth c (MQ below (va_Qi post (fun u => cB D ct A (MW ct ad u)) A) args s 0 0 A) A D 3 (MW ct ad st) 0 0 19 [(0, .ref (ad 0)), (1, .int x1), (2, .int x2)] [] := by
  unfold wX3_hasLine_19 at h
  refine j_aload_n K 0 dX3_hasLine_19 rfl rfl ?_
  refine j_iload_n K 1 dX3_hasLine_20 rfl rfl ?_
  refine j_iload_n K 2 dX3_hasLine_21 rfl rfl ?_
  refine j_iconst K (3 : Int32) dX3_hasLine_22 (by decide) ?_
  obtain ⟨hp, h⟩ := h
  refine j_callVi K (As := [.int x1, .int x2, .int (3 : Int32)]) (rest := []) (ctX3_three (l := l) (D := D) (ct := ct) (ad := ad) x1 x2 (3 : Int32) st hp) gwX3_three gdX3_three ⟨Nat.le_of_ble_eq_true rfl, Nat.le_of_ble_eq_true rfl⟩ 0 rfl rfl rfl rfl rfl (Nat.le_of_ble_eq_true rfl) dX3_hasLine_23 ⟨Nat.le_of_ble_eq_true rfl, Nat.le_of_ble_eq_true rfl⟩ (fun r_1 st_2 hq => ?_)
  obtain ⟨hq, rfl⟩ := hq
  replace h := h r_1 hq
  refine j_if_eq K 31 dX3_hasLine_26 (by decide) (fun hc => ?_) (fun hc => ?_)
  · exact kX3_hasLine_31 K hr L2 hL2 x1 x2 st (h.1 hc)
  · refine j_lv K [] (lv' := []) rfl ?_
    exact kX3_hasLine_29 K hr  st (h.2 hc)
theorem kX3_hasLine_7 {p : Program} {l : Launch} {e : Env} {s : State} {m : MethodId} {args : Array Value} {below : List Frame} {meth : Method} {c : Code} {A : Nat → Prop} {D : va_G} {ct : Nat → ClassId} {ad : Nat → Nat} {post : Int32 → MS → Prop} (K : CX p s m args meth c cX3_hasLine 3 RX3 A D ct gT) (hr : meth.sig.returnType = (some .boolean)) (L2 : Int32 → Int32 → MS → Prop) (hL2 : ∀ (x1 : Int32) (x2 : Int32) (st : MS), L2 x1 x2 st → jJ p l e { frames := 1, cells := 0, slots := 0, locals := 24 } s m args below meth c (MQ below (va_Qi post (fun u => cB D ct A (MW ct ad u)) A) args s 0 0 A) A D 3 (MW ct ad st) 0 0 2 [(0, .ref (ad 0)), (1, .int x1), (2, .int x2)] []) (x1 : Int32) (x2 : Int32) (st : MS) (h : wX3_hasLine_7 post L2 x1 x2 st) : jJ p l e { frames := 1, cells := 0, slots := 0, locals := 24 } s m args below meth c (MQ below (va_Qi post (fun u => cB D ct A (MW ct ad u)) A) args s 0 0 A) A D 3 (MW ct ad st) 0 0 7 [(0, .ref (ad 0)), (1, .int x1), (2, .int x2)] [] := by
  unfold wX3_hasLine_7 at h
  refine j_aload_n K 0 dX3_hasLine_7 rfl rfl ?_
  refine j_iload_n K 1 dX3_hasLine_8 rfl rfl ?_
  refine j_iconst K (3 : Int32) dX3_hasLine_9 (by decide) ?_
  refine j_iload_n K 2 dX3_hasLine_10 rfl rfl ?_
  refine j_imul K dX3_hasLine_11 ?_
  refine j_iconst K (1 : Int32) dX3_hasLine_12 (by decide) ?_
  obtain ⟨hp, h⟩ := h
  refine j_callVi K (As := [.int x1, .int ((3 : Int32) * x2), .int (1 : Int32)]) (rest := []) (ctX3_three (l := l) (D := D) (ct := ct) (ad := ad) x1 ((3 : Int32) * x2) (1 : Int32) st hp) gwX3_three gdX3_three ⟨Nat.le_of_ble_eq_true rfl, Nat.le_of_ble_eq_true rfl⟩ 0 rfl rfl rfl rfl rfl (Nat.le_of_ble_eq_true rfl) dX3_hasLine_13 ⟨Nat.le_of_ble_eq_true rfl, Nat.le_of_ble_eq_true rfl⟩ (fun r_1 st_2 hq => ?_)
  obtain ⟨hq, rfl⟩ := hq
  replace h := h r_1 hq
  refine j_if_ne K 29 dX3_hasLine_16 (by decide) (fun hc => ?_) (fun hc => ?_)
  · refine j_lv K [] (lv' := []) rfl ?_
    exact kX3_hasLine_29 K hr  st (h.1 hc)
  · exact kX3_hasLine_19 K hr L2 hL2 x1 x2 st (h.2 hc)
theorem kX3_hasLine_2_b {p : Program} {l : Launch} {e : Env} {s : State} {m : MethodId} {args : Array Value} {below : List Frame} {meth : Method} {c : Code} {A : Nat → Prop} {D : va_G} {ct : Nat → ClassId} {ad : Nat → Nat} {post : Int32 → MS → Prop} (K : CX p s m args meth c cX3_hasLine 3 RX3 A D ct gT) (hr : meth.sig.returnType = (some .boolean)) (L2 : Int32 → Int32 → MS → Prop) (hL2 : ∀ (x1 : Int32) (x2 : Int32) (st : MS), L2 x1 x2 st → jJ p l e { frames := 1, cells := 0, slots := 0, locals := 24 } s m args below meth c (MQ below (va_Qi post (fun u => cB D ct A (MW ct ad u)) A) args s 0 0 A) A D 3 (MW ct ad st) 0 0 2 [(0, .ref (ad 0)), (1, .int x1), (2, .int x2)] []) (x1 : Int32) (x2 : Int32) (st : MS) (h : wX3_hasLine_2_b post L2 x1 x2 st) : jJ p l e { frames := 1, cells := 0, slots := 0, locals := 24 } s m args below meth c (MQ below (va_Qi post (fun u => cB D ct A (MW ct ad u)) A) args s 0 0 A) A D 3 (MW ct ad st) 0 0 2 [(0, .ref (ad 0)), (1, .int x1), (2, .int x2)] [] := by
  unfold wX3_hasLine_2_b at h
  refine j_iload_n K 2 dX3_hasLine_2 rfl rfl ?_
  refine j_iconst K (3 : Int32) dX3_hasLine_3 (by decide) ?_
  refine j_icmp_ge K 37 dX3_hasLine_4 (by decide) (fun hc => ?_) (fun hc => ?_)
  · refine j_lv K [0, 1] (lv' := [(0, .ref (ad 0)), (1, .int x1)]) rfl ?_
    exact kX3_hasLine_37 K hr  x1 st (h.1 hc)
  · exact kX3_hasLine_7 K hr L2 hL2 x1 x2 st (h.2 hc)
theorem kX3_hasLine_2 {p : Program} {l : Launch} {e : Env} {s : State} {m : MethodId} {args : Array Value} {below : List Frame} {meth : Method} {c : Code} {A : Nat → Prop} {D : va_G} {ct : Nat → ClassId} {ad : Nat → Nat} {post : Int32 → MS → Prop} (K : CX p s m args meth c cX3_hasLine 3 RX3 A D ct gT) (hr : meth.sig.returnType = (some .boolean))   (x1 : Int32) (x2 : Int32) (st : MS) (h : wX3_hasLine_2 post  x1 x2 st) : jJ p l e { frames := 1, cells := 0, slots := 0, locals := 24 } s m args below meth c (MQ below (va_Qi post (fun u => cB D ct A (MW ct ad u)) A) args s 0 0 A) A D 3 (MW ct ad st) 0 0 2 [(0, .ref (ad 0)), (1, .int x1), (2, .int x2)] [] :=
  wloop_sound (V := Int32 × Int32 × MS) (Wk := fun v => jJ p l e { frames := 1, cells := 0, slots := 0, locals := 24 } s m args below meth c (MQ below (va_Qi post (fun u => cB D ct A (MW ct ad u)) A) args s 0 0 A) A D 3 (MW ct ad v.2.2) 0 0 2 [(0, .ref (ad 0)), (1, .int v.1), (2, .int v.2.1)] []) (fun L hL v hb => kX3_hasLine_2_b K hr (fun x1 x2 st => L (x1, x2, st)) (fun x1 x2 st hx => hL (x1, x2, st) hx) v.1 v.2.1 v.2.2 hb) h
theorem kX3_hasLine_0 {p : Program} {l : Launch} {e : Env} {s : State} {m : MethodId} {args : Array Value} {below : List Frame} {meth : Method} {c : Code} {A : Nat → Prop} {D : va_G} {ct : Nat → ClassId} {ad : Nat → Nat} {post : Int32 → MS → Prop} (K : CX p s m args meth c cX3_hasLine 3 RX3 A D ct gT) (hr : meth.sig.returnType = (some .boolean))   (x1 : Int32) (st : MS) (h : wX3_hasLine_0 post  x1 st) : jJ p l e { frames := 1, cells := 0, slots := 0, locals := 24 } s m args below meth c (MQ below (va_Qi post (fun u => cB D ct A (MW ct ad u)) A) args s 0 0 A) A D 3 (MW ct ad st) 0 0 0 [(0, .ref (ad 0)), (1, .int x1)] [] := by
  unfold wX3_hasLine_0 at h
  refine j_iconst K (0 : Int32) dX3_hasLine_0 (by decide) ?_
  refine j_istore_n K [(2, .int (0 : Int32)), (0, .ref (ad 0)), (1, .int x1)] dX3_hasLine_1 rfl (by decide) rfl ?_
  refine j_lv K [1, 2, 0] (lv' := [(0, .ref (ad 0)), (1, .int x1), (2, .int (0 : Int32))]) rfl ?_
  exact kX3_hasLine_2 K hr  x1 (0 : Int32) st h
theorem ctX3_hasLine {l : Launch} {D : va_G} {ct : Nat → ClassId} {ad : Nat → Nat} (x1 : Int32) (st : MS) (hp : pX3_hasLine x1 st) : ∀ sz, Met l yX3_hasLine (ws_ yX3_hasLine cX3_hasLine 3 (some .boolean)) { frames := 1, cells := 0, slots := 0, locals := 24 } (va_Pc [.ref (ad 0), .int x1] (cPre gT D ct (MW ct ad st) sz)) (va_Qi (fun (r : Int32) (u : MS) => qX3_hasLine x1 st r ∧ st = u) (fun u => cB D ct (va_A (MW ct ad st) sz) (MW ct ad u)) (va_A (MW ct ad st) sz)) 0 0 (va_A (MW ct ad st) sz) := fun sz =>
  j_met (Qc := fun A => va_Qi (fun (r : Int32) (u : MS) => qX3_hasLine x1 st r ∧ st = u) (fun u => cB D ct A (MW ct ad u)) A) (by decide) gT_ok (Nat.le_of_ble_eq_true rfl) (fun p e s m args below meth c A K hr _ _ => kX3_hasLine_0 K hr x1 st (vcX3_hasLine x1 st hp))
-- X3_men
theorem gwX3_men : GoodIn lw_all (wsV RX3 69 RX3 yX3_men (ws_ yX3_men cX3_men 4 (some .int))) := lw_V q1118 q1120 qs50 q84 q1121
theorem gdX3_men : yX3_men.cls = RX3 ∧ yX3_men.cls ≠ "java/lang/invoke/MethodHandle" ∧ yX3_men.cls ≠ "java/lang/invoke/VarHandle" ∧ (parseMethodDescriptor yX3_men.desc).map (fun d => d.parameters.length) = some 1 := by decide +kernel
theorem kX3_men_36 {p : Program} {l : Launch} {e : Env} {s : State} {m : MethodId} {args : Array Value} {below : List Frame} {meth : Method} {c : Code} {A : Nat → Prop} {D : va_G} {ct : Nat → ClassId} {ad : Nat → Nat} {post : Int32 → MS → Prop} (K : CX p s m args meth c cX3_men 4 RX3 A D ct gT) (hr : meth.sig.returnType = (some .int))   (x2 : Int32) (st : MS) (h : wX3_men_36 post  x2 st) : jJ p l e { frames := 0, cells := 0, slots := 0, locals := 0 } s m args below meth c (MQ below (va_Qi post (fun u => cB D ct A (MW ct ad u)) A) args s 0 0 A) A D 4 (MW ct ad st) 0 0 36 [(2, .int x2)] [] := by
  unfold wX3_men_36 at h
  refine j_iload_n K 0 dX3_men_36 rfl rfl ?_
  exact j_iret st K hr rfl h (Nat.le_of_ble_eq_true rfl) (Nat.le_of_ble_eq_true rfl) dX3_men_37
theorem kX3_men_28 {p : Program} {l : Launch} {e : Env} {s : State} {m : MethodId} {args : Array Value} {below : List Frame} {meth : Method} {c : Code} {A : Nat → Prop} {D : va_G} {ct : Nat → ClassId} {ad : Nat → Nat} {post : Int32 → MS → Prop} (K : CX p s m args meth c cX3_men 4 RX3 A D ct gT) (hr : meth.sig.returnType = (some .int)) (L4 : Int32 → Int32 → Int32 → MS → Prop) (hL4 : ∀ (x1 : Int32) (x2 : Int32) (x3 : Int32) (st : MS), L4 x1 x2 x3 st → jJ p l e { frames := 0, cells := 0, slots := 0, locals := 0 } s m args below meth c (MQ below (va_Qi post (fun u => cB D ct A (MW ct ad u)) A) args s 0 0 A) A D 4 (MW ct ad st) 0 0 4 [(0, .ref (ad 0)), (1, .int x1), (2, .int x2), (3, .int x3)] []) (x1 : Int32) (x3 : Int32) (s0 : Int32) (s1 : Int32) (st : MS) (h : wX3_men_28 post L4 x1 x3 s0 s1 st) : jJ p l e { frames := 0, cells := 0, slots := 0, locals := 0 } s m args below meth c (MQ below (va_Qi post (fun u => cB D ct A (MW ct ad u)) A) args s 0 0 A) A D 4 (MW ct ad st) 0 0 28 [(0, .ref (ad 0)), (1, .int x1), (3, .int x3)] [.int s1, .int s0] := by
  unfold wX3_men_28 at h
  refine j_iadd K dX3_men_28 ?_
  refine j_istore_n K [(2, .int (s0 + s1)), (0, .ref (ad 0)), (1, .int x1), (3, .int x3)] dX3_men_29 rfl (by decide) rfl ?_
  refine j_iinc K 3 (x3 + (1 : Int32)) [(3, .int (x3 + (1 : Int32))), (2, .int (s0 + s1)), (0, .ref (ad 0)), (1, .int x1)] dX3_men_30 rfl rfl (by decide) rfl ?_
  refine j_goto K 4 dX3_men_33 (by decide) ?_
  refine j_lv K [2, 3, 1, 0] (lv' := [(0, .ref (ad 0)), (1, .int x1), (2, .int (s0 + s1)), (3, .int (x3 + (1 : Int32)))]) rfl ?_
  exact hL4 x1 (s0 + s1) (x3 + (1 : Int32)) st h
theorem kX3_men_27 {p : Program} {l : Launch} {e : Env} {s : State} {m : MethodId} {args : Array Value} {below : List Frame} {meth : Method} {c : Code} {A : Nat → Prop} {D : va_G} {ct : Nat → ClassId} {ad : Nat → Nat} {post : Int32 → MS → Prop} (K : CX p s m args meth c cX3_men 4 RX3 A D ct gT) (hr : meth.sig.returnType = (some .int)) (L4 : Int32 → Int32 → Int32 → MS → Prop) (hL4 : ∀ (x1 : Int32) (x2 : Int32) (x3 : Int32) (st : MS), L4 x1 x2 x3 st → jJ p l e { frames := 0, cells := 0, slots := 0, locals := 0 } s m args below meth c (MQ below (va_Qi post (fun u => cB D ct A (MW ct ad u)) A) args s 0 0 A) A D 4 (MW ct ad st) 0 0 4 [(0, .ref (ad 0)), (1, .int x1), (2, .int x2), (3, .int x3)] []) (x1 : Int32) (x3 : Int32) (s0 : Int32) (st : MS) (h : wX3_men_27 post L4 x1 x3 s0 st) : jJ p l e { frames := 0, cells := 0, slots := 0, locals := 0 } s m args below meth c (MQ below (va_Qi post (fun u => cB D ct A (MW ct ad u)) A) args s 0 0 A) A D 4 (MW ct ad st) 0 0 27 [(0, .ref (ad 0)), (1, .int x1), (3, .int x3)] [.int s0] := by
  unfold wX3_men_27 at h
  refine j_iconst K (0 : Int32) dX3_men_27 (by decide) ?_
  exact kX3_men_28 K hr L4 hL4 x1 x3 s0 (0 : Int32) st h
theorem kX3_men_23 {p : Program} {l : Launch} {e : Env} {s : State} {m : MethodId} {args : Array Value} {below : List Frame} {meth : Method} {c : Code} {A : Nat → Prop} {D : va_G} {ct : Nat → ClassId} {ad : Nat → Nat} {post : Int32 → MS → Prop} (K : CX p s m args meth c cX3_men 4 RX3 A D ct gT) (hr : meth.sig.returnType = (some .int)) (L4 : Int32 → Int32 → Int32 → MS → Prop) (hL4 : ∀ (x1 : Int32) (x2 : Int32) (x3 : Int32) (st : MS), L4 x1 x2 x3 st → jJ p l e { frames := 0, cells := 0, slots := 0, locals := 0 } s m args below meth c (MQ below (va_Qi post (fun u => cB D ct A (MW ct ad u)) A) args s 0 0 A) A D 4 (MW ct ad st) 0 0 4 [(0, .ref (ad 0)), (1, .int x1), (2, .int x2), (3, .int x3)] []) (x1 : Int32) (x3 : Int32) (s0 : Int32) (st : MS) (h : wX3_men_23 post L4 x1 x3 s0 st) : jJ p l e { frames := 0, cells := 0, slots := 0, locals := 0 } s m args below meth c (MQ below (va_Qi post (fun u => cB D ct A (MW ct ad u)) A) args s 0 0 A) A D 4 (MW ct ad st) 0 0 23 [(0, .ref (ad 0)), (1, .int x1), (3, .int x3)] [.int s0] := by
  unfold wX3_men_23 at h
  refine j_iconst K (1 : Int32) dX3_men_23 (by decide) ?_
  refine j_goto K 28 dX3_men_24 (by decide) ?_
  exact kX3_men_28 K hr L4 hL4 x1 x3 s0 (1 : Int32) st h
theorem kX3_men_10 {p : Program} {l : Launch} {e : Env} {s : State} {m : MethodId} {args : Array Value} {below : List Frame} {meth : Method} {c : Code} {A : Nat → Prop} {D : va_G} {ct : Nat → ClassId} {ad : Nat → Nat} {post : Int32 → MS → Prop} (K : CX p s m args meth c cX3_men 4 RX3 A D ct gT) (hr : meth.sig.returnType = (some .int)) (L4 : Int32 → Int32 → Int32 → MS → Prop) (hL4 : ∀ (x1 : Int32) (x2 : Int32) (x3 : Int32) (st : MS), L4 x1 x2 x3 st → jJ p l e { frames := 0, cells := 0, slots := 0, locals := 0 } s m args below meth c (MQ below (va_Qi post (fun u => cB D ct A (MW ct ad u)) A) args s 0 0 A) A D 4 (MW ct ad st) 0 0 4 [(0, .ref (ad 0)), (1, .int x1), (2, .int x2), (3, .int x3)] []) (x1 : Int32) (x2 : Int32) (x3 : Int32) (st : MS) (h : wX3_men_10 post L4 x1 x2 x3 st) : jJ p l e { frames := 0, cells := 0, slots := 0, locals := 0 } s m args below meth c (MQ below (va_Qi post (fun u => cB D ct A (MW ct ad u)) A) args s 0 0 A) A D 4 (MW ct ad st) 0 0 10 [(0, .ref (ad 0)), (1, .int x1), (2, .int x2), (3, .int x3)] [] := by
  unfold wX3_men_10 at h
  refine j_iload_n K 2 dX3_men_10 rfl rfl ?_
  refine j_aload_n K 0 dX3_men_11 rfl rfl ?_
  refine mg_cells K dX3_men_12 ?_
  refine j_iload_n K 3 dX3_men_15 rfl rfl ?_
  obtain ⟨hc, h⟩ := h
  refine ml_cells K hc dX3_men_16 ?_
  refine j_iload_n K 1 dX3_men_17 rfl rfl ?_
  refine j_iconst K (1 : Int32) dX3_men_18 (by decide) ?_
  refine j_iadd K dX3_men_19 ?_
  refine j_icmp_ne K 27 dX3_men_20 (by decide) (fun hc => ?_) (fun hc => ?_)
  · refine j_lv K [0, 1, 3] (lv' := [(0, .ref (ad 0)), (1, .int x1), (3, .int x3)]) rfl ?_
    exact kX3_men_27 K hr L4 hL4 x1 x3 x2 st (h.1 hc)
  · refine j_lv K [0, 1, 3] (lv' := [(0, .ref (ad 0)), (1, .int x1), (3, .int x3)]) rfl ?_
    exact kX3_men_23 K hr L4 hL4 x1 x3 x2 st (h.2 hc)
theorem kX3_men_4_b {p : Program} {l : Launch} {e : Env} {s : State} {m : MethodId} {args : Array Value} {below : List Frame} {meth : Method} {c : Code} {A : Nat → Prop} {D : va_G} {ct : Nat → ClassId} {ad : Nat → Nat} {post : Int32 → MS → Prop} (K : CX p s m args meth c cX3_men 4 RX3 A D ct gT) (hr : meth.sig.returnType = (some .int)) (L4 : Int32 → Int32 → Int32 → MS → Prop) (hL4 : ∀ (x1 : Int32) (x2 : Int32) (x3 : Int32) (st : MS), L4 x1 x2 x3 st → jJ p l e { frames := 0, cells := 0, slots := 0, locals := 0 } s m args below meth c (MQ below (va_Qi post (fun u => cB D ct A (MW ct ad u)) A) args s 0 0 A) A D 4 (MW ct ad st) 0 0 4 [(0, .ref (ad 0)), (1, .int x1), (2, .int x2), (3, .int x3)] []) (x1 : Int32) (x2 : Int32) (x3 : Int32) (st : MS) (h : wX3_men_4_b post L4 x1 x2 x3 st) : jJ p l e { frames := 0, cells := 0, slots := 0, locals := 0 } s m args below meth c (MQ below (va_Qi post (fun u => cB D ct A (MW ct ad u)) A) args s 0 0 A) A D 4 (MW ct ad st) 0 0 4 [(0, .ref (ad 0)), (1, .int x1), (2, .int x2), (3, .int x3)] [] := by
  unfold wX3_men_4_b at h
  refine j_iload_n K 3 dX3_men_4 rfl rfl ?_
  refine j_bipush K (9 : Int32) dX3_men_5 (by decide) ?_
  refine j_icmp_ge K 36 dX3_men_7 (by decide) (fun hc => ?_) (fun hc => ?_)
  · refine j_lv K [2] (lv' := [(2, .int x2)]) rfl ?_
    exact kX3_men_36 K hr  x2 st (h.1 hc)
  · exact kX3_men_10 K hr L4 hL4 x1 x2 x3 st (h.2 hc)
theorem kX3_men_4 {p : Program} {l : Launch} {e : Env} {s : State} {m : MethodId} {args : Array Value} {below : List Frame} {meth : Method} {c : Code} {A : Nat → Prop} {D : va_G} {ct : Nat → ClassId} {ad : Nat → Nat} {post : Int32 → MS → Prop} (K : CX p s m args meth c cX3_men 4 RX3 A D ct gT) (hr : meth.sig.returnType = (some .int))   (x1 : Int32) (x2 : Int32) (x3 : Int32) (st : MS) (h : wX3_men_4 post  x1 x2 x3 st) : jJ p l e { frames := 0, cells := 0, slots := 0, locals := 0 } s m args below meth c (MQ below (va_Qi post (fun u => cB D ct A (MW ct ad u)) A) args s 0 0 A) A D 4 (MW ct ad st) 0 0 4 [(0, .ref (ad 0)), (1, .int x1), (2, .int x2), (3, .int x3)] [] :=
  wloop_sound (V := Int32 × Int32 × Int32 × MS) (Wk := fun v => jJ p l e { frames := 0, cells := 0, slots := 0, locals := 0 } s m args below meth c (MQ below (va_Qi post (fun u => cB D ct A (MW ct ad u)) A) args s 0 0 A) A D 4 (MW ct ad v.2.2.2) 0 0 4 [(0, .ref (ad 0)), (1, .int v.1), (2, .int v.2.1), (3, .int v.2.2.1)] []) (fun L hL v hb => kX3_men_4_b K hr (fun x1 x2 x3 st => L (x1, x2, x3, st)) (fun x1 x2 x3 st hx => hL (x1, x2, x3, st) hx) v.1 v.2.1 v.2.2.1 v.2.2.2 hb) h
theorem kX3_men_0 {p : Program} {l : Launch} {e : Env} {s : State} {m : MethodId} {args : Array Value} {below : List Frame} {meth : Method} {c : Code} {A : Nat → Prop} {D : va_G} {ct : Nat → ClassId} {ad : Nat → Nat} {post : Int32 → MS → Prop} (K : CX p s m args meth c cX3_men 4 RX3 A D ct gT) (hr : meth.sig.returnType = (some .int))   (x1 : Int32) (st : MS) (h : wX3_men_0 post  x1 st) : jJ p l e { frames := 0, cells := 0, slots := 0, locals := 0 } s m args below meth c (MQ below (va_Qi post (fun u => cB D ct A (MW ct ad u)) A) args s 0 0 A) A D 4 (MW ct ad st) 0 0 0 [(0, .ref (ad 0)), (1, .int x1)] [] := by
  unfold wX3_men_0 at h
  refine j_iconst K (0 : Int32) dX3_men_0 (by decide) ?_
  refine j_istore_n K [(2, .int (0 : Int32)), (0, .ref (ad 0)), (1, .int x1)] dX3_men_1 rfl (by decide) rfl ?_
  refine j_iconst K (0 : Int32) dX3_men_2 (by decide) ?_
  refine j_istore_n K [(3, .int (0 : Int32)), (2, .int (0 : Int32)), (0, .ref (ad 0)), (1, .int x1)] dX3_men_3 rfl (by decide) rfl ?_
  refine j_lv K [2, 3, 1, 0] (lv' := [(0, .ref (ad 0)), (1, .int x1), (2, .int (0 : Int32)), (3, .int (0 : Int32))]) rfl ?_
  exact kX3_men_4 K hr  x1 (0 : Int32) (0 : Int32) st h
theorem ctX3_men {l : Launch} {D : va_G} {ct : Nat → ClassId} {ad : Nat → Nat} (x1 : Int32) (st : MS) (hp : pX3_men x1 st) : ∀ sz, Met l yX3_men (ws_ yX3_men cX3_men 4 (some .int)) { frames := 0, cells := 0, slots := 0, locals := 0 } (va_Pc [.ref (ad 0), .int x1] (cPre gT D ct (MW ct ad st) sz)) (va_Qi (fun (r : Int32) (u : MS) => qX3_men x1 st r ∧ st = u) (fun u => cB D ct (va_A (MW ct ad st) sz) (MW ct ad u)) (va_A (MW ct ad st) sz)) 0 0 (va_A (MW ct ad st) sz) := fun sz =>
  j_met (Qc := fun A => va_Qi (fun (r : Int32) (u : MS) => qX3_men x1 st r ∧ st = u) (fun u => cB D ct A (MW ct ad u)) A) (by decide) gT_ok (Nat.le_of_ble_eq_true rfl) (fun p e s m args below meth c A K hr _ _ => kX3_men_0 K hr x1 st (vcX3_men x1 st hp))
-- X3_areNeighbours
theorem gwX3_areNeighbours : GoodIn lw_all (wsV RX3 79 RX3 yX3_areNeighbours (ws_ yX3_areNeighbours cX3_areNeighbours 6 (some .boolean))) := lw_V q1122 q1124 qs51 q84 q1125
theorem gdX3_areNeighbours : yX3_areNeighbours.cls = RX3 ∧ yX3_areNeighbours.cls ≠ "java/lang/invoke/MethodHandle" ∧ yX3_areNeighbours.cls ≠ "java/lang/invoke/VarHandle" ∧ (parseMethodDescriptor yX3_areNeighbours.desc).map (fun d => d.parameters.length) = some 2 := by decide +kernel
theorem kX3_areNeighbours_65 {p : Program} {l : Launch} {e : Env} {s : State} {m : MethodId} {args : Array Value} {below : List Frame} {meth : Method} {c : Code} {A : Nat → Prop} {D : va_G} {ct : Nat → ClassId} {ad : Nat → Nat} {post : Int32 → MS → Prop} (K : CX p s m args meth c cX3_areNeighbours 6 RX3 A D ct gT) (hr : meth.sig.returnType = (some .boolean))   (s0 : Int32) (st : MS) (h : wX3_areNeighbours_65 post  s0 st) : jJ p l e { frames := 0, cells := 0, slots := 0, locals := 0 } s m args below meth c (MQ below (va_Qi post (fun u => cB D ct A (MW ct ad u)) A) args s 0 0 A) A D 6 (MW ct ad st) 0 0 65 [] [.int s0] := by
  unfold wX3_areNeighbours_65 at h
  exact j_zret st K hr rfl h.2 h.1 (Nat.le_of_ble_eq_true rfl) (Nat.le_of_ble_eq_true rfl) dX3_areNeighbours_65
theorem kX3_areNeighbours_60 {p : Program} {l : Launch} {e : Env} {s : State} {m : MethodId} {args : Array Value} {below : List Frame} {meth : Method} {c : Code} {A : Nat → Prop} {D : va_G} {ct : Nat → ClassId} {ad : Nat → Nat} {post : Int32 → MS → Prop} (K : CX p s m args meth c cX3_areNeighbours 6 RX3 A D ct gT) (hr : meth.sig.returnType = (some .boolean))    (st : MS) (h : wX3_areNeighbours_60 post  st) : jJ p l e { frames := 0, cells := 0, slots := 0, locals := 0 } s m args below meth c (MQ below (va_Qi post (fun u => cB D ct A (MW ct ad u)) A) args s 0 0 A) A D 6 (MW ct ad st) 0 0 60 [] [] := by
  unfold wX3_areNeighbours_60 at h
  refine j_iconst K (1 : Int32) dX3_areNeighbours_60 (by decide) ?_
  refine j_goto K 65 dX3_areNeighbours_61 (by decide) ?_
  exact kX3_areNeighbours_65 K hr  (1 : Int32) st h
theorem kX3_areNeighbours_64 {p : Program} {l : Launch} {e : Env} {s : State} {m : MethodId} {args : Array Value} {below : List Frame} {meth : Method} {c : Code} {A : Nat → Prop} {D : va_G} {ct : Nat → ClassId} {ad : Nat → Nat} {post : Int32 → MS → Prop} (K : CX p s m args meth c cX3_areNeighbours 6 RX3 A D ct gT) (hr : meth.sig.returnType = (some .boolean))    (st : MS) (h : wX3_areNeighbours_64 post  st) : jJ p l e { frames := 0, cells := 0, slots := 0, locals := 0 } s m args below meth c (MQ below (va_Qi post (fun u => cB D ct A (MW ct ad u)) A) args s 0 0 A) A D 6 (MW ct ad st) 0 0 64 [] [] := by
  unfold wX3_areNeighbours_64 at h
  refine j_iconst K (0 : Int32) dX3_areNeighbours_64 (by decide) ?_
  exact kX3_areNeighbours_65 K hr  (0 : Int32) st h
theorem kX3_areNeighbours_55 {p : Program} {l : Launch} {e : Env} {s : State} {m : MethodId} {args : Array Value} {below : List Frame} {meth : Method} {c : Code} {A : Nat → Prop} {D : va_G} {ct : Nat → ClassId} {ad : Nat → Nat} {post : Int32 → MS → Prop} (K : CX p s m args meth c cX3_areNeighbours 6 RX3 A D ct gT) (hr : meth.sig.returnType = (some .boolean))   (x2 : Int32) (st : MS) (h : wX3_areNeighbours_55 post  x2 st) : jJ p l e { frames := 0, cells := 0, slots := 0, locals := 0 } s m args below meth c (MQ below (va_Qi post (fun u => cB D ct A (MW ct ad u)) A) args s 0 0 A) A D 6 (MW ct ad st) 0 0 55 [(2, .int x2)] [] := by
  unfold wX3_areNeighbours_55 at h
  refine j_iload_n K 0 dX3_areNeighbours_55 rfl rfl ?_
  refine j_iconst K (4 : Int32) dX3_areNeighbours_56 (by decide) ?_
  refine j_icmp_ne K 64 dX3_areNeighbours_57 (by decide) (fun hc => ?_) (fun hc => ?_)
  · refine j_lv K [] (lv' := []) rfl ?_
    exact kX3_areNeighbours_64 K hr  st (h.1 hc)
  · refine j_lv K [] (lv' := []) rfl ?_
    exact kX3_areNeighbours_60 K hr  st (h.2 hc)
theorem kX3_areNeighbours_50 {p : Program} {l : Launch} {e : Env} {s : State} {m : MethodId} {args : Array Value} {below : List Frame} {meth : Method} {c : Code} {A : Nat → Prop} {D : va_G} {ct : Nat → ClassId} {ad : Nat → Nat} {post : Int32 → MS → Prop} (K : CX p s m args meth c cX3_areNeighbours 6 RX3 A D ct gT) (hr : meth.sig.returnType = (some .boolean))   (x1 : Int32) (x2 : Int32) (st : MS) (h : wX3_areNeighbours_50 post  x1 x2 st) : jJ p l e { frames := 0, cells := 0, slots := 0, locals := 0 } s m args below meth c (MQ below (va_Qi post (fun u => cB D ct A (MW ct ad u)) A) args s 0 0 A) A D 6 (MW ct ad st) 0 0 50 [(1, .int x1), (2, .int x2)] [] := by
  unfold wX3_areNeighbours_50 at h
  refine j_iload_n K 0 dX3_areNeighbours_50 rfl rfl ?_
  refine j_iconst K (4 : Int32) dX3_areNeighbours_51 (by decide) ?_
  refine j_icmp_eq K 60 dX3_areNeighbours_52 (by decide) (fun hc => ?_) (fun hc => ?_)
  · refine j_lv K [] (lv' := []) rfl ?_
    exact kX3_areNeighbours_60 K hr  st (h.1 hc)
  · refine j_lv K [1] (lv' := [(2, .int x2)]) rfl ?_
    exact kX3_areNeighbours_55 K hr  x2 st (h.2 hc)
theorem kX3_areNeighbours_40 {p : Program} {l : Launch} {e : Env} {s : State} {m : MethodId} {args : Array Value} {below : List Frame} {meth : Method} {c : Code} {A : Nat → Prop} {D : va_G} {ct : Nat → ClassId} {ad : Nat → Nat} {post : Int32 → MS → Prop} (K : CX p s m args meth c cX3_areNeighbours 6 RX3 A D ct gT) (hr : meth.sig.returnType = (some .boolean))   (x1 : Int32) (x2 : Int32) (st : MS) (h : wX3_areNeighbours_40 post  x1 x2 st) : jJ p l e { frames := 0, cells := 0, slots := 0, locals := 0 } s m args below meth c (MQ below (va_Qi post (fun u => cB D ct A (MW ct ad u)) A) args s 0 0 A) A D 6 (MW ct ad st) 0 0 40 [(0, .ref (ad 0)), (1, .int x1), (2, .int x2)] [] := by
  unfold wX3_areNeighbours_40 at h
  refine j_aload_n K 0 dX3_areNeighbours_40 rfl rfl ?_
  refine mg_row K dX3_areNeighbours_41 ?_
  refine j_iconst K (0 : Int32) dX3_areNeighbours_44 (by decide) ?_
  obtain ⟨hc, h⟩ := h
  refine ml_row K hc dX3_areNeighbours_45 ?_
  refine j_iconst K (1 : Int32) dX3_areNeighbours_46 (by decide) ?_
  refine j_icmp_ne K 64 dX3_areNeighbours_47 (by decide) (fun hc => ?_) (fun hc => ?_)
  · refine j_lv K [] (lv' := []) rfl ?_
    exact kX3_areNeighbours_64 K hr  st (h.1 hc)
  · refine j_lv K [1, 2] (lv' := [(1, .int x1), (2, .int x2)]) rfl ?_
    exact kX3_areNeighbours_50 K hr  x1 x2 st (h.2 hc)
theorem kX3_areNeighbours_34 {p : Program} {l : Launch} {e : Env} {s : State} {m : MethodId} {args : Array Value} {below : List Frame} {meth : Method} {c : Code} {A : Nat → Prop} {D : va_G} {ct : Nat → ClassId} {ad : Nat → Nat} {post : Int32 → MS → Prop} (K : CX p s m args meth c cX3_areNeighbours 6 RX3 A D ct gT) (hr : meth.sig.returnType = (some .boolean))   (x1 : Int32) (x2 : Int32) (x5 : Int32) (st : MS) (h : wX3_areNeighbours_34 post  x1 x2 x5 st) : jJ p l e { frames := 0, cells := 0, slots := 0, locals := 0 } s m args below meth c (MQ below (va_Qi post (fun u => cB D ct A (MW ct ad u)) A) args s 0 0 A) A D 6 (MW ct ad st) 0 0 34 [(0, .ref (ad 0)), (1, .int x1), (2, .int x2), (5, .int x5)] [] := by
  unfold wX3_areNeighbours_34 at h
  refine j_iload K 3 dX3_areNeighbours_34 rfl ?_
  refine j_iconst K (2 : Int32) dX3_areNeighbours_36 (by decide) ?_
  refine j_icmp_ne K 64 dX3_areNeighbours_37 (by decide) (fun hc => ?_) (fun hc => ?_)
  · refine j_lv K [] (lv' := []) rfl ?_
    exact kX3_areNeighbours_64 K hr  st (h.1 hc)
  · refine j_lv K [0, 1, 2] (lv' := [(0, .ref (ad 0)), (1, .int x1), (2, .int x2)]) rfl ?_
    exact kX3_areNeighbours_40 K hr  x1 x2 st (h.2 hc)
theorem kX3_areNeighbours_0 {p : Program} {l : Launch} {e : Env} {s : State} {m : MethodId} {args : Array Value} {below : List Frame} {meth : Method} {c : Code} {A : Nat → Prop} {D : va_G} {ct : Nat → ClassId} {ad : Nat → Nat} {post : Int32 → MS → Prop} (K : CX p s m args meth c cX3_areNeighbours 6 RX3 A D ct gT) (hr : meth.sig.returnType = (some .boolean))   (x1 : Int32) (x2 : Int32) (st : MS) (h : wX3_areNeighbours_0 post  x1 x2 st) : jJ p l e { frames := 0, cells := 0, slots := 0, locals := 0 } s m args below meth c (MQ below (va_Qi post (fun u => cB D ct A (MW ct ad u)) A) args s 0 0 A) A D 6 (MW ct ad st) 0 0 0 [(0, .ref (ad 0)), (1, .int x1), (2, .int x2)] [] := by
  unfold wX3_areNeighbours_0 at h
  refine j_iload_n K 1 dX3_areNeighbours_0 rfl rfl ?_
  refine j_iconst K (3 : Int32) dX3_areNeighbours_1 (by decide) ?_
  refine j_idiv K (by decide) dX3_areNeighbours_2 ?_
  refine j_iload_n K 2 dX3_areNeighbours_3 rfl rfl ?_
  refine j_iconst K (3 : Int32) dX3_areNeighbours_4 (by decide) ?_
  refine j_idiv K (by decide) dX3_areNeighbours_5 ?_
  refine j_isub K dX3_areNeighbours_6 ?_
  refine j_istore_n K [(3, .int ((x1 / (3 : Int32)) - (x2 / (3 : Int32)))), (0, .ref (ad 0)), (1, .int x1), (2, .int x2)] dX3_areNeighbours_7 rfl (by decide) rfl ?_
  refine j_iload_n K 2 dX3_areNeighbours_8 rfl rfl ?_
  refine j_iconst K (3 : Int32) dX3_areNeighbours_9 (by decide) ?_
  refine j_irem K (by decide) dX3_areNeighbours_10 ?_
  refine j_iload_n K 3 dX3_areNeighbours_11 rfl rfl ?_
  refine j_iconst K (3 : Int32) dX3_areNeighbours_12 (by decide) ?_
  refine j_irem K (by decide) dX3_areNeighbours_13 ?_
  refine j_isub K dX3_areNeighbours_14 ?_
  refine j_istore K [(4, .int ((irm x1 (3 : Int32)) - (irm x2 (3 : Int32)))), (3, .int ((x1 / (3 : Int32)) - (x2 / (3 : Int32)))), (0, .ref (ad 0)), (1, .int x1), (2, .int x2)] dX3_areNeighbours_15 (by decide) rfl ?_
  refine j_iload_n K 1 dX3_areNeighbours_17 rfl rfl ?_
  refine j_iload_n K 1 dX3_areNeighbours_18 rfl rfl ?_
  refine j_imul K dX3_areNeighbours_19 ?_
  refine j_iload K 0 dX3_areNeighbours_20 rfl ?_
  refine j_iload K 0 dX3_areNeighbours_22 rfl ?_
  refine j_imul K dX3_areNeighbours_24 ?_
  refine j_iadd K dX3_areNeighbours_25 ?_
  refine j_istore K [(5, .int ((((x1 / (3 : Int32)) - (x2 / (3 : Int32))) * ((x1 / (3 : Int32)) - (x2 / (3 : Int32)))) + (((irm x1 (3 : Int32)) - (irm x2 (3 : Int32))) * ((irm x1 (3 : Int32)) - (irm x2 (3 : Int32)))))), (4, .int ((irm x1 (3 : Int32)) - (irm x2 (3 : Int32)))), (3, .int ((x1 / (3 : Int32)) - (x2 / (3 : Int32)))), (0, .ref (ad 0)), (1, .int x1), (2, .int x2)] dX3_areNeighbours_26 (by decide) rfl ?_
  refine j_iload K 0 dX3_areNeighbours_28 rfl ?_
  refine j_iconst K (1 : Int32) dX3_areNeighbours_30 (by decide) ?_
  refine j_icmp_eq K 60 dX3_areNeighbours_31 (by decide) (fun hc => ?_) (fun hc => ?_)
  · refine j_lv K [] (lv' := []) rfl ?_
    exact kX3_areNeighbours_60 K hr  st (h.1 hc)
  · refine j_lv K [3, 4, 5, 0] (lv' := [(0, .ref (ad 0)), (1, .int x1), (2, .int x2), (5, .int ((((x1 / (3 : Int32)) - (x2 / (3 : Int32))) * ((x1 / (3 : Int32)) - (x2 / (3 : Int32)))) + (((irm x1 (3 : Int32)) - (irm x2 (3 : Int32))) * ((irm x1 (3 : Int32)) - (irm x2 (3 : Int32))))))]) rfl ?_
    exact kX3_areNeighbours_34 K hr  x1 x2 ((((x1 / (3 : Int32)) - (x2 / (3 : Int32))) * ((x1 / (3 : Int32)) - (x2 / (3 : Int32)))) + (((irm x1 (3 : Int32)) - (irm x2 (3 : Int32))) * ((irm x1 (3 : Int32)) - (irm x2 (3 : Int32))))) st (h.2 hc)
theorem ctX3_areNeighbours {l : Launch} {D : va_G} {ct : Nat → ClassId} {ad : Nat → Nat} (x1 : Int32) (x2 : Int32) (st : MS) (hp : pX3_areNeighbours x1 x2 st) : ∀ sz, Met l yX3_areNeighbours (ws_ yX3_areNeighbours cX3_areNeighbours 6 (some .boolean)) { frames := 0, cells := 0, slots := 0, locals := 0 } (va_Pc [.ref (ad 0), .int x1, .int x2] (cPre gT D ct (MW ct ad st) sz)) (va_Qi (fun (r : Int32) (u : MS) => qX3_areNeighbours x1 x2 st r ∧ st = u) (fun u => cB D ct (va_A (MW ct ad st) sz) (MW ct ad u)) (va_A (MW ct ad st) sz)) 0 0 (va_A (MW ct ad st) sz) := fun sz =>
  j_met (Qc := fun A => va_Qi (fun (r : Int32) (u : MS) => qX3_areNeighbours x1 x2 st r ∧ st = u) (fun u => cB D ct A (MW ct ad u)) A) (by decide) gT_ok (Nat.le_of_ble_eq_true rfl) (fun p e s m args below meth c A K hr _ _ => kX3_areNeighbours_0 K hr x1 x2 st (vcX3_areNeighbours x1 x2 st hp))
-- X3_look
theorem gwX3_look : GoodIn lw_all (wsV RX3 99 RX3 yX3_look (ws_ yX3_look cX3_look 4 none)) := lw_V q1106 q1108 qs47 q84 q1109
theorem gdX3_look : yX3_look.cls = RX3 ∧ yX3_look.cls ≠ "java/lang/invoke/MethodHandle" ∧ yX3_look.cls ≠ "java/lang/invoke/VarHandle" ∧ (parseMethodDescriptor yX3_look.desc).map (fun d => d.parameters.length) = some 0 := by decide +kernel
theorem kX3_look_193 {p : Program} {l : Launch} {e : Env} {s : State} {m : MethodId} {args : Array Value} {below : List Frame} {meth : Method} {c : Code} {A : Nat → Prop} {D : va_G} {ct : Nat → ClassId} {ad : Nat → Nat} {post : MS → Prop} (K : CX p s m args meth c cX3_look 4 RX3 A D ct gT) (hr : meth.sig.returnType = none)    (st : MS) (h : wX3_look_193 post  st) : jJ p l e { frames := 2, cells := 0, slots := 0, locals := 46 } s m args below meth c (MQ below (va_Qv post (fun u => cB D ct A (MW ct ad u)) A) args s 0 0 A) A D 4 (MW ct ad st) 0 0 193 [] [] := by
  unfold wX3_look_193 at h
  exact j_vret st K hr rfl h (Nat.le_of_ble_eq_true rfl) (Nat.le_of_ble_eq_true rfl) dX3_look_193
theorem kX3_look_180 {p : Program} {l : Launch} {e : Env} {s : State} {m : MethodId} {args : Array Value} {below : List Frame} {meth : Method} {c : Code} {A : Nat → Prop} {D : va_G} {ct : Nat → ClassId} {ad : Nat → Nat} {post : MS → Prop} (K : CX p s m args meth c cX3_look 4 RX3 A D ct gT) (hr : meth.sig.returnType = none)    (st : MS) (h : wX3_look_180 post  st) : jJ p l e { frames := 2, cells := 0, slots := 0, locals := 46 } s m args below meth c (MQ below (va_Qv post (fun u => cB D ct A (MW ct ad u)) A) args s 0 0 A) A D 4 (MW ct ad st) 0 0 180 [(0, .ref (ad 0))] [] := by
  unfold wX3_look_180 at h
  refine j_aload_n K 0 dX3_look_180 rfl rfl ?_
  refine mg_list K dX3_look_181 ?_
  refine j_iconst K (0 : Int32) dX3_look_184 (by decide) ?_
  refine j_bipush K (90 : Int32) dX3_look_185 (by decide) ?_
  obtain ⟨hc, h⟩ := h
  refine mt_list K hc dX3_look_187 ?_
  refine j_aload_n K 0 dX3_look_188 rfl rfl ?_
  refine j_iconst K (1 : Int32) dX3_look_189 (by decide) ?_
  refine mp_many K dX3_look_190 ?_
  refine j_lv K [] (lv' := []) rfl ?_
  exact kX3_look_193 K hr  (mF (mA st 8 ((0 : Int32)).toNatClampNeg (90 : Int32)) 4 (1 : Int32)) h
theorem kX3_look_170 {p : Program} {l : Launch} {e : Env} {s : State} {m : MethodId} {args : Array Value} {below : List Frame} {meth : Method} {c : Code} {A : Nat → Prop} {D : va_G} {ct : Nat → ClassId} {ad : Nat → Nat} {post : MS → Prop} (K : CX p s m args meth c cX3_look 4 RX3 A D ct gT) (hr : meth.sig.returnType = none)    (st : MS) (h : wX3_look_170 post  st) : jJ p l e { frames := 2, cells := 0, slots := 0, locals := 46 } s m args below meth c (MQ below (va_Qv post (fun u => cB D ct A (MW ct ad u)) A) args s 0 0 A) A D 4 (MW ct ad st) 0 0 170 [(0, .ref (ad 0))] [] := by
  unfold wX3_look_170 at h
  refine j_aload_n K 0 dX3_look_170 rfl rfl ?_
  refine mg_row K dX3_look_171 ?_
  refine j_iconst K (1 : Int32) dX3_look_174 (by decide) ?_
  obtain ⟨hc, h⟩ := h
  refine ml_row K hc dX3_look_175 ?_
  refine j_iconst K (1 : Int32) dX3_look_176 (by decide) ?_
  refine j_icmp_ne K 193 dX3_look_177 (by decide) (fun hc => ?_) (fun hc => ?_)
  · refine j_lv K [] (lv' := []) rfl ?_
    exact kX3_look_193 K hr  st (h.1 hc)
  · exact kX3_look_180 K hr  st (h.2 hc)
theorem kX3_look_163 {p : Program} {l : Launch} {e : Env} {s : State} {m : MethodId} {args : Array Value} {below : List Frame} {meth : Method} {c : Code} {A : Nat → Prop} {D : va_G} {ct : Nat → ClassId} {ad : Nat → Nat} {post : MS → Prop} (K : CX p s m args meth c cX3_look 4 RX3 A D ct gT) (hr : meth.sig.returnType = none)    (st : MS) (h : wX3_look_163 post  st) : jJ p l e { frames := 2, cells := 0, slots := 0, locals := 46 } s m args below meth c (MQ below (va_Qv post (fun u => cB D ct A (MW ct ad u)) A) args s 0 0 A) A D 4 (MW ct ad st) 0 0 163 [(0, .ref (ad 0))] [] := by
  unfold wX3_look_163 at h
  refine j_aload_n K 0 dX3_look_163 rfl rfl ?_
  refine mg_many K dX3_look_164 ?_
  refine j_if_ne K 193 dX3_look_167 (by decide) (fun hc => ?_) (fun hc => ?_)
  · refine j_lv K [] (lv' := []) rfl ?_
    exact kX3_look_193 K hr  st (h.1 hc)
  · exact kX3_look_170 K hr  st (h.2 hc)
theorem kX3_look_157 {p : Program} {l : Launch} {e : Env} {s : State} {m : MethodId} {args : Array Value} {below : List Frame} {meth : Method} {c : Code} {A : Nat → Prop} {D : va_G} {ct : Nat → ClassId} {ad : Nat → Nat} {post : MS → Prop} (K : CX p s m args meth c cX3_look 4 RX3 A D ct gT) (hr : meth.sig.returnType = none) (L39 : Int32 → Int32 → MS → Prop) (hL39 : ∀ (x1 : Int32) (x2 : Int32) (st : MS), L39 x1 x2 st → jJ p l e { frames := 2, cells := 0, slots := 0, locals := 46 } s m args below meth c (MQ below (va_Qv post (fun u => cB D ct A (MW ct ad u)) A) args s 0 0 A) A D 4 (MW ct ad st) 0 0 39 [(0, .ref (ad 0)), (1, .int x1), (2, .int x2)] []) (x1 : Int32) (x2 : Int32) (st : MS) (h : wX3_look_157 post L39 x1 x2 st) : jJ p l e { frames := 2, cells := 0, slots := 0, locals := 46 } s m args below meth c (MQ below (va_Qv post (fun u => cB D ct A (MW ct ad u)) A) args s 0 0 A) A D 4 (MW ct ad st) 0 0 157 [(0, .ref (ad 0)), (1, .int x1), (2, .int x2)] [] := by
  unfold wX3_look_157 at h
  refine j_iinc K 2 (x2 + (1 : Int32)) [(2, .int (x2 + (1 : Int32))), (0, .ref (ad 0)), (1, .int x1)] dX3_look_157 rfl rfl (by decide) rfl ?_
  refine j_goto K 39 dX3_look_160 (by decide) ?_
  refine j_lv K [1, 2, 0] (lv' := [(0, .ref (ad 0)), (1, .int x1), (2, .int (x2 + (1 : Int32)))]) rfl ?_
  exact hL39 x1 (x2 + (1 : Int32)) st h
theorem kX3_look_151 {p : Program} {l : Launch} {e : Env} {s : State} {m : MethodId} {args : Array Value} {below : List Frame} {meth : Method} {c : Code} {A : Nat → Prop} {D : va_G} {ct : Nat → ClassId} {ad : Nat → Nat} {post : MS → Prop} (K : CX p s m args meth c cX3_look 4 RX3 A D ct gT) (hr : meth.sig.returnType = none) (L80 : Int32 → Int32 → Int32 → MS → Prop) (hL80 : ∀ (x1 : Int32) (x2 : Int32) (x3 : Int32) (st : MS), L80 x1 x2 x3 st → jJ p l e { frames := 2, cells := 0, slots := 0, locals := 46 } s m args below meth c (MQ below (va_Qv post (fun u => cB D ct A (MW ct ad u)) A) args s 0 0 A) A D 4 (MW ct ad st) 0 0 80 [(0, .ref (ad 0)), (1, .int x1), (2, .int x2), (3, .int x3)] []) (x1 : Int32) (x2 : Int32) (x3 : Int32) (st : MS) (h : wX3_look_151 post L80 x1 x2 x3 st) : jJ p l e { frames := 2, cells := 0, slots := 0, locals := 46 } s m args below meth c (MQ below (va_Qv post (fun u => cB D ct A (MW ct ad u)) A) args s 0 0 A) A D 4 (MW ct ad st) 0 0 151 [(0, .ref (ad 0)), (1, .int x1), (2, .int x2), (3, .int x3)] [] := by
  unfold wX3_look_151 at h
  refine j_iinc K 3 (x3 + (1 : Int32)) [(3, .int (x3 + (1 : Int32))), (0, .ref (ad 0)), (1, .int x1), (2, .int x2)] dX3_look_151 rfl rfl (by decide) rfl ?_
  refine j_goto K 80 dX3_look_154 (by decide) ?_
  refine j_lv K [1, 2, 3, 0] (lv' := [(0, .ref (ad 0)), (1, .int x1), (2, .int x2), (3, .int (x3 + (1 : Int32)))]) rfl ?_
  exact hL80 x1 x2 (x3 + (1 : Int32)) st h
theorem kX3_look_123 {p : Program} {l : Launch} {e : Env} {s : State} {m : MethodId} {args : Array Value} {below : List Frame} {meth : Method} {c : Code} {A : Nat → Prop} {D : va_G} {ct : Nat → ClassId} {ad : Nat → Nat} {post : MS → Prop} (K : CX p s m args meth c cX3_look 4 RX3 A D ct gT) (hr : meth.sig.returnType = none) (L80 : Int32 → Int32 → Int32 → MS → Prop) (hL80 : ∀ (x1 : Int32) (x2 : Int32) (x3 : Int32) (st : MS), L80 x1 x2 x3 st → jJ p l e { frames := 2, cells := 0, slots := 0, locals := 46 } s m args below meth c (MQ below (va_Qv post (fun u => cB D ct A (MW ct ad u)) A) args s 0 0 A) A D 4 (MW ct ad st) 0 0 80 [(0, .ref (ad 0)), (1, .int x1), (2, .int x2), (3, .int x3)] []) (x1 : Int32) (x2 : Int32) (x3 : Int32) (st : MS) (h : wX3_look_123 post L80 x1 x2 x3 st) : jJ p l e { frames := 2, cells := 0, slots := 0, locals := 46 } s m args below meth c (MQ below (va_Qv post (fun u => cB D ct A (MW ct ad u)) A) args s 0 0 A) A D 4 (MW ct ad st) 0 0 123 [(0, .ref (ad 0)), (1, .int x1), (2, .int x2), (3, .int x3)] [] := by
  unfold wX3_look_123 at h
  refine j_aload_n K 0 dX3_look_123 rfl rfl ?_
  refine mg_list K dX3_look_124 ?_
  refine j_aload_n K 0 dX3_look_127 rfl rfl ?_
  refine mg_many K dX3_look_128 ?_
  refine j_bipush K (9 : Int32) dX3_look_131 (by decide) ?_
  refine j_bipush K (9 : Int32) dX3_look_133 (by decide) ?_
  refine j_iload_n K 2 dX3_look_135 rfl rfl ?_
  refine j_imul K dX3_look_136 ?_
  refine j_iadd K dX3_look_137 ?_
  refine j_iload_n K 3 dX3_look_138 rfl rfl ?_
  refine j_iadd K dX3_look_139 ?_
  obtain ⟨hc, h⟩ := h
  refine mt_list K hc dX3_look_140 ?_
  refine j_aload_n K 0 dX3_look_141 rfl rfl ?_
  refine j_dup K dX3_look_142 rfl ?_
  refine mg_many K dX3_look_143 ?_
  refine j_iconst K (1 : Int32) dX3_look_146 (by decide) ?_
  refine j_iadd K dX3_look_147 ?_
  refine mp_many K dX3_look_148 ?_
  exact kX3_look_151 K hr L80 hL80 x1 x2 x3 (mF (mA st 8 ((st.2 4)).toNatClampNeg (((9 : Int32) + ((9 : Int32) * x2)) + x3)) 4 (((mA st 8 ((st.2 4)).toNatClampNeg (((9 : Int32) + ((9 : Int32) * x2)) + x3)).2 4) + (1 : Int32))) h
theorem kX3_look_114 {p : Program} {l : Launch} {e : Env} {s : State} {m : MethodId} {args : Array Value} {below : List Frame} {meth : Method} {c : Code} {A : Nat → Prop} {D : va_G} {ct : Nat → ClassId} {ad : Nat → Nat} {post : MS → Prop} (K : CX p s m args meth c cX3_look 4 RX3 A D ct gT) (hr : meth.sig.returnType = none) (L80 : Int32 → Int32 → Int32 → MS → Prop) (hL80 : ∀ (x1 : Int32) (x2 : Int32) (x3 : Int32) (st : MS), L80 x1 x2 x3 st → jJ p l e { frames := 2, cells := 0, slots := 0, locals := 46 } s m args below meth c (MQ below (va_Qv post (fun u => cB D ct A (MW ct ad u)) A) args s 0 0 A) A D 4 (MW ct ad st) 0 0 80 [(0, .ref (ad 0)), (1, .int x1), (2, .int x2), (3, .int x3)] []) (x1 : Int32) (x2 : Int32) (x3 : Int32) (st : MS) (h : wX3_look_114 post L80 x1 x2 x3 st) : jJ p l e { frames := 2, cells := 0, slots := 0, locals := 46 } s m args below meth c (MQ below (va_Qv post (fun u => cB D ct A (MW ct ad u)) A) args s 0 0 A) A D 4 (MW ct ad st) 0 0 114 [(0, .ref (ad 0)), (1, .int x1), (2, .int x2), (3, .int x3)] [] := by
  unfold wX3_look_114 at h
  refine j_aload_n K 0 dX3_look_114 rfl rfl ?_
  refine j_iload_n K 2 dX3_look_115 rfl rfl ?_
  refine j_iload_n K 3 dX3_look_116 rfl rfl ?_
  obtain ⟨hp, h⟩ := h
  refine j_callVi K (As := [.int x2, .int x3]) (rest := []) (ctX3_areNeighbours (l := l) (D := D) (ct := ct) (ad := ad) x2 x3 st hp) gwX3_areNeighbours gdX3_areNeighbours ⟨Nat.le_of_ble_eq_true rfl, Nat.le_of_ble_eq_true rfl⟩ 0 rfl rfl rfl rfl rfl (Nat.le_of_ble_eq_true rfl) dX3_look_117 ⟨Nat.le_of_ble_eq_true rfl, Nat.le_of_ble_eq_true rfl⟩ (fun r_1 st_2 hq => ?_)
  obtain ⟨hq, rfl⟩ := hq
  replace h := h r_1 hq
  refine j_if_eq K 151 dX3_look_120 (by decide) (fun hc => ?_) (fun hc => ?_)
  · exact kX3_look_151 K hr L80 hL80 x1 x2 x3 st (h.1 hc)
  · exact kX3_look_123 K hr L80 hL80 x1 x2 x3 st (h.2 hc)
theorem kX3_look_105 {p : Program} {l : Launch} {e : Env} {s : State} {m : MethodId} {args : Array Value} {below : List Frame} {meth : Method} {c : Code} {A : Nat → Prop} {D : va_G} {ct : Nat → ClassId} {ad : Nat → Nat} {post : MS → Prop} (K : CX p s m args meth c cX3_look 4 RX3 A D ct gT) (hr : meth.sig.returnType = none) (L80 : Int32 → Int32 → Int32 → MS → Prop) (hL80 : ∀ (x1 : Int32) (x2 : Int32) (x3 : Int32) (st : MS), L80 x1 x2 x3 st → jJ p l e { frames := 2, cells := 0, slots := 0, locals := 46 } s m args below meth c (MQ below (va_Qv post (fun u => cB D ct A (MW ct ad u)) A) args s 0 0 A) A D 4 (MW ct ad st) 0 0 80 [(0, .ref (ad 0)), (1, .int x1), (2, .int x2), (3, .int x3)] []) (x1 : Int32) (x2 : Int32) (x3 : Int32) (st : MS) (h : wX3_look_105 post L80 x1 x2 x3 st) : jJ p l e { frames := 2, cells := 0, slots := 0, locals := 46 } s m args below meth c (MQ below (va_Qv post (fun u => cB D ct A (MW ct ad u)) A) args s 0 0 A) A D 4 (MW ct ad st) 0 0 105 [(0, .ref (ad 0)), (1, .int x1), (2, .int x2), (3, .int x3)] [] := by
  unfold wX3_look_105 at h
  refine j_aload_n K 0 dX3_look_105 rfl rfl ?_
  refine mg_cells K dX3_look_106 ?_
  refine j_iload_n K 3 dX3_look_109 rfl rfl ?_
  obtain ⟨hc, h⟩ := h
  refine ml_cells K hc dX3_look_110 ?_
  refine j_if_ne K 151 dX3_look_111 (by decide) (fun hc => ?_) (fun hc => ?_)
  · exact kX3_look_151 K hr L80 hL80 x1 x2 x3 st (h.1 hc)
  · exact kX3_look_114 K hr L80 hL80 x1 x2 x3 st (h.2 hc)
theorem kX3_look_90 {p : Program} {l : Launch} {e : Env} {s : State} {m : MethodId} {args : Array Value} {below : List Frame} {meth : Method} {c : Code} {A : Nat → Prop} {D : va_G} {ct : Nat → ClassId} {ad : Nat → Nat} {post : MS → Prop} (K : CX p s m args meth c cX3_look 4 RX3 A D ct gT) (hr : meth.sig.returnType = none) (L39 : Int32 → Int32 → MS → Prop) (L80 : Int32 → Int32 → Int32 → MS → Prop) (hL39 : ∀ (x1 : Int32) (x2 : Int32) (st : MS), L39 x1 x2 st → jJ p l e { frames := 2, cells := 0, slots := 0, locals := 46 } s m args below meth c (MQ below (va_Qv post (fun u => cB D ct A (MW ct ad u)) A) args s 0 0 A) A D 4 (MW ct ad st) 0 0 39 [(0, .ref (ad 0)), (1, .int x1), (2, .int x2)] []) (hL80 : ∀ (x1 : Int32) (x2 : Int32) (x3 : Int32) (st : MS), L80 x1 x2 x3 st → jJ p l e { frames := 2, cells := 0, slots := 0, locals := 46 } s m args below meth c (MQ below (va_Qv post (fun u => cB D ct A (MW ct ad u)) A) args s 0 0 A) A D 4 (MW ct ad st) 0 0 80 [(0, .ref (ad 0)), (1, .int x1), (2, .int x2), (3, .int x3)] []) (x1 : Int32) (x2 : Int32) (x3 : Int32) (st : MS) (h : wX3_look_90 post L39 L80 x1 x2 x3 st) : jJ p l e { frames := 2, cells := 0, slots := 0, locals := 46 } s m args below meth c (MQ below (va_Qv post (fun u => cB D ct A (MW ct ad u)) A) args s 0 0 A) A D 4 (MW ct ad st) 0 0 90 [(0, .ref (ad 0)), (1, .int x1), (2, .int x2), (3, .int x3)] [] := by
  unfold wX3_look_90 at h
  refine j_aload_n K 0 dX3_look_90 rfl rfl ?_
  refine mg_cells K dX3_look_91 ?_
  refine j_iload_n K 2 dX3_look_94 rfl rfl ?_
  obtain ⟨hc, h⟩ := h
  refine ml_cells K hc dX3_look_95 ?_
  refine j_aload_n K 0 dX3_look_96 rfl rfl ?_
  refine mg_mover K dX3_look_97 ?_
  refine j_iconst K (1 : Int32) dX3_look_100 (by decide) ?_
  refine j_iadd K dX3_look_101 ?_
  refine j_icmp_ne K 157 dX3_look_102 (by decide) (fun hc => ?_) (fun hc => ?_)
  · refine j_lv K [0, 1, 2] (lv' := [(0, .ref (ad 0)), (1, .int x1), (2, .int x2)]) rfl ?_
    exact kX3_look_157 K hr L39 hL39 x1 x2 st (h.1 hc)
  · exact kX3_look_105 K hr L80 hL80 x1 x2 x3 st (h.2 hc)
theorem kX3_look_86 {p : Program} {l : Launch} {e : Env} {s : State} {m : MethodId} {args : Array Value} {below : List Frame} {meth : Method} {c : Code} {A : Nat → Prop} {D : va_G} {ct : Nat → ClassId} {ad : Nat → Nat} {post : MS → Prop} (K : CX p s m args meth c cX3_look 4 RX3 A D ct gT) (hr : meth.sig.returnType = none) (L39 : Int32 → Int32 → MS → Prop) (L80 : Int32 → Int32 → Int32 → MS → Prop) (hL39 : ∀ (x1 : Int32) (x2 : Int32) (st : MS), L39 x1 x2 st → jJ p l e { frames := 2, cells := 0, slots := 0, locals := 46 } s m args below meth c (MQ below (va_Qv post (fun u => cB D ct A (MW ct ad u)) A) args s 0 0 A) A D 4 (MW ct ad st) 0 0 39 [(0, .ref (ad 0)), (1, .int x1), (2, .int x2)] []) (hL80 : ∀ (x1 : Int32) (x2 : Int32) (x3 : Int32) (st : MS), L80 x1 x2 x3 st → jJ p l e { frames := 2, cells := 0, slots := 0, locals := 46 } s m args below meth c (MQ below (va_Qv post (fun u => cB D ct A (MW ct ad u)) A) args s 0 0 A) A D 4 (MW ct ad st) 0 0 80 [(0, .ref (ad 0)), (1, .int x1), (2, .int x2), (3, .int x3)] []) (x1 : Int32) (x2 : Int32) (x3 : Int32) (st : MS) (h : wX3_look_86 post L39 L80 x1 x2 x3 st) : jJ p l e { frames := 2, cells := 0, slots := 0, locals := 46 } s m args below meth c (MQ below (va_Qv post (fun u => cB D ct A (MW ct ad u)) A) args s 0 0 A) A D 4 (MW ct ad st) 0 0 86 [(0, .ref (ad 0)), (1, .int x1), (2, .int x2), (3, .int x3)] [] := by
  unfold wX3_look_86 at h
  refine j_iload_n K 1 dX3_look_86 rfl rfl ?_
  refine j_if_ne K 157 dX3_look_87 (by decide) (fun hc => ?_) (fun hc => ?_)
  · refine j_lv K [0, 1, 2] (lv' := [(0, .ref (ad 0)), (1, .int x1), (2, .int x2)]) rfl ?_
    exact kX3_look_157 K hr L39 hL39 x1 x2 st (h.1 hc)
  · exact kX3_look_90 K hr L39 L80 hL39 hL80 x1 x2 x3 st (h.2 hc)
theorem kX3_look_80_b {p : Program} {l : Launch} {e : Env} {s : State} {m : MethodId} {args : Array Value} {below : List Frame} {meth : Method} {c : Code} {A : Nat → Prop} {D : va_G} {ct : Nat → ClassId} {ad : Nat → Nat} {post : MS → Prop} (K : CX p s m args meth c cX3_look 4 RX3 A D ct gT) (hr : meth.sig.returnType = none) (L39 : Int32 → Int32 → MS → Prop) (L80 : Int32 → Int32 → Int32 → MS → Prop) (hL39 : ∀ (x1 : Int32) (x2 : Int32) (st : MS), L39 x1 x2 st → jJ p l e { frames := 2, cells := 0, slots := 0, locals := 46 } s m args below meth c (MQ below (va_Qv post (fun u => cB D ct A (MW ct ad u)) A) args s 0 0 A) A D 4 (MW ct ad st) 0 0 39 [(0, .ref (ad 0)), (1, .int x1), (2, .int x2)] []) (hL80 : ∀ (x1 : Int32) (x2 : Int32) (x3 : Int32) (st : MS), L80 x1 x2 x3 st → jJ p l e { frames := 2, cells := 0, slots := 0, locals := 46 } s m args below meth c (MQ below (va_Qv post (fun u => cB D ct A (MW ct ad u)) A) args s 0 0 A) A D 4 (MW ct ad st) 0 0 80 [(0, .ref (ad 0)), (1, .int x1), (2, .int x2), (3, .int x3)] []) (x1 : Int32) (x2 : Int32) (x3 : Int32) (st : MS) (h : wX3_look_80_b post L39 L80 x1 x2 x3 st) : jJ p l e { frames := 2, cells := 0, slots := 0, locals := 46 } s m args below meth c (MQ below (va_Qv post (fun u => cB D ct A (MW ct ad u)) A) args s 0 0 A) A D 4 (MW ct ad st) 0 0 80 [(0, .ref (ad 0)), (1, .int x1), (2, .int x2), (3, .int x3)] [] := by
  unfold wX3_look_80_b at h
  refine j_iload_n K 3 dX3_look_80 rfl rfl ?_
  refine j_bipush K (9 : Int32) dX3_look_81 (by decide) ?_
  refine j_icmp_ge K 157 dX3_look_83 (by decide) (fun hc => ?_) (fun hc => ?_)
  · refine j_lv K [0, 1, 2] (lv' := [(0, .ref (ad 0)), (1, .int x1), (2, .int x2)]) rfl ?_
    exact kX3_look_157 K hr L39 hL39 x1 x2 st (h.1 hc)
  · exact kX3_look_86 K hr L39 L80 hL39 hL80 x1 x2 x3 st (h.2 hc)
theorem kX3_look_80 {p : Program} {l : Launch} {e : Env} {s : State} {m : MethodId} {args : Array Value} {below : List Frame} {meth : Method} {c : Code} {A : Nat → Prop} {D : va_G} {ct : Nat → ClassId} {ad : Nat → Nat} {post : MS → Prop} (K : CX p s m args meth c cX3_look 4 RX3 A D ct gT) (hr : meth.sig.returnType = none) (L39 : Int32 → Int32 → MS → Prop) (hL39 : ∀ (x1 : Int32) (x2 : Int32) (st : MS), L39 x1 x2 st → jJ p l e { frames := 2, cells := 0, slots := 0, locals := 46 } s m args below meth c (MQ below (va_Qv post (fun u => cB D ct A (MW ct ad u)) A) args s 0 0 A) A D 4 (MW ct ad st) 0 0 39 [(0, .ref (ad 0)), (1, .int x1), (2, .int x2)] []) (x1 : Int32) (x2 : Int32) (x3 : Int32) (st : MS) (h : wX3_look_80 post L39 x1 x2 x3 st) : jJ p l e { frames := 2, cells := 0, slots := 0, locals := 46 } s m args below meth c (MQ below (va_Qv post (fun u => cB D ct A (MW ct ad u)) A) args s 0 0 A) A D 4 (MW ct ad st) 0 0 80 [(0, .ref (ad 0)), (1, .int x1), (2, .int x2), (3, .int x3)] [] :=
  wloop_sound (V := Int32 × Int32 × Int32 × MS) (Wk := fun v => jJ p l e { frames := 2, cells := 0, slots := 0, locals := 46 } s m args below meth c (MQ below (va_Qv post (fun u => cB D ct A (MW ct ad u)) A) args s 0 0 A) A D 4 (MW ct ad v.2.2.2) 0 0 80 [(0, .ref (ad 0)), (1, .int v.1), (2, .int v.2.1), (3, .int v.2.2.1)] []) (fun L hL v hb => kX3_look_80_b K hr L39 (fun x1 x2 x3 st => L (x1, x2, x3, st)) hL39 (fun x1 x2 x3 st hx => hL (x1, x2, x3, st) hx) v.1 v.2.1 v.2.2.1 v.2.2.2 hb) h
theorem kX3_look_78 {p : Program} {l : Launch} {e : Env} {s : State} {m : MethodId} {args : Array Value} {below : List Frame} {meth : Method} {c : Code} {A : Nat → Prop} {D : va_G} {ct : Nat → ClassId} {ad : Nat → Nat} {post : MS → Prop} (K : CX p s m args meth c cX3_look 4 RX3 A D ct gT) (hr : meth.sig.returnType = none) (L39 : Int32 → Int32 → MS → Prop) (hL39 : ∀ (x1 : Int32) (x2 : Int32) (st : MS), L39 x1 x2 st → jJ p l e { frames := 2, cells := 0, slots := 0, locals := 46 } s m args below meth c (MQ below (va_Qv post (fun u => cB D ct A (MW ct ad u)) A) args s 0 0 A) A D 4 (MW ct ad st) 0 0 39 [(0, .ref (ad 0)), (1, .int x1), (2, .int x2)] []) (x1 : Int32) (x2 : Int32) (st : MS) (h : wX3_look_78 post L39 x1 x2 st) : jJ p l e { frames := 2, cells := 0, slots := 0, locals := 46 } s m args below meth c (MQ below (va_Qv post (fun u => cB D ct A (MW ct ad u)) A) args s 0 0 A) A D 4 (MW ct ad st) 0 0 78 [(0, .ref (ad 0)), (1, .int x1), (2, .int x2)] [] := by
  unfold wX3_look_78 at h
  refine j_iconst K (0 : Int32) dX3_look_78 (by decide) ?_
  refine j_istore_n K [(3, .int (0 : Int32)), (0, .ref (ad 0)), (1, .int x1), (2, .int x2)] dX3_look_79 rfl (by decide) rfl ?_
  refine j_lv K [1, 2, 3, 0] (lv' := [(0, .ref (ad 0)), (1, .int x1), (2, .int x2), (3, .int (0 : Int32))]) rfl ?_
  exact kX3_look_80 K hr L39 hL39 x1 x2 (0 : Int32) st h
theorem kX3_look_58 {p : Program} {l : Launch} {e : Env} {s : State} {m : MethodId} {args : Array Value} {below : List Frame} {meth : Method} {c : Code} {A : Nat → Prop} {D : va_G} {ct : Nat → ClassId} {ad : Nat → Nat} {post : MS → Prop} (K : CX p s m args meth c cX3_look 4 RX3 A D ct gT) (hr : meth.sig.returnType = none) (L39 : Int32 → Int32 → MS → Prop) (hL39 : ∀ (x1 : Int32) (x2 : Int32) (st : MS), L39 x1 x2 st → jJ p l e { frames := 2, cells := 0, slots := 0, locals := 46 } s m args below meth c (MQ below (va_Qv post (fun u => cB D ct A (MW ct ad u)) A) args s 0 0 A) A D 4 (MW ct ad st) 0 0 39 [(0, .ref (ad 0)), (1, .int x1), (2, .int x2)] []) (x1 : Int32) (x2 : Int32) (st : MS) (h : wX3_look_58 post L39 x1 x2 st) : jJ p l e { frames := 2, cells := 0, slots := 0, locals := 46 } s m args below meth c (MQ below (va_Qv post (fun u => cB D ct A (MW ct ad u)) A) args s 0 0 A) A D 4 (MW ct ad st) 0 0 58 [(0, .ref (ad 0)), (1, .int x1), (2, .int x2)] [] := by
  unfold wX3_look_58 at h
  refine j_aload_n K 0 dX3_look_58 rfl rfl ?_
  refine mg_list K dX3_look_59 ?_
  refine j_aload_n K 0 dX3_look_62 rfl rfl ?_
  refine mg_many K dX3_look_63 ?_
  refine j_iload_n K 2 dX3_look_66 rfl rfl ?_
  obtain ⟨hc, h⟩ := h
  refine mt_list K hc dX3_look_67 ?_
  refine j_aload_n K 0 dX3_look_68 rfl rfl ?_
  refine j_dup K dX3_look_69 rfl ?_
  refine mg_many K dX3_look_70 ?_
  refine j_iconst K (1 : Int32) dX3_look_73 (by decide) ?_
  refine j_iadd K dX3_look_74 ?_
  refine mp_many K dX3_look_75 ?_
  exact kX3_look_78 K hr L39 hL39 x1 x2 (mF (mA st 8 ((st.2 4)).toNatClampNeg x2) 4 (((mA st 8 ((st.2 4)).toNatClampNeg x2).2 4) + (1 : Int32))) h
theorem kX3_look_49 {p : Program} {l : Launch} {e : Env} {s : State} {m : MethodId} {args : Array Value} {below : List Frame} {meth : Method} {c : Code} {A : Nat → Prop} {D : va_G} {ct : Nat → ClassId} {ad : Nat → Nat} {post : MS → Prop} (K : CX p s m args meth c cX3_look 4 RX3 A D ct gT) (hr : meth.sig.returnType = none) (L39 : Int32 → Int32 → MS → Prop) (hL39 : ∀ (x1 : Int32) (x2 : Int32) (st : MS), L39 x1 x2 st → jJ p l e { frames := 2, cells := 0, slots := 0, locals := 46 } s m args below meth c (MQ below (va_Qv post (fun u => cB D ct A (MW ct ad u)) A) args s 0 0 A) A D 4 (MW ct ad st) 0 0 39 [(0, .ref (ad 0)), (1, .int x1), (2, .int x2)] []) (x1 : Int32) (x2 : Int32) (st : MS) (h : wX3_look_49 post L39 x1 x2 st) : jJ p l e { frames := 2, cells := 0, slots := 0, locals := 46 } s m args below meth c (MQ below (va_Qv post (fun u => cB D ct A (MW ct ad u)) A) args s 0 0 A) A D 4 (MW ct ad st) 0 0 49 [(0, .ref (ad 0)), (1, .int x1), (2, .int x2)] [] := by
  unfold wX3_look_49 at h
  refine j_aload_n K 0 dX3_look_49 rfl rfl ?_
  refine mg_cells K dX3_look_50 ?_
  refine j_iload_n K 2 dX3_look_53 rfl rfl ?_
  obtain ⟨hc, h⟩ := h
  refine ml_cells K hc dX3_look_54 ?_
  refine j_if_ne K 78 dX3_look_55 (by decide) (fun hc => ?_) (fun hc => ?_)
  · exact kX3_look_78 K hr L39 hL39 x1 x2 st (h.1 hc)
  · exact kX3_look_58 K hr L39 hL39 x1 x2 st (h.2 hc)
theorem kX3_look_45 {p : Program} {l : Launch} {e : Env} {s : State} {m : MethodId} {args : Array Value} {below : List Frame} {meth : Method} {c : Code} {A : Nat → Prop} {D : va_G} {ct : Nat → ClassId} {ad : Nat → Nat} {post : MS → Prop} (K : CX p s m args meth c cX3_look 4 RX3 A D ct gT) (hr : meth.sig.returnType = none) (L39 : Int32 → Int32 → MS → Prop) (hL39 : ∀ (x1 : Int32) (x2 : Int32) (st : MS), L39 x1 x2 st → jJ p l e { frames := 2, cells := 0, slots := 0, locals := 46 } s m args below meth c (MQ below (va_Qv post (fun u => cB D ct A (MW ct ad u)) A) args s 0 0 A) A D 4 (MW ct ad st) 0 0 39 [(0, .ref (ad 0)), (1, .int x1), (2, .int x2)] []) (x1 : Int32) (x2 : Int32) (st : MS) (h : wX3_look_45 post L39 x1 x2 st) : jJ p l e { frames := 2, cells := 0, slots := 0, locals := 46 } s m args below meth c (MQ below (va_Qv post (fun u => cB D ct A (MW ct ad u)) A) args s 0 0 A) A D 4 (MW ct ad st) 0 0 45 [(0, .ref (ad 0)), (1, .int x1), (2, .int x2)] [] := by
  unfold wX3_look_45 at h
  refine j_iload_n K 1 dX3_look_45 rfl rfl ?_
  refine j_if_eq K 78 dX3_look_46 (by decide) (fun hc => ?_) (fun hc => ?_)
  · exact kX3_look_78 K hr L39 hL39 x1 x2 st (h.1 hc)
  · exact kX3_look_49 K hr L39 hL39 x1 x2 st (h.2 hc)
theorem kX3_look_39_b {p : Program} {l : Launch} {e : Env} {s : State} {m : MethodId} {args : Array Value} {below : List Frame} {meth : Method} {c : Code} {A : Nat → Prop} {D : va_G} {ct : Nat → ClassId} {ad : Nat → Nat} {post : MS → Prop} (K : CX p s m args meth c cX3_look 4 RX3 A D ct gT) (hr : meth.sig.returnType = none) (L39 : Int32 → Int32 → MS → Prop) (hL39 : ∀ (x1 : Int32) (x2 : Int32) (st : MS), L39 x1 x2 st → jJ p l e { frames := 2, cells := 0, slots := 0, locals := 46 } s m args below meth c (MQ below (va_Qv post (fun u => cB D ct A (MW ct ad u)) A) args s 0 0 A) A D 4 (MW ct ad st) 0 0 39 [(0, .ref (ad 0)), (1, .int x1), (2, .int x2)] []) (x1 : Int32) (x2 : Int32) (st : MS) (h : wX3_look_39_b post L39 x1 x2 st) : jJ p l e { frames := 2, cells := 0, slots := 0, locals := 46 } s m args below meth c (MQ below (va_Qv post (fun u => cB D ct A (MW ct ad u)) A) args s 0 0 A) A D 4 (MW ct ad st) 0 0 39 [(0, .ref (ad 0)), (1, .int x1), (2, .int x2)] [] := by
  unfold wX3_look_39_b at h
  refine j_iload_n K 2 dX3_look_39 rfl rfl ?_
  refine j_bipush K (9 : Int32) dX3_look_40 (by decide) ?_
  refine j_icmp_ge K 163 dX3_look_42 (by decide) (fun hc => ?_) (fun hc => ?_)
  · refine j_lv K [0] (lv' := [(0, .ref (ad 0))]) rfl ?_
    exact kX3_look_163 K hr  st (h.1 hc)
  · exact kX3_look_45 K hr L39 hL39 x1 x2 st (h.2 hc)
theorem kX3_look_39 {p : Program} {l : Launch} {e : Env} {s : State} {m : MethodId} {args : Array Value} {below : List Frame} {meth : Method} {c : Code} {A : Nat → Prop} {D : va_G} {ct : Nat → ClassId} {ad : Nat → Nat} {post : MS → Prop} (K : CX p s m args meth c cX3_look 4 RX3 A D ct gT) (hr : meth.sig.returnType = none)   (x1 : Int32) (x2 : Int32) (st : MS) (h : wX3_look_39 post  x1 x2 st) : jJ p l e { frames := 2, cells := 0, slots := 0, locals := 46 } s m args below meth c (MQ below (va_Qv post (fun u => cB D ct A (MW ct ad u)) A) args s 0 0 A) A D 4 (MW ct ad st) 0 0 39 [(0, .ref (ad 0)), (1, .int x1), (2, .int x2)] [] :=
  wloop_sound (V := Int32 × Int32 × MS) (Wk := fun v => jJ p l e { frames := 2, cells := 0, slots := 0, locals := 46 } s m args below meth c (MQ below (va_Qv post (fun u => cB D ct A (MW ct ad u)) A) args s 0 0 A) A D 4 (MW ct ad v.2.2) 0 0 39 [(0, .ref (ad 0)), (1, .int v.1), (2, .int v.2.1)] []) (fun L hL v hb => kX3_look_39_b K hr (fun x1 x2 st => L (x1, x2, st)) (fun x1 x2 st hx => hL (x1, x2, st) hx) v.1 v.2.1 v.2.2 hb) h
theorem kX3_look_36 {p : Program} {l : Launch} {e : Env} {s : State} {m : MethodId} {args : Array Value} {below : List Frame} {meth : Method} {c : Code} {A : Nat → Prop} {D : va_G} {ct : Nat → ClassId} {ad : Nat → Nat} {post : MS → Prop} (K : CX p s m args meth c cX3_look 4 RX3 A D ct gT) (hr : meth.sig.returnType = none)   (s0 : Int32) (st : MS) (h : wX3_look_36 post  s0 st) : jJ p l e { frames := 2, cells := 0, slots := 0, locals := 46 } s m args below meth c (MQ below (va_Qv post (fun u => cB D ct A (MW ct ad u)) A) args s 0 0 A) A D 4 (MW ct ad st) 0 0 36 [(0, .ref (ad 0))] [.int s0] := by
  unfold wX3_look_36 at h
  refine j_istore_n K [(1, .int s0), (0, .ref (ad 0))] dX3_look_36 rfl (by decide) rfl ?_
  refine j_iconst K (0 : Int32) dX3_look_37 (by decide) ?_
  refine j_istore_n K [(2, .int (0 : Int32)), (1, .int s0), (0, .ref (ad 0))] dX3_look_38 rfl (by decide) rfl ?_
  refine j_lv K [2, 1, 0] (lv' := [(0, .ref (ad 0)), (1, .int s0), (2, .int (0 : Int32))]) rfl ?_
  exact kX3_look_39 K hr  s0 (0 : Int32) st h
theorem kX3_look_35 {p : Program} {l : Launch} {e : Env} {s : State} {m : MethodId} {args : Array Value} {below : List Frame} {meth : Method} {c : Code} {A : Nat → Prop} {D : va_G} {ct : Nat → ClassId} {ad : Nat → Nat} {post : MS → Prop} (K : CX p s m args meth c cX3_look 4 RX3 A D ct gT) (hr : meth.sig.returnType = none)    (st : MS) (h : wX3_look_35 post  st) : jJ p l e { frames := 2, cells := 0, slots := 0, locals := 46 } s m args below meth c (MQ below (va_Qv post (fun u => cB D ct A (MW ct ad u)) A) args s 0 0 A) A D 4 (MW ct ad st) 0 0 35 [(0, .ref (ad 0))] [] := by
  unfold wX3_look_35 at h
  refine j_iconst K (0 : Int32) dX3_look_35 (by decide) ?_
  exact kX3_look_36 K hr  (0 : Int32) st h
theorem kX3_look_31 {p : Program} {l : Launch} {e : Env} {s : State} {m : MethodId} {args : Array Value} {below : List Frame} {meth : Method} {c : Code} {A : Nat → Prop} {D : va_G} {ct : Nat → ClassId} {ad : Nat → Nat} {post : MS → Prop} (K : CX p s m args meth c cX3_look 4 RX3 A D ct gT) (hr : meth.sig.returnType = none)    (st : MS) (h : wX3_look_31 post  st) : jJ p l e { frames := 2, cells := 0, slots := 0, locals := 46 } s m args below meth c (MQ below (va_Qv post (fun u => cB D ct A (MW ct ad u)) A) args s 0 0 A) A D 4 (MW ct ad st) 0 0 31 [(0, .ref (ad 0))] [] := by
  unfold wX3_look_31 at h
  refine j_iconst K (1 : Int32) dX3_look_31 (by decide) ?_
  refine j_goto K 36 dX3_look_32 (by decide) ?_
  exact kX3_look_36 K hr  (1 : Int32) st h
theorem kX3_look_19 {p : Program} {l : Launch} {e : Env} {s : State} {m : MethodId} {args : Array Value} {below : List Frame} {meth : Method} {c : Code} {A : Nat → Prop} {D : va_G} {ct : Nat → ClassId} {ad : Nat → Nat} {post : MS → Prop} (K : CX p s m args meth c cX3_look 4 RX3 A D ct gT) (hr : meth.sig.returnType = none)    (st : MS) (h : wX3_look_19 post  st) : jJ p l e { frames := 2, cells := 0, slots := 0, locals := 46 } s m args below meth c (MQ below (va_Qv post (fun u => cB D ct A (MW ct ad u)) A) args s 0 0 A) A D 4 (MW ct ad st) 0 0 19 [(0, .ref (ad 0))] [] := by
  unfold wX3_look_19 at h
  refine j_aload_n K 0 dX3_look_19 rfl rfl ?_
  refine j_aload_n K 0 dX3_look_20 rfl rfl ?_
  refine mg_mover K dX3_look_21 ?_
  obtain ⟨hp, h⟩ := h
  refine j_callVi K (As := [.int (st.2 3)]) (rest := []) (ctX3_men (l := l) (D := D) (ct := ct) (ad := ad) (st.2 3) st hp) gwX3_men gdX3_men ⟨Nat.le_of_ble_eq_true rfl, Nat.le_of_ble_eq_true rfl⟩ 0 rfl rfl rfl rfl rfl (Nat.le_of_ble_eq_true rfl) dX3_look_24 ⟨Nat.le_of_ble_eq_true rfl, Nat.le_of_ble_eq_true rfl⟩ (fun r_1 st_2 hq => ?_)
  obtain ⟨hq, rfl⟩ := hq
  replace h := h r_1 hq
  refine j_iconst K (3 : Int32) dX3_look_27 (by decide) ?_
  refine j_icmp_ge K 35 dX3_look_28 (by decide) (fun hc => ?_) (fun hc => ?_)
  · exact kX3_look_35 K hr  st (h.1 hc)
  · exact kX3_look_31 K hr  st (h.2 hc)
theorem kX3_look_18 {p : Program} {l : Launch} {e : Env} {s : State} {m : MethodId} {args : Array Value} {below : List Frame} {meth : Method} {c : Code} {A : Nat → Prop} {D : va_G} {ct : Nat → ClassId} {ad : Nat → Nat} {post : MS → Prop} (K : CX p s m args meth c cX3_look 4 RX3 A D ct gT) (hr : meth.sig.returnType = none)    (st : MS) (h : wX3_look_18 post  st) : jJ p l e { frames := 2, cells := 0, slots := 0, locals := 46 } s m args below meth c (MQ below (va_Qv post (fun u => cB D ct A (MW ct ad u)) A) args s 0 0 A) A D 4 (MW ct ad st) 0 0 18 [] [] := by
  unfold wX3_look_18 at h
  exact j_vret st K hr rfl h (Nat.le_of_ble_eq_true rfl) (Nat.le_of_ble_eq_true rfl) dX3_look_18
theorem kX3_look_0 {p : Program} {l : Launch} {e : Env} {s : State} {m : MethodId} {args : Array Value} {below : List Frame} {meth : Method} {c : Code} {A : Nat → Prop} {D : va_G} {ct : Nat → ClassId} {ad : Nat → Nat} {post : MS → Prop} (K : CX p s m args meth c cX3_look 4 RX3 A D ct gT) (hr : meth.sig.returnType = none)    (st : MS) (h : wX3_look_0 post  st) : jJ p l e { frames := 2, cells := 0, slots := 0, locals := 46 } s m args below meth c (MQ below (va_Qv post (fun u => cB D ct A (MW ct ad u)) A) args s 0 0 A) A D 4 (MW ct ad st) 0 0 0 [(0, .ref (ad 0))] [] := by
  unfold wX3_look_0 at h
  refine j_aload_n K 0 dX3_look_0 rfl rfl ?_
  refine j_iconst K (0 : Int32) dX3_look_1 (by decide) ?_
  refine mp_many K dX3_look_2 ?_
  refine j_aload_n K 0 dX3_look_5 rfl rfl ?_
  refine j_iconst K (1 : Int32) dX3_look_6 (by decide) ?_
  refine j_aload_n K 0 dX3_look_7 rfl rfl ?_
  refine mg_mover K dX3_look_8 ?_
  refine j_isub K dX3_look_11 ?_
  obtain ⟨hp, h⟩ := h
  refine j_callVi K (As := [.int ((1 : Int32) - ((mF st 4 (0 : Int32)).2 3))]) (rest := []) (ctX3_hasLine (l := l) (D := D) (ct := ct) (ad := ad) ((1 : Int32) - ((mF st 4 (0 : Int32)).2 3)) (mF st 4 (0 : Int32)) hp) gwX3_hasLine gdX3_hasLine ⟨Nat.le_of_ble_eq_true rfl, Nat.le_of_ble_eq_true rfl⟩ 0 rfl rfl rfl rfl rfl (Nat.le_of_ble_eq_true rfl) dX3_look_12 ⟨Nat.le_of_ble_eq_true rfl, Nat.le_of_ble_eq_true rfl⟩ (fun r_1 st_2 hq => ?_)
  obtain ⟨hq, rfl⟩ := hq
  replace h := h r_1 hq
  refine j_if_eq K 19 dX3_look_15 (by decide) (fun hc => ?_) (fun hc => ?_)
  · exact kX3_look_19 K hr  (mF st 4 (0 : Int32)) (h.1 hc)
  · refine j_lv K [] (lv' := []) rfl ?_
    exact kX3_look_18 K hr  (mF st 4 (0 : Int32)) (h.2 hc)
theorem ctX3_look {l : Launch} {D : va_G} {ct : Nat → ClassId} {ad : Nat → Nat}  (st : MS) (hp : pX3_look  st) : ∀ sz, Met l yX3_look (ws_ yX3_look cX3_look 4 none) { frames := 2, cells := 0, slots := 0, locals := 46 } (va_Pc [.ref (ad 0)] (cPre gT D ct (MW ct ad st) sz)) (va_Qv (qX3_look  st) (fun u => cB D ct (va_A (MW ct ad st) sz) (MW ct ad u)) (va_A (MW ct ad st) sz)) 0 0 (va_A (MW ct ad st) sz) := fun sz =>
  j_met (Qc := fun A => va_Qv (qX3_look  st) (fun u => cB D ct A (MW ct ad u)) A) (by decide) gT_ok (Nat.le_of_ble_eq_true rfl) (fun p e s m args below meth c A K hr _ _ => kX3_look_0 K hr  st (vcX3_look  st hp))
-- X3_code
theorem gwX3_code : GoodIn lw_all (wsV RX3 83 RX3 yX3_code (ws_ yX3_code cX3_code 3 (some .int))) := lw_V q1138 q1140 qs55 q84 q1141
theorem gdX3_code : yX3_code.cls = RX3 ∧ yX3_code.cls ≠ "java/lang/invoke/MethodHandle" ∧ yX3_code.cls ≠ "java/lang/invoke/VarHandle" ∧ (parseMethodDescriptor yX3_code.desc).map (fun d => d.parameters.length) = some 0 := by decide +kernel
theorem kX3_code_26 {p : Program} {l : Launch} {e : Env} {s : State} {m : MethodId} {args : Array Value} {below : List Frame} {meth : Method} {c : Code} {A : Nat → Prop} {D : va_G} {ct : Nat → ClassId} {ad : Nat → Nat} {post : Int32 → MS → Prop} (K : CX p s m args meth c cX3_code 3 RX3 A D ct gT) (hr : meth.sig.returnType = (some .int))   (x1 : Int32) (st : MS) (h : wX3_code_26 post  x1 st) : jJ p l e { frames := 0, cells := 0, slots := 0, locals := 0 } s m args below meth c (MQ below (va_Qi post (fun u => cB D ct A (MW ct ad u)) A) args s 0 0 A) A D 3 (MW ct ad st) 0 0 26 [(0, .ref (ad 0)), (1, .int x1)] [] := by
  unfold wX3_code_26 at h
  refine j_iload_n K 1 dX3_code_26 rfl rfl ?_
  refine j_sipush K (19683 : Int32) dX3_code_27 (by decide) ?_
  refine j_aload_n K 0 dX3_code_30 rfl rfl ?_
  refine mg_mover K dX3_code_31 ?_
  refine j_imul K dX3_code_34 ?_
  refine j_iadd K dX3_code_35 ?_
  exact j_iret st K hr rfl h (Nat.le_of_ble_eq_true rfl) (Nat.le_of_ble_eq_true rfl) dX3_code_36
theorem kX3_code_9 {p : Program} {l : Launch} {e : Env} {s : State} {m : MethodId} {args : Array Value} {below : List Frame} {meth : Method} {c : Code} {A : Nat → Prop} {D : va_G} {ct : Nat → ClassId} {ad : Nat → Nat} {post : Int32 → MS → Prop} (K : CX p s m args meth c cX3_code 3 RX3 A D ct gT) (hr : meth.sig.returnType = (some .int)) (L5 : Int32 → Int32 → MS → Prop) (hL5 : ∀ (x1 : Int32) (x2 : Int32) (st : MS), L5 x1 x2 st → jJ p l e { frames := 0, cells := 0, slots := 0, locals := 0 } s m args below meth c (MQ below (va_Qi post (fun u => cB D ct A (MW ct ad u)) A) args s 0 0 A) A D 3 (MW ct ad st) 0 0 5 [(0, .ref (ad 0)), (1, .int x1), (2, .int x2)] []) (x1 : Int32) (x2 : Int32) (st : MS) (h : wX3_code_9 post L5 x1 x2 st) : jJ p l e { frames := 0, cells := 0, slots := 0, locals := 0 } s m args below meth c (MQ below (va_Qi post (fun u => cB D ct A (MW ct ad u)) A) args s 0 0 A) A D 3 (MW ct ad st) 0 0 9 [(0, .ref (ad 0)), (1, .int x1), (2, .int x2)] [] := by
  unfold wX3_code_9 at h
  refine j_iconst K (3 : Int32) dX3_code_9 (by decide) ?_
  refine j_iload_n K 1 dX3_code_10 rfl rfl ?_
  refine j_imul K dX3_code_11 ?_
  refine j_aload_n K 0 dX3_code_12 rfl rfl ?_
  refine mg_cells K dX3_code_13 ?_
  refine j_iload_n K 2 dX3_code_16 rfl rfl ?_
  obtain ⟨hc, h⟩ := h
  refine ml_cells K hc dX3_code_17 ?_
  refine j_iadd K dX3_code_18 ?_
  refine j_istore_n K [(1, .int (((3 : Int32) * x1) + (st.1 7 (x2).toNatClampNeg))), (0, .ref (ad 0)), (2, .int x2)] dX3_code_19 rfl (by decide) rfl ?_
  refine j_iinc K 2 (x2 + (-1 : Int32)) [(2, .int (x2 + (-1 : Int32))), (1, .int (((3 : Int32) * x1) + (st.1 7 (x2).toNatClampNeg))), (0, .ref (ad 0))] dX3_code_20 rfl rfl (by decide) rfl ?_
  refine j_goto K 5 dX3_code_23 (by decide) ?_
  refine j_lv K [2, 1, 0] (lv' := [(0, .ref (ad 0)), (1, .int (((3 : Int32) * x1) + (st.1 7 (x2).toNatClampNeg))), (2, .int (x2 + (-1 : Int32)))]) rfl ?_
  exact hL5 (((3 : Int32) * x1) + (st.1 7 (x2).toNatClampNeg)) (x2 + (-1 : Int32)) st h
theorem kX3_code_5_b {p : Program} {l : Launch} {e : Env} {s : State} {m : MethodId} {args : Array Value} {below : List Frame} {meth : Method} {c : Code} {A : Nat → Prop} {D : va_G} {ct : Nat → ClassId} {ad : Nat → Nat} {post : Int32 → MS → Prop} (K : CX p s m args meth c cX3_code 3 RX3 A D ct gT) (hr : meth.sig.returnType = (some .int)) (L5 : Int32 → Int32 → MS → Prop) (hL5 : ∀ (x1 : Int32) (x2 : Int32) (st : MS), L5 x1 x2 st → jJ p l e { frames := 0, cells := 0, slots := 0, locals := 0 } s m args below meth c (MQ below (va_Qi post (fun u => cB D ct A (MW ct ad u)) A) args s 0 0 A) A D 3 (MW ct ad st) 0 0 5 [(0, .ref (ad 0)), (1, .int x1), (2, .int x2)] []) (x1 : Int32) (x2 : Int32) (st : MS) (h : wX3_code_5_b post L5 x1 x2 st) : jJ p l e { frames := 0, cells := 0, slots := 0, locals := 0 } s m args below meth c (MQ below (va_Qi post (fun u => cB D ct A (MW ct ad u)) A) args s 0 0 A) A D 3 (MW ct ad st) 0 0 5 [(0, .ref (ad 0)), (1, .int x1), (2, .int x2)] [] := by
  unfold wX3_code_5_b at h
  refine j_iload_n K 2 dX3_code_5 rfl rfl ?_
  refine j_if_lt K 26 dX3_code_6 (by decide) (fun hc => ?_) (fun hc => ?_)
  · refine j_lv K [0, 1] (lv' := [(0, .ref (ad 0)), (1, .int x1)]) rfl ?_
    exact kX3_code_26 K hr  x1 st (h.1 hc)
  · exact kX3_code_9 K hr L5 hL5 x1 x2 st (h.2 hc)
theorem kX3_code_5 {p : Program} {l : Launch} {e : Env} {s : State} {m : MethodId} {args : Array Value} {below : List Frame} {meth : Method} {c : Code} {A : Nat → Prop} {D : va_G} {ct : Nat → ClassId} {ad : Nat → Nat} {post : Int32 → MS → Prop} (K : CX p s m args meth c cX3_code 3 RX3 A D ct gT) (hr : meth.sig.returnType = (some .int))   (x1 : Int32) (x2 : Int32) (st : MS) (h : wX3_code_5 post  x1 x2 st) : jJ p l e { frames := 0, cells := 0, slots := 0, locals := 0 } s m args below meth c (MQ below (va_Qi post (fun u => cB D ct A (MW ct ad u)) A) args s 0 0 A) A D 3 (MW ct ad st) 0 0 5 [(0, .ref (ad 0)), (1, .int x1), (2, .int x2)] [] :=
  wloop_sound (V := Int32 × Int32 × MS) (Wk := fun v => jJ p l e { frames := 0, cells := 0, slots := 0, locals := 0 } s m args below meth c (MQ below (va_Qi post (fun u => cB D ct A (MW ct ad u)) A) args s 0 0 A) A D 3 (MW ct ad v.2.2) 0 0 5 [(0, .ref (ad 0)), (1, .int v.1), (2, .int v.2.1)] []) (fun L hL v hb => kX3_code_5_b K hr (fun x1 x2 st => L (x1, x2, st)) (fun x1 x2 st hx => hL (x1, x2, st) hx) v.1 v.2.1 v.2.2 hb) h
theorem kX3_code_0 {p : Program} {l : Launch} {e : Env} {s : State} {m : MethodId} {args : Array Value} {below : List Frame} {meth : Method} {c : Code} {A : Nat → Prop} {D : va_G} {ct : Nat → ClassId} {ad : Nat → Nat} {post : Int32 → MS → Prop} (K : CX p s m args meth c cX3_code 3 RX3 A D ct gT) (hr : meth.sig.returnType = (some .int))    (st : MS) (h : wX3_code_0 post  st) : jJ p l e { frames := 0, cells := 0, slots := 0, locals := 0 } s m args below meth c (MQ below (va_Qi post (fun u => cB D ct A (MW ct ad u)) A) args s 0 0 A) A D 3 (MW ct ad st) 0 0 0 [(0, .ref (ad 0))] [] := by
  unfold wX3_code_0 at h
  refine j_iconst K (0 : Int32) dX3_code_0 (by decide) ?_
  refine j_istore_n K [(1, .int (0 : Int32)), (0, .ref (ad 0))] dX3_code_1 rfl (by decide) rfl ?_
  refine j_bipush K (8 : Int32) dX3_code_2 (by decide) ?_
  refine j_istore_n K [(2, .int (8 : Int32)), (1, .int (0 : Int32)), (0, .ref (ad 0))] dX3_code_4 rfl (by decide) rfl ?_
  refine j_lv K [2, 1, 0] (lv' := [(0, .ref (ad 0)), (1, .int (0 : Int32)), (2, .int (8 : Int32))]) rfl ?_
  exact kX3_code_5 K hr  (0 : Int32) (8 : Int32) st h
theorem ctX3_code {l : Launch} {D : va_G} {ct : Nat → ClassId} {ad : Nat → Nat}  (st : MS) (hp : pX3_code  st) : ∀ sz, Met l yX3_code (ws_ yX3_code cX3_code 3 (some .int)) { frames := 0, cells := 0, slots := 0, locals := 0 } (va_Pc [.ref (ad 0)] (cPre gT D ct (MW ct ad st) sz)) (va_Qi (fun (r : Int32) (u : MS) => qX3_code  st r ∧ st = u) (fun u => cB D ct (va_A (MW ct ad st) sz) (MW ct ad u)) (va_A (MW ct ad st) sz)) 0 0 (va_A (MW ct ad st) sz) := fun sz =>
  j_met (Qc := fun A => va_Qi (fun (r : Int32) (u : MS) => qX3_code  st r ∧ st = u) (fun u => cB D ct A (MW ct ad u)) A) (by decide) gT_ok (Nat.le_of_ble_eq_true rfl) (fun p e s m args below meth c A K hr _ _ => kX3_code_0 K hr  st (vcX3_code  st hp))
-- X3_next
theorem gwX3_next : GoodIn lw_all (wsV RX3 106 RX3 yX3_next (ws_ yX3_next cX3_next 4 (some .int))) := lw_V q1134 q1136 qs54 q84 q1137
theorem gdX3_next : yX3_next.cls = RX3 ∧ yX3_next.cls ≠ "java/lang/invoke/MethodHandle" ∧ yX3_next.cls ≠ "java/lang/invoke/VarHandle" ∧ (parseMethodDescriptor yX3_next.desc).map (fun d => d.parameters.length) = some 1 := by decide +kernel
theorem kX3_next_63 {p : Program} {l : Launch} {e : Env} {s : State} {m : MethodId} {args : Array Value} {below : List Frame} {meth : Method} {c : Code} {A : Nat → Prop} {D : va_G} {ct : Nat → ClassId} {ad : Nat → Nat} {post : Int32 → MS → Prop} (K : CX p s m args meth c cX3_next 4 RX3 A D ct gT) (hr : meth.sig.returnType = (some .int))   (x2 : Int32) (st : MS) (h : wX3_next_63 post  x2 st) : jJ p l e { frames := 1, cells := 0, slots := 0, locals := 23 } s m args below meth c (MQ below (va_Qi post (fun u => cB D ct A (MW ct ad u)) A) args s 0 0 A) A D 4 (MW ct ad st) 0 0 63 [(0, .ref (ad 0)), (2, .int x2)] [] := by
  unfold wX3_next_63 at h
  refine j_aload_n K 0 dX3_next_63 rfl rfl ?_
  refine j_iconst K (1 : Int32) dX3_next_64 (by decide) ?_
  refine j_aload_n K 0 dX3_next_65 rfl rfl ?_
  refine mg_mover K dX3_next_66 ?_
  refine j_isub K dX3_next_69 ?_
  refine mp_mover K dX3_next_70 ?_
  refine j_aload_n K 0 dX3_next_73 rfl rfl ?_
  obtain ⟨hp, h⟩ := h
  refine j_callVi K (As := []) (rest := []) (ctX3_code (l := l) (D := D) (ct := ct) (ad := ad)  (mF st 3 ((1 : Int32) - (st.2 3))) hp) gwX3_code gdX3_code ⟨Nat.le_of_ble_eq_true rfl, Nat.le_of_ble_eq_true rfl⟩ 0 rfl rfl rfl rfl rfl (Nat.le_of_ble_eq_true rfl) dX3_next_74 ⟨Nat.le_of_ble_eq_true rfl, Nat.le_of_ble_eq_true rfl⟩ (fun r_1 st_2 hq => ?_)
  obtain ⟨hq, rfl⟩ := hq
  replace h := h r_1 hq
  refine j_istore_n K [(3, .int r_1), (0, .ref (ad 0)), (2, .int x2)] dX3_next_77 rfl (by decide) rfl ?_
  refine j_aload_n K 1 dX3_next_78 rfl rfl ?_
  refine j_iload_n K 2 dX3_next_79 rfl rfl ?_
  obtain ⟨hp, h⟩ := h
  refine j_callVv K (As := [.int x2]) (rest := []) (ctX3_open (l := l) (D := D) (ct := ct) (ad := ad) x2 (mF st 3 ((1 : Int32) - (st.2 3))) hp) gwX3_open gdX3_open ⟨Nat.le_of_ble_eq_true rfl, Nat.le_of_ble_eq_true rfl⟩ 0 rfl rfl rfl rfl rfl (Nat.le_of_ble_eq_true rfl) dX3_next_80 ⟨Nat.le_of_ble_eq_true rfl, Nat.le_of_ble_eq_true rfl⟩ (fun st_3 hq => ?_)
  replace h := h st_3 hq
  refine j_iload_n K 0 dX3_next_83 rfl rfl ?_
  exact j_iret st_3 K hr rfl h (Nat.le_of_ble_eq_true rfl) (Nat.le_of_ble_eq_true rfl) dX3_next_84
theorem kX3_next_32 {p : Program} {l : Launch} {e : Env} {s : State} {m : MethodId} {args : Array Value} {below : List Frame} {meth : Method} {c : Code} {A : Nat → Prop} {D : va_G} {ct : Nat → ClassId} {ad : Nat → Nat} {post : Int32 → MS → Prop} (K : CX p s m args meth c cX3_next 4 RX3 A D ct gT) (hr : meth.sig.returnType = (some .int))   (x1 : Int32) (x2 : Int32) (st : MS) (h : wX3_next_32 post  x1 x2 st) : jJ p l e { frames := 1, cells := 0, slots := 0, locals := 23 } s m args below meth c (MQ below (va_Qi post (fun u => cB D ct A (MW ct ad u)) A) args s 0 0 A) A D 4 (MW ct ad st) 0 0 32 [(0, .ref (ad 0)), (1, .int x1), (2, .int x2)] [] := by
  unfold wX3_next_32 at h
  refine j_aload_n K 0 dX3_next_32 rfl rfl ?_
  refine mg_cells K dX3_next_33 ?_
  refine j_iload_n K 1 dX3_next_36 rfl rfl ?_
  refine j_bipush K (9 : Int32) dX3_next_37 (by decide) ?_
  refine j_isub K dX3_next_39 ?_
  refine j_bipush K (9 : Int32) dX3_next_40 (by decide) ?_
  refine j_idiv K (by decide) dX3_next_42 ?_
  refine j_iconst K (0 : Int32) dX3_next_43 (by decide) ?_
  obtain ⟨hc, h⟩ := h
  refine mt_cells K hc dX3_next_44 ?_
  refine j_aload_n K 0 dX3_next_45 rfl rfl ?_
  refine mg_cells K dX3_next_46 ?_
  refine j_iload_n K 1 dX3_next_49 rfl rfl ?_
  refine j_bipush K (9 : Int32) dX3_next_50 (by decide) ?_
  refine j_isub K dX3_next_52 ?_
  refine j_bipush K (9 : Int32) dX3_next_53 (by decide) ?_
  refine j_irem K (by decide) dX3_next_55 ?_
  refine j_aload_n K 0 dX3_next_56 rfl rfl ?_
  refine mg_mover K dX3_next_57 ?_
  refine j_iconst K (1 : Int32) dX3_next_60 (by decide) ?_
  refine j_iadd K dX3_next_61 ?_
  obtain ⟨hc, h⟩ := h
  refine mt_cells K hc dX3_next_62 ?_
  refine j_lv K [0, 2] (lv' := [(0, .ref (ad 0)), (2, .int x2)]) rfl ?_
  exact kX3_next_63 K hr  x2 (mA (mA st 7 (((x1 - (9 : Int32)) / (9 : Int32))).toNatClampNeg (0 : Int32)) 7 ((irm (x1 - (9 : Int32)) (9 : Int32))).toNatClampNeg (((mA st 7 (((x1 - (9 : Int32)) / (9 : Int32))).toNatClampNeg (0 : Int32)).2 3) + (1 : Int32))) h
theorem kX3_next_26 {p : Program} {l : Launch} {e : Env} {s : State} {m : MethodId} {args : Array Value} {below : List Frame} {meth : Method} {c : Code} {A : Nat → Prop} {D : va_G} {ct : Nat → ClassId} {ad : Nat → Nat} {post : Int32 → MS → Prop} (K : CX p s m args meth c cX3_next 4 RX3 A D ct gT) (hr : meth.sig.returnType = (some .int))   (x1 : Int32) (x2 : Int32) (st : MS) (h : wX3_next_26 post  x1 x2 st) : jJ p l e { frames := 1, cells := 0, slots := 0, locals := 23 } s m args below meth c (MQ below (va_Qi post (fun u => cB D ct A (MW ct ad u)) A) args s 0 0 A) A D 4 (MW ct ad st) 0 0 26 [(0, .ref (ad 0)), (1, .int x1), (2, .int x2)] [] := by
  unfold wX3_next_26 at h
  refine j_iload_n K 1 dX3_next_26 rfl rfl ?_
  refine j_bipush K (90 : Int32) dX3_next_27 (by decide) ?_
  refine j_icmp_ge K 63 dX3_next_29 (by decide) (fun hc => ?_) (fun hc => ?_)
  · refine j_lv K [0, 2] (lv' := [(0, .ref (ad 0)), (2, .int x2)]) rfl ?_
    exact kX3_next_63 K hr  x2 st (h.1 hc)
  · exact kX3_next_32 K hr  x1 x2 st (h.2 hc)
theorem kX3_next_11 {p : Program} {l : Launch} {e : Env} {s : State} {m : MethodId} {args : Array Value} {below : List Frame} {meth : Method} {c : Code} {A : Nat → Prop} {D : va_G} {ct : Nat → ClassId} {ad : Nat → Nat} {post : Int32 → MS → Prop} (K : CX p s m args meth c cX3_next 4 RX3 A D ct gT) (hr : meth.sig.returnType = (some .int))   (x1 : Int32) (x2 : Int32) (st : MS) (h : wX3_next_11 post  x1 x2 st) : jJ p l e { frames := 1, cells := 0, slots := 0, locals := 23 } s m args below meth c (MQ below (va_Qi post (fun u => cB D ct A (MW ct ad u)) A) args s 0 0 A) A D 4 (MW ct ad st) 0 0 11 [(0, .ref (ad 0)), (1, .int x1), (2, .int x2)] [] := by
  unfold wX3_next_11 at h
  refine j_aload_n K 0 dX3_next_11 rfl rfl ?_
  refine mg_cells K dX3_next_12 ?_
  refine j_iload_n K 1 dX3_next_15 rfl rfl ?_
  refine j_aload_n K 0 dX3_next_16 rfl rfl ?_
  refine mg_mover K dX3_next_17 ?_
  refine j_iconst K (1 : Int32) dX3_next_20 (by decide) ?_
  refine j_iadd K dX3_next_21 ?_
  obtain ⟨hc, h⟩ := h
  refine mt_cells K hc dX3_next_22 ?_
  refine j_goto K 63 dX3_next_23 (by decide) ?_
  refine j_lv K [0, 2] (lv' := [(0, .ref (ad 0)), (2, .int x2)]) rfl ?_
  exact kX3_next_63 K hr  x2 (mA st 7 (x1).toNatClampNeg ((st.2 3) + (1 : Int32))) h
theorem kX3_next_0 {p : Program} {l : Launch} {e : Env} {s : State} {m : MethodId} {args : Array Value} {below : List Frame} {meth : Method} {c : Code} {A : Nat → Prop} {D : va_G} {ct : Nat → ClassId} {ad : Nat → Nat} {post : Int32 → MS → Prop} (K : CX p s m args meth c cX3_next 4 RX3 A D ct gT) (hr : meth.sig.returnType = (some .int))   (x1 : Int32) (st : MS) (h : wX3_next_0 post  x1 st) : jJ p l e { frames := 1, cells := 0, slots := 0, locals := 23 } s m args below meth c (MQ below (va_Qi post (fun u => cB D ct A (MW ct ad u)) A) args s 0 0 A) A D 4 (MW ct ad st) 0 0 0 [(0, .ref (ad 0)), (1, .int x1)] [] := by
  unfold wX3_next_0 at h
  refine j_aload_n K 0 dX3_next_0 rfl rfl ?_
  obtain ⟨hp, h⟩ := h
  refine j_callVi K (As := []) (rest := []) (ctX3_code (l := l) (D := D) (ct := ct) (ad := ad)  st hp) gwX3_code gdX3_code ⟨Nat.le_of_ble_eq_true rfl, Nat.le_of_ble_eq_true rfl⟩ 0 rfl rfl rfl rfl rfl (Nat.le_of_ble_eq_true rfl) dX3_next_1 ⟨Nat.le_of_ble_eq_true rfl, Nat.le_of_ble_eq_true rfl⟩ (fun r_1 st_2 hq => ?_)
  obtain ⟨hq, rfl⟩ := hq
  replace h := h r_1 hq
  refine j_istore_n K [(2, .int r_1), (0, .ref (ad 0)), (1, .int x1)] dX3_next_4 rfl (by decide) rfl ?_
  refine j_iload_n K 2 dX3_next_5 rfl rfl ?_
  refine j_bipush K (9 : Int32) dX3_next_6 (by decide) ?_
  refine j_icmp_ge K 26 dX3_next_8 (by decide) (fun hc => ?_) (fun hc => ?_)
  · refine j_lv K [1, 2, 0] (lv' := [(0, .ref (ad 0)), (1, .int x1), (2, .int r_1)]) rfl ?_
    exact kX3_next_26 K hr  x1 r_1 st (h.1 hc)
  · refine j_lv K [1, 2, 0] (lv' := [(0, .ref (ad 0)), (1, .int x1), (2, .int r_1)]) rfl ?_
    exact kX3_next_11 K hr  x1 r_1 st (h.2 hc)
theorem ctX3_next {l : Launch} {D : va_G} {ct : Nat → ClassId} {ad : Nat → Nat} (x1 : Int32) (st : MS) (hp : pX3_next x1 st) : ∀ sz, Met l yX3_next (ws_ yX3_next cX3_next 4 (some .int)) { frames := 1, cells := 0, slots := 0, locals := 23 } (va_Pc [.ref (ad 0), .int x1] (cPre gT D ct (MW ct ad st) sz)) (va_Qi (qX3_next x1 st) (fun u => cB D ct (va_A (MW ct ad st) sz) (MW ct ad u)) (va_A (MW ct ad st) sz)) 0 0 (va_A (MW ct ad st) sz) := fun sz =>
  j_met (Qc := fun A => va_Qi (qX3_next x1 st) (fun u => cB D ct A (MW ct ad u)) A) (by decide) gT_ok (Nat.le_of_ble_eq_true rfl) (fun p e s m args below meth c A K hr _ _ => kX3_next_0 K hr x1 st (vcX3_next x1 st hp))
-- X3_isLegal
theorem gwX3_isLegal : GoodIn lw_all (wsV RX3 95 RX3 yX3_isLegal (ws_ yX3_isLegal cX3_isLegal 4 (some .boolean))) := lw_V q1179 q1181 qs62 q84 q1182
theorem gdX3_isLegal : yX3_isLegal.cls = RX3 ∧ yX3_isLegal.cls ≠ "java/lang/invoke/MethodHandle" ∧ yX3_isLegal.cls ≠ "java/lang/invoke/VarHandle" ∧ (parseMethodDescriptor yX3_isLegal.desc).map (fun d => d.parameters.length) = some 0 := by decide +kernel
theorem kX3_isLegal_85 {p : Program} {l : Launch} {e : Env} {s : State} {m : MethodId} {args : Array Value} {below : List Frame} {meth : Method} {c : Code} {A : Nat → Prop} {D : va_G} {ct : Nat → ClassId} {ad : Nat → Nat} {post : Int32 → MS → Prop} (K : CX p s m args meth c cX3_isLegal 4 RX3 A D ct gT) (hr : meth.sig.returnType = (some .boolean))   (s0 : Int32) (st : MS) (h : wX3_isLegal_85 post  s0 st) : jJ p l e { frames := 2, cells := 0, slots := 0, locals := 46 } s m args below meth c (MQ below (va_Qi post (fun u => cB D ct A (MW ct ad u)) A) args s 0 0 A) A D 4 (MW ct ad st) 0 0 85 [] [.int s0] := by
  unfold wX3_isLegal_85 at h
  exact j_zret st K hr rfl h.2 h.1 (Nat.le_of_ble_eq_true rfl) (Nat.le_of_ble_eq_true rfl) dX3_isLegal_85
theorem kX3_isLegal_84 {p : Program} {l : Launch} {e : Env} {s : State} {m : MethodId} {args : Array Value} {below : List Frame} {meth : Method} {c : Code} {A : Nat → Prop} {D : va_G} {ct : Nat → ClassId} {ad : Nat → Nat} {post : Int32 → MS → Prop} (K : CX p s m args meth c cX3_isLegal 4 RX3 A D ct gT) (hr : meth.sig.returnType = (some .boolean))    (st : MS) (h : wX3_isLegal_84 post  st) : jJ p l e { frames := 2, cells := 0, slots := 0, locals := 46 } s m args below meth c (MQ below (va_Qi post (fun u => cB D ct A (MW ct ad u)) A) args s 0 0 A) A D 4 (MW ct ad st) 0 0 84 [] [] := by
  unfold wX3_isLegal_84 at h
  refine j_iconst K (0 : Int32) dX3_isLegal_84 (by decide) ?_
  exact kX3_isLegal_85 K hr  (0 : Int32) st h
theorem kX3_isLegal_80 {p : Program} {l : Launch} {e : Env} {s : State} {m : MethodId} {args : Array Value} {below : List Frame} {meth : Method} {c : Code} {A : Nat → Prop} {D : va_G} {ct : Nat → ClassId} {ad : Nat → Nat} {post : Int32 → MS → Prop} (K : CX p s m args meth c cX3_isLegal 4 RX3 A D ct gT) (hr : meth.sig.returnType = (some .boolean))    (st : MS) (h : wX3_isLegal_80 post  st) : jJ p l e { frames := 2, cells := 0, slots := 0, locals := 46 } s m args below meth c (MQ below (va_Qi post (fun u => cB D ct A (MW ct ad u)) A) args s 0 0 A) A D 4 (MW ct ad st) 0 0 80 [] [] := by
  unfold wX3_isLegal_80 at h
  refine j_iconst K (1 : Int32) dX3_isLegal_80 (by decide) ?_
  refine j_goto K 85 dX3_isLegal_81 (by decide) ?_
  exact kX3_isLegal_85 K hr  (1 : Int32) st h
theorem kX3_isLegal_69 {p : Program} {l : Launch} {e : Env} {s : State} {m : MethodId} {args : Array Value} {below : List Frame} {meth : Method} {c : Code} {A : Nat → Prop} {D : va_G} {ct : Nat → ClassId} {ad : Nat → Nat} {post : Int32 → MS → Prop} (K : CX p s m args meth c cX3_isLegal 4 RX3 A D ct gT) (hr : meth.sig.returnType = (some .boolean))    (st : MS) (h : wX3_isLegal_69 post  st) : jJ p l e { frames := 2, cells := 0, slots := 0, locals := 46 } s m args below meth c (MQ below (va_Qi post (fun u => cB D ct A (MW ct ad u)) A) args s 0 0 A) A D 4 (MW ct ad st) 0 0 69 [(0, .ref (ad 0))] [] := by
  unfold wX3_isLegal_69 at h
  refine j_aload_n K 0 dX3_isLegal_69 rfl rfl ?_
  refine j_aload_n K 0 dX3_isLegal_70 rfl rfl ?_
  refine mg_mover K dX3_isLegal_71 ?_
  obtain ⟨hp, h⟩ := h
  refine j_callVi K (As := [.int (st.2 3)]) (rest := []) (ctX3_hasLine (l := l) (D := D) (ct := ct) (ad := ad) (st.2 3) st hp) gwX3_hasLine gdX3_hasLine ⟨Nat.le_of_ble_eq_true rfl, Nat.le_of_ble_eq_true rfl⟩ 0 rfl rfl rfl rfl rfl (Nat.le_of_ble_eq_true rfl) dX3_isLegal_74 ⟨Nat.le_of_ble_eq_true rfl, Nat.le_of_ble_eq_true rfl⟩ (fun r_1 st_2 hq => ?_)
  obtain ⟨hq, rfl⟩ := hq
  replace h := h r_1 hq
  refine j_if_ne K 84 dX3_isLegal_77 (by decide) (fun hc => ?_) (fun hc => ?_)
  · refine j_lv K [] (lv' := []) rfl ?_
    exact kX3_isLegal_84 K hr  st (h.1 hc)
  · refine j_lv K [] (lv' := []) rfl ?_
    exact kX3_isLegal_80 K hr  st (h.2 hc)
theorem kX3_isLegal_64 {p : Program} {l : Launch} {e : Env} {s : State} {m : MethodId} {args : Array Value} {below : List Frame} {meth : Method} {c : Code} {A : Nat → Prop} {D : va_G} {ct : Nat → ClassId} {ad : Nat → Nat} {post : Int32 → MS → Prop} (K : CX p s m args meth c cX3_isLegal 4 RX3 A D ct gT) (hr : meth.sig.returnType = (some .boolean))   (s0 : Int32) (st : MS) (h : wX3_isLegal_64 post  s0 st) : jJ p l e { frames := 2, cells := 0, slots := 0, locals := 46 } s m args below meth c (MQ below (va_Qi post (fun u => cB D ct A (MW ct ad u)) A) args s 0 0 A) A D 4 (MW ct ad st) 0 0 64 [(0, .ref (ad 0))] [.int s0] := by
  unfold wX3_isLegal_64 at h
  refine j_istore_n K [(3, .int s0), (0, .ref (ad 0))] dX3_isLegal_64 rfl (by decide) rfl ?_
  refine j_iload_n K 0 dX3_isLegal_65 rfl rfl ?_
  refine j_if_eq K 84 dX3_isLegal_66 (by decide) (fun hc => ?_) (fun hc => ?_)
  · refine j_lv K [] (lv' := []) rfl ?_
    exact kX3_isLegal_84 K hr  st (h.1 hc)
  · refine j_lv K [1] (lv' := [(0, .ref (ad 0))]) rfl ?_
    exact kX3_isLegal_69 K hr  st (h.2 hc)
theorem kX3_isLegal_63 {p : Program} {l : Launch} {e : Env} {s : State} {m : MethodId} {args : Array Value} {below : List Frame} {meth : Method} {c : Code} {A : Nat → Prop} {D : va_G} {ct : Nat → ClassId} {ad : Nat → Nat} {post : Int32 → MS → Prop} (K : CX p s m args meth c cX3_isLegal 4 RX3 A D ct gT) (hr : meth.sig.returnType = (some .boolean))    (st : MS) (h : wX3_isLegal_63 post  st) : jJ p l e { frames := 2, cells := 0, slots := 0, locals := 46 } s m args below meth c (MQ below (va_Qi post (fun u => cB D ct A (MW ct ad u)) A) args s 0 0 A) A D 4 (MW ct ad st) 0 0 63 [(0, .ref (ad 0))] [] := by
  unfold wX3_isLegal_63 at h
  refine j_iconst K (0 : Int32) dX3_isLegal_63 (by decide) ?_
  exact kX3_isLegal_64 K hr  (0 : Int32) st h
theorem kX3_isLegal_59 {p : Program} {l : Launch} {e : Env} {s : State} {m : MethodId} {args : Array Value} {below : List Frame} {meth : Method} {c : Code} {A : Nat → Prop} {D : va_G} {ct : Nat → ClassId} {ad : Nat → Nat} {post : Int32 → MS → Prop} (K : CX p s m args meth c cX3_isLegal 4 RX3 A D ct gT) (hr : meth.sig.returnType = (some .boolean))    (st : MS) (h : wX3_isLegal_59 post  st) : jJ p l e { frames := 2, cells := 0, slots := 0, locals := 46 } s m args below meth c (MQ below (va_Qi post (fun u => cB D ct A (MW ct ad u)) A) args s 0 0 A) A D 4 (MW ct ad st) 0 0 59 [(0, .ref (ad 0))] [] := by
  unfold wX3_isLegal_59 at h
  refine j_iconst K (1 : Int32) dX3_isLegal_59 (by decide) ?_
  refine j_goto K 64 dX3_isLegal_60 (by decide) ?_
  exact kX3_isLegal_64 K hr  (1 : Int32) st h
theorem kX3_isLegal_54 {p : Program} {l : Launch} {e : Env} {s : State} {m : MethodId} {args : Array Value} {below : List Frame} {meth : Method} {c : Code} {A : Nat → Prop} {D : va_G} {ct : Nat → ClassId} {ad : Nat → Nat} {post : Int32 → MS → Prop} (K : CX p s m args meth c cX3_isLegal 4 RX3 A D ct gT) (hr : meth.sig.returnType = (some .boolean))   (x2 : Int32) (st : MS) (h : wX3_isLegal_54 post  x2 st) : jJ p l e { frames := 2, cells := 0, slots := 0, locals := 46 } s m args below meth c (MQ below (va_Qi post (fun u => cB D ct A (MW ct ad u)) A) args s 0 0 A) A D 4 (MW ct ad st) 0 0 54 [(0, .ref (ad 0)), (2, .int x2)] [] := by
  unfold wX3_isLegal_54 at h
  refine j_iload_n K 1 dX3_isLegal_54 rfl rfl ?_
  refine j_iconst K (3 : Int32) dX3_isLegal_55 (by decide) ?_
  refine j_icmp_ne K 63 dX3_isLegal_56 (by decide) (fun hc => ?_) (fun hc => ?_)
  · refine j_lv K [0] (lv' := [(0, .ref (ad 0))]) rfl ?_
    exact kX3_isLegal_63 K hr  st (h.1 hc)
  · refine j_lv K [0] (lv' := [(0, .ref (ad 0))]) rfl ?_
    exact kX3_isLegal_59 K hr  st (h.2 hc)
theorem kX3_isLegal_49 {p : Program} {l : Launch} {e : Env} {s : State} {m : MethodId} {args : Array Value} {below : List Frame} {meth : Method} {c : Code} {A : Nat → Prop} {D : va_G} {ct : Nat → ClassId} {ad : Nat → Nat} {post : Int32 → MS → Prop} (K : CX p s m args meth c cX3_isLegal 4 RX3 A D ct gT) (hr : meth.sig.returnType = (some .boolean))   (x1 : Int32) (x2 : Int32) (st : MS) (h : wX3_isLegal_49 post  x1 x2 st) : jJ p l e { frames := 2, cells := 0, slots := 0, locals := 46 } s m args below meth c (MQ below (va_Qi post (fun u => cB D ct A (MW ct ad u)) A) args s 0 0 A) A D 4 (MW ct ad st) 0 0 49 [(0, .ref (ad 0)), (1, .int x1), (2, .int x2)] [] := by
  unfold wX3_isLegal_49 at h
  refine j_iload_n K 1 dX3_isLegal_49 rfl rfl ?_
  refine j_iconst K (3 : Int32) dX3_isLegal_50 (by decide) ?_
  refine j_icmp_ne K 63 dX3_isLegal_51 (by decide) (fun hc => ?_) (fun hc => ?_)
  · refine j_lv K [0] (lv' := [(0, .ref (ad 0))]) rfl ?_
    exact kX3_isLegal_63 K hr  st (h.1 hc)
  · refine j_lv K [0, 2] (lv' := [(0, .ref (ad 0)), (2, .int x2)]) rfl ?_
    exact kX3_isLegal_54 K hr  x2 st (h.2 hc)
theorem kX3_isLegal_41 {p : Program} {l : Launch} {e : Env} {s : State} {m : MethodId} {args : Array Value} {below : List Frame} {meth : Method} {c : Code} {A : Nat → Prop} {D : va_G} {ct : Nat → ClassId} {ad : Nat → Nat} {post : Int32 → MS → Prop} (K : CX p s m args meth c cX3_isLegal 4 RX3 A D ct gT) (hr : meth.sig.returnType = (some .boolean))   (x1 : Int32) (x2 : Int32) (st : MS) (h : wX3_isLegal_41 post  x1 x2 st) : jJ p l e { frames := 2, cells := 0, slots := 0, locals := 46 } s m args below meth c (MQ below (va_Qi post (fun u => cB D ct A (MW ct ad u)) A) args s 0 0 A) A D 4 (MW ct ad st) 0 0 41 [(0, .ref (ad 0)), (1, .int x1), (2, .int x2)] [] := by
  unfold wX3_isLegal_41 at h
  refine j_aload_n K 0 dX3_isLegal_41 rfl rfl ?_
  refine mg_mover K dX3_isLegal_42 ?_
  refine j_iconst K (1 : Int32) dX3_isLegal_45 (by decide) ?_
  refine j_icmp_eq K 59 dX3_isLegal_46 (by decide) (fun hc => ?_) (fun hc => ?_)
  · refine j_lv K [0] (lv' := [(0, .ref (ad 0))]) rfl ?_
    exact kX3_isLegal_59 K hr  st (h.1 hc)
  · exact kX3_isLegal_49 K hr  x1 x2 st (h.2 hc)
theorem kX3_isLegal_36 {p : Program} {l : Launch} {e : Env} {s : State} {m : MethodId} {args : Array Value} {below : List Frame} {meth : Method} {c : Code} {A : Nat → Prop} {D : va_G} {ct : Nat → ClassId} {ad : Nat → Nat} {post : Int32 → MS → Prop} (K : CX p s m args meth c cX3_isLegal 4 RX3 A D ct gT) (hr : meth.sig.returnType = (some .boolean))   (x1 : Int32) (x2 : Int32) (st : MS) (h : wX3_isLegal_36 post  x1 x2 st) : jJ p l e { frames := 2, cells := 0, slots := 0, locals := 46 } s m args below meth c (MQ below (va_Qi post (fun u => cB D ct A (MW ct ad u)) A) args s 0 0 A) A D 4 (MW ct ad st) 0 0 36 [(0, .ref (ad 0)), (1, .int x1), (2, .int x2)] [] := by
  unfold wX3_isLegal_36 at h
  refine j_iload_n K 1 dX3_isLegal_36 rfl rfl ?_
  refine j_iconst K (3 : Int32) dX3_isLegal_37 (by decide) ?_
  refine j_icmp_gt K 49 dX3_isLegal_38 (by decide) (fun hc => ?_) (fun hc => ?_)
  · exact kX3_isLegal_49 K hr  x1 x2 st (h.1 hc)
  · exact kX3_isLegal_41 K hr  x1 x2 st (h.2 hc)
theorem kX3_isLegal_29 {p : Program} {l : Launch} {e : Env} {s : State} {m : MethodId} {args : Array Value} {below : List Frame} {meth : Method} {c : Code} {A : Nat → Prop} {D : va_G} {ct : Nat → ClassId} {ad : Nat → Nat} {post : Int32 → MS → Prop} (K : CX p s m args meth c cX3_isLegal 4 RX3 A D ct gT) (hr : meth.sig.returnType = (some .boolean))   (x1 : Int32) (x2 : Int32) (st : MS) (h : wX3_isLegal_29 post  x1 x2 st) : jJ p l e { frames := 2, cells := 0, slots := 0, locals := 46 } s m args below meth c (MQ below (va_Qi post (fun u => cB D ct A (MW ct ad u)) A) args s 0 0 A) A D 4 (MW ct ad st) 0 0 29 [(0, .ref (ad 0)), (1, .int x1), (2, .int x2)] [] := by
  unfold wX3_isLegal_29 at h
  refine j_iload_n K 1 dX3_isLegal_29 rfl rfl ?_
  refine j_iload_n K 2 dX3_isLegal_30 rfl rfl ?_
  refine j_iconst K (1 : Int32) dX3_isLegal_31 (by decide) ?_
  refine j_iadd K dX3_isLegal_32 ?_
  refine j_icmp_ne K 49 dX3_isLegal_33 (by decide) (fun hc => ?_) (fun hc => ?_)
  · exact kX3_isLegal_49 K hr  x1 x2 st (h.1 hc)
  · exact kX3_isLegal_36 K hr  x1 x2 st (h.2 hc)
theorem kX3_isLegal_22 {p : Program} {l : Launch} {e : Env} {s : State} {m : MethodId} {args : Array Value} {below : List Frame} {meth : Method} {c : Code} {A : Nat → Prop} {D : va_G} {ct : Nat → ClassId} {ad : Nat → Nat} {post : Int32 → MS → Prop} (K : CX p s m args meth c cX3_isLegal 4 RX3 A D ct gT) (hr : meth.sig.returnType = (some .boolean))   (x1 : Int32) (x2 : Int32) (st : MS) (h : wX3_isLegal_22 post  x1 x2 st) : jJ p l e { frames := 2, cells := 0, slots := 0, locals := 46 } s m args below meth c (MQ below (va_Qi post (fun u => cB D ct A (MW ct ad u)) A) args s 0 0 A) A D 4 (MW ct ad st) 0 0 22 [(0, .ref (ad 0)), (1, .int x1), (2, .int x2)] [] := by
  unfold wX3_isLegal_22 at h
  refine j_aload_n K 0 dX3_isLegal_22 rfl rfl ?_
  refine mg_mover K dX3_isLegal_23 ?_
  refine j_if_eq K 59 dX3_isLegal_26 (by decide) (fun hc => ?_) (fun hc => ?_)
  · refine j_lv K [0] (lv' := [(0, .ref (ad 0))]) rfl ?_
    exact kX3_isLegal_59 K hr  st (h.1 hc)
  · exact kX3_isLegal_29 K hr  x1 x2 st (h.2 hc)
theorem kX3_isLegal_17 {p : Program} {l : Launch} {e : Env} {s : State} {m : MethodId} {args : Array Value} {below : List Frame} {meth : Method} {c : Code} {A : Nat → Prop} {D : va_G} {ct : Nat → ClassId} {ad : Nat → Nat} {post : Int32 → MS → Prop} (K : CX p s m args meth c cX3_isLegal 4 RX3 A D ct gT) (hr : meth.sig.returnType = (some .boolean))   (x1 : Int32) (x2 : Int32) (st : MS) (h : wX3_isLegal_17 post  x1 x2 st) : jJ p l e { frames := 2, cells := 0, slots := 0, locals := 46 } s m args below meth c (MQ below (va_Qi post (fun u => cB D ct A (MW ct ad u)) A) args s 0 0 A) A D 4 (MW ct ad st) 0 0 17 [(0, .ref (ad 0)), (1, .int x1), (2, .int x2)] [] := by
  unfold wX3_isLegal_17 at h
  refine j_iload_n K 1 dX3_isLegal_17 rfl rfl ?_
  refine j_iconst K (3 : Int32) dX3_isLegal_18 (by decide) ?_
  refine j_icmp_ge K 29 dX3_isLegal_19 (by decide) (fun hc => ?_) (fun hc => ?_)
  · exact kX3_isLegal_29 K hr  x1 x2 st (h.1 hc)
  · exact kX3_isLegal_22 K hr  x1 x2 st (h.2 hc)
theorem kX3_isLegal_0 {p : Program} {l : Launch} {e : Env} {s : State} {m : MethodId} {args : Array Value} {below : List Frame} {meth : Method} {c : Code} {A : Nat → Prop} {D : va_G} {ct : Nat → ClassId} {ad : Nat → Nat} {post : Int32 → MS → Prop} (K : CX p s m args meth c cX3_isLegal 4 RX3 A D ct gT) (hr : meth.sig.returnType = (some .boolean))    (st : MS) (h : wX3_isLegal_0 post  st) : jJ p l e { frames := 2, cells := 0, slots := 0, locals := 46 } s m args below meth c (MQ below (va_Qi post (fun u => cB D ct A (MW ct ad u)) A) args s 0 0 A) A D 4 (MW ct ad st) 0 0 0 [(0, .ref (ad 0))] [] := by
  unfold wX3_isLegal_0 at h
  refine j_aload_n K 0 dX3_isLegal_0 rfl rfl ?_
  refine j_iconst K (0 : Int32) dX3_isLegal_1 (by decide) ?_
  obtain ⟨hp, h⟩ := h
  refine j_callVi K (As := [.int (0 : Int32)]) (rest := []) (ctX3_men (l := l) (D := D) (ct := ct) (ad := ad) (0 : Int32) st hp) gwX3_men gdX3_men ⟨Nat.le_of_ble_eq_true rfl, Nat.le_of_ble_eq_true rfl⟩ 0 rfl rfl rfl rfl rfl (Nat.le_of_ble_eq_true rfl) dX3_isLegal_2 ⟨Nat.le_of_ble_eq_true rfl, Nat.le_of_ble_eq_true rfl⟩ (fun r_1 st_2 hq => ?_)
  obtain ⟨hq, rfl⟩ := hq
  replace h := h r_1 hq
  refine j_istore_n K [(1, .int r_1), (0, .ref (ad 0))] dX3_isLegal_5 rfl (by decide) rfl ?_
  refine j_aload_n K 1 dX3_isLegal_6 rfl rfl ?_
  refine j_iconst K (1 : Int32) dX3_isLegal_7 (by decide) ?_
  obtain ⟨hp, h⟩ := h
  refine j_callVi K (As := [.int (1 : Int32)]) (rest := []) (ctX3_men (l := l) (D := D) (ct := ct) (ad := ad) (1 : Int32) st hp) gwX3_men gdX3_men ⟨Nat.le_of_ble_eq_true rfl, Nat.le_of_ble_eq_true rfl⟩ 0 rfl rfl rfl rfl rfl (Nat.le_of_ble_eq_true rfl) dX3_isLegal_8 ⟨Nat.le_of_ble_eq_true rfl, Nat.le_of_ble_eq_true rfl⟩ (fun r_3 st_4 hq => ?_)
  obtain ⟨hq, rfl⟩ := hq
  replace h := h r_3 hq
  refine j_istore_n K [(2, .int r_3), (1, .int r_1), (0, .ref (ad 0))] dX3_isLegal_11 rfl (by decide) rfl ?_
  refine j_iload_n K 1 dX3_isLegal_12 rfl rfl ?_
  refine j_iload_n K 0 dX3_isLegal_13 rfl rfl ?_
  refine j_icmp_ne K 29 dX3_isLegal_14 (by decide) (fun hc => ?_) (fun hc => ?_)
  · refine j_lv K [2, 1, 0] (lv' := [(0, .ref (ad 0)), (1, .int r_1), (2, .int r_3)]) rfl ?_
    exact kX3_isLegal_29 K hr  r_1 r_3 st (h.1 hc)
  · refine j_lv K [2, 1, 0] (lv' := [(0, .ref (ad 0)), (1, .int r_1), (2, .int r_3)]) rfl ?_
    exact kX3_isLegal_17 K hr  r_1 r_3 st (h.2 hc)
theorem ctX3_isLegal {l : Launch} {D : va_G} {ct : Nat → ClassId} {ad : Nat → Nat}  (st : MS) (hp : pX3_isLegal  st) : ∀ sz, Met l yX3_isLegal (ws_ yX3_isLegal cX3_isLegal 4 (some .boolean)) { frames := 2, cells := 0, slots := 0, locals := 46 } (va_Pc [.ref (ad 0)] (cPre gT D ct (MW ct ad st) sz)) (va_Qi (fun (r : Int32) (u : MS) => qX3_isLegal  st r ∧ st = u) (fun u => cB D ct (va_A (MW ct ad st) sz) (MW ct ad u)) (va_A (MW ct ad st) sz)) 0 0 (va_A (MW ct ad st) sz) := fun sz =>
  j_met (Qc := fun A => va_Qi (fun (r : Int32) (u : MS) => qX3_isLegal  st r ∧ st = u) (fun u => cB D ct A (MW ct ad u)) A) (by decide) gT_ok (Nat.le_of_ble_eq_true rfl) (fun p e s m args below meth c A K hr _ _ => kX3_isLegal_0 K hr  st (vcX3_isLegal  st hp))
