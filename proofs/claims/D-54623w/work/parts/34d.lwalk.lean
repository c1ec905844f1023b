/-! WALK of level, printed by gen_tinit.py -/
theorem gw5_91 : GoodIn lw_all (wsV RX5 91 RX5 yX5_judge (ws_ yX5_judge cX5_judge 7 (some .int))) := lw_V q479 q481 qs16 q88 q482
theorem gd5_91 : yX5_judge.cls = RX5 ∧ yX5_judge.cls ≠ "java/lang/invoke/MethodHandle" ∧ yX5_judge.cls ≠ "java/lang/invoke/VarHandle" ∧ (parseMethodDescriptor yX5_judge.desc).map (fun d => d.parameters.length) = some 2 := by decide +kernel
theorem kX5_level_131 {p : Program} {l : Launch} {e : Env} {s : State} {m : MethodId} {args : Array Value} {below : List Frame} {meth : Method} {c : Code} {A : Nat → Prop} {D : va_G} {ct : Nat → ClassId} {ad : Nat → Nat} {tl : va_W} {G : gE} {t : Nat} {fa N : Nat} {post : Int32 → MS → Prop} (K : CX p s m args meth c cX5_level 5 RX5 A D ct G) (hr : meth.sig.returnType = (some .int)) (hgl : gHas G t)   (x3 : Int32) (st : MS) (g : FI) (h : wX5_level_131 N post  x3 st g) : jJ p l e { frames := 5, cells := 1, slots := N, locals := 124 } s m args below meth c (MQ below (va_Qi post (fun u => cB D ct A (TW ct ad tl u)) A) args s 1 N A) A D 5 (TW ct ad ((fa, .inl (ct 0, N, .inl g)) :: tl) st) 1 N 131 [(3, .int x3)] [] := by
  unfold wX5_level_131 at h
  refine j_iload_n K 0 dX5_level_131 rfl rfl ?_
  refine j_sub (ws' := TW ct ad tl st) TW_sub ?_
  exact j_iret st K hr rfl h (Nat.le_of_ble_eq_true rfl) (Nat.le_refl _) dX5_level_132
theorem kX5_level_125 {p : Program} {l : Launch} {e : Env} {s : State} {m : MethodId} {args : Array Value} {below : List Frame} {meth : Method} {c : Code} {A : Nat → Prop} {D : va_G} {ct : Nat → ClassId} {ad : Nat → Nat} {tl : va_W} {G : gE} {t : Nat} {fa N : Nat} {post : Int32 → MS → Prop} (K : CX p s m args meth c cX5_level 5 RX5 A D ct G) (hr : meth.sig.returnType = (some .int)) (hgl : gHas G t) (L75 : Int32 → Int32 → MS → FI → Prop) (hL75 : ∀ (x3 : Int32) (x4 : Int32) (st : MS) (g : FI), L75 x3 x4 st g → jJ p l e { frames := 5, cells := 1, slots := N, locals := 124 } s m args below meth c (MQ below (va_Qi post (fun u => cB D ct A (TW ct ad tl u)) A) args s 1 N A) A D 5 (TW ct ad ((fa, .inl (ct 0, N, .inl g)) :: tl) st) 1 N 75 [(0, .ref (ad 0)), (2, .ref fa), (3, .int x3), (4, .int x4)] []) (x3 : Int32) (x4 : Int32) (st : MS) (g : FI) (h : wX5_level_125 N post L75 x3 x4 st g) : jJ p l e { frames := 5, cells := 1, slots := N, locals := 124 } s m args below meth c (MQ below (va_Qi post (fun u => cB D ct A (TW ct ad tl u)) A) args s 1 N A) A D 5 (TW ct ad ((fa, .inl (ct 0, N, .inl g)) :: tl) st) 1 N 125 [(0, .ref (ad 0)), (2, .ref fa), (3, .int x3), (4, .int x4)] [] := by
  unfold wX5_level_125 at h
  refine j_iinc K 3 (x4 + (1 : Int32)) [(4, .int (x4 + (1 : Int32))), (0, .ref (ad 0)), (2, .ref fa), (3, .int x3)] dX5_level_125 rfl rfl (by decide) rfl ?_
  refine j_goto K 75 dX5_level_128 (by decide) ?_
  refine j_lv K [1, 2, 3, 0] (lv' := [(0, .ref (ad 0)), (2, .ref fa), (3, .int x3), (4, .int (x4 + (1 : Int32)))]) rfl ?_
  exact hL75 x3 (x4 + (1 : Int32)) st g h
theorem kX5_level_91 {p : Program} {l : Launch} {e : Env} {s : State} {m : MethodId} {args : Array Value} {below : List Frame} {meth : Method} {c : Code} {A : Nat → Prop} {D : va_G} {ct : Nat → ClassId} {ad : Nat → Nat} {tl : va_W} {G : gE} {t : Nat} {fa N : Nat} {post : Int32 → MS → Prop} (K : CX p s m args meth c cX5_level 5 RX5 A D ct G) (hr : meth.sig.returnType = (some .int)) (hgl : gHas G t) (L75 : Int32 → Int32 → MS → FI → Prop) (hL75 : ∀ (x3 : Int32) (x4 : Int32) (st : MS) (g : FI), L75 x3 x4 st g → jJ p l e { frames := 5, cells := 1, slots := N, locals := 124 } s m args below meth c (MQ below (va_Qi post (fun u => cB D ct A (TW ct ad tl u)) A) args s 1 N A) A D 5 (TW ct ad ((fa, .inl (ct 0, N, .inl g)) :: tl) st) 1 N 75 [(0, .ref (ad 0)), (2, .ref fa), (3, .int x3), (4, .int x4)] []) (x3 : Int32) (x4 : Int32) (st : MS) (g : FI) (h : wX5_level_91 N post L75 x3 x4 st g) : jJ p l e { frames := 5, cells := 1, slots := N, locals := 124 } s m args below meth c (MQ below (va_Qi post (fun u => cB D ct A (TW ct ad tl u)) A) args s 1 N A) A D 5 (TW ct ad ((fa, .inl (ct 0, N, .inl g)) :: tl) st) 1 N 91 [(0, .ref (ad 0)), (2, .ref fa), (3, .int x3), (4, .int x4)] [] := by
  unfold wX5_level_91 at h
  refine j_aload_n K 0 dX5_level_91 rfl rfl ?_
  refine tg_worths K dX5_level_92 ?_
  refine j_aload_n K 0 dX5_level_95 rfl rfl ?_
  refine j_aload_n K 0 dX5_level_96 rfl rfl ?_
  refine j_iload K 3 dX5_level_97 rfl ?_
  obtain ⟨hp, h⟩ := h
  refine j_callVi K (As := [.int x4]) (rest := [.ref (ad 0), .ref (ad 3)]) (ctX5_first (l := l) (D := D) (ct := ct) (ad := ad) (tl := (fa, .inl (ct 0, N, .inl g)) :: tl) (G := G) (t := t) K.2.2.2.2.2.2.2.2.2 hgl x4 st hp) gw5_62 gd5_62 ⟨Nat.le_of_ble_eq_true rfl, Nat.le_of_ble_eq_true rfl⟩ 0 rfl rfl rfl rfl rfl (Nat.le_of_ble_eq_true rfl) dX5_level_99 ⟨Nat.le_refl _, Nat.le_refl _⟩ (fun r_1 st_2 hq => ?_)
  obtain ⟨hq, rfl⟩ := hq
  replace h := h r_1 hq
  refine j_aload_n K 0 dX5_level_102 rfl rfl ?_
  refine j_iload K 3 dX5_level_103 rfl ?_
  obtain ⟨hp, h⟩ := h
  refine j_callVi K (As := [.int x4]) (rest := [.int r_1, .ref (ad 0), .ref (ad 3)]) (ctX5_second (l := l) (D := D) (ct := ct) (ad := ad) (tl := (fa, .inl (ct 0, N, .inl g)) :: tl) (G := G) (t := t) K.2.2.2.2.2.2.2.2.2 hgl x4 st hp) gw5_65 gd5_65 ⟨Nat.le_of_ble_eq_true rfl, Nat.le_of_ble_eq_true rfl⟩ 0 rfl rfl rfl rfl rfl (Nat.le_of_ble_eq_true rfl) dX5_level_105 ⟨Nat.le_refl _, Nat.le_refl _⟩ (fun r_3 st_4 hq => ?_)
  obtain ⟨hq, rfl⟩ := hq
  replace h := h r_3 hq
  refine j_aload_n K 0 dX5_level_108 rfl rfl ?_
  refine j_iload K 3 dX5_level_109 rfl ?_
  obtain ⟨hp, h⟩ := h
  refine j_callVi K (As := [.int x4]) (rest := [.int r_3, .int r_1, .ref (ad 0), .ref (ad 3)]) (ctX5_mover (l := l) (D := D) (ct := ct) (ad := ad) (tl := (fa, .inl (ct 0, N, .inl g)) :: tl) (G := G) (t := t) K.2.2.2.2.2.2.2.2.2 hgl x4 st hp) gw5_71 gd5_71 ⟨Nat.le_of_ble_eq_true rfl, Nat.le_of_ble_eq_true rfl⟩ 0 rfl rfl rfl rfl rfl (Nat.le_of_ble_eq_true rfl) dX5_level_111 ⟨Nat.le_refl _, Nat.le_refl _⟩ (fun r_5 st_6 hq => ?_)
  obtain ⟨hq, rfl⟩ := hq
  replace h := h r_5 hq
  obtain ⟨hp, h⟩ := h
  refine j_callVi K (As := [.int r_1, .int r_3, .int r_5]) (rest := [.ref (ad 3)]) (ctX5_indexOf (l := l) (D := D) (ct := ct) (ad := ad) (tl := (fa, .inl (ct 0, N, .inl g)) :: tl) (G := G) (t := t) K.2.2.2.2.2.2.2.2.2 hgl r_1 r_3 r_5 st hp) gw5_30 gd5_30 ⟨Nat.le_of_ble_eq_true rfl, Nat.le_of_ble_eq_true rfl⟩ 0 rfl rfl rfl rfl rfl (Nat.le_of_ble_eq_true rfl) dX5_level_114 ⟨Nat.le_refl _, Nat.le_refl _⟩ (fun r_7 st_8 hq => ?_)
  obtain ⟨hq, rfl⟩ := hq
  replace h := h r_7 hq
  refine j_aload_n K 1 dX5_level_117 rfl rfl ?_
  refine j_iload K 3 dX5_level_118 rfl ?_
  obtain ⟨hc, h⟩ := h
  refine j_iald K 5 0 rfl rfl hc dX5_level_120 ?_
  obtain ⟨hc, h⟩ := h
  refine tt_worths K hc dX5_level_121 ?_
  refine j_iinc K 2 (x3 + (1 : Int32)) [(3, .int (x3 + (1 : Int32))), (0, .ref (ad 0)), (2, .ref fa), (4, .int x4)] dX5_level_122 rfl rfl (by decide) rfl ?_
  refine j_lv K [1, 2, 0, 3] (lv' := [(0, .ref (ad 0)), (2, .ref fa), (3, .int (x3 + (1 : Int32))), (4, .int x4)]) rfl ?_
  exact kX5_level_125 K hr hgl L75 hL75 (x3 + (1 : Int32)) x4 (mA st 2 (r_7).toNatClampNeg (g (x4).toNatClampNeg)) g h
theorem kX5_level_84 {p : Program} {l : Launch} {e : Env} {s : State} {m : MethodId} {args : Array Value} {below : List Frame} {meth : Method} {c : Code} {A : Nat → Prop} {D : va_G} {ct : Nat → ClassId} {ad : Nat → Nat} {tl : va_W} {G : gE} {t : Nat} {fa N : Nat} {post : Int32 → MS → Prop} (K : CX p s m args meth c cX5_level 5 RX5 A D ct G) (hr : meth.sig.returnType = (some .int)) (hgl : gHas G t) (L75 : Int32 → Int32 → MS → FI → Prop) (hL75 : ∀ (x3 : Int32) (x4 : Int32) (st : MS) (g : FI), L75 x3 x4 st g → jJ p l e { frames := 5, cells := 1, slots := N, locals := 124 } s m args below meth c (MQ below (va_Qi post (fun u => cB D ct A (TW ct ad tl u)) A) args s 1 N A) A D 5 (TW ct ad ((fa, .inl (ct 0, N, .inl g)) :: tl) st) 1 N 75 [(0, .ref (ad 0)), (2, .ref fa), (3, .int x3), (4, .int x4)] []) (x3 : Int32) (x4 : Int32) (st : MS) (g : FI) (h : wX5_level_84 N post L75 x3 x4 st g) : jJ p l e { frames := 5, cells := 1, slots := N, locals := 124 } s m args below meth c (MQ below (va_Qi post (fun u => cB D ct A (TW ct ad tl u)) A) args s 1 N A) A D 5 (TW ct ad ((fa, .inl (ct 0, N, .inl g)) :: tl) st) 1 N 84 [(0, .ref (ad 0)), (2, .ref fa), (3, .int x3), (4, .int x4)] [] := by
  unfold wX5_level_84 at h
  refine j_aload_n K 1 dX5_level_84 rfl rfl ?_
  refine j_iload K 3 dX5_level_85 rfl ?_
  obtain ⟨hc, h⟩ := h
  refine j_iald K 5 0 rfl rfl hc dX5_level_87 ?_
  refine j_if_eq K 125 dX5_level_88 (by decide) (fun hc => ?_) (fun hc => ?_)
  · exact kX5_level_125 K hr hgl L75 hL75 x3 x4 st g (h.1 hc)
  · exact kX5_level_91 K hr hgl L75 hL75 x3 x4 st g (h.2 hc)
theorem kX5_level_75_b {p : Program} {l : Launch} {e : Env} {s : State} {m : MethodId} {args : Array Value} {below : List Frame} {meth : Method} {c : Code} {A : Nat → Prop} {D : va_G} {ct : Nat → ClassId} {ad : Nat → Nat} {tl : va_W} {G : gE} {t : Nat} {fa N : Nat} {post : Int32 → MS → Prop} (K : CX p s m args meth c cX5_level 5 RX5 A D ct G) (hr : meth.sig.returnType = (some .int)) (hgl : gHas G t) (L75 : Int32 → Int32 → MS → FI → Prop) (hL75 : ∀ (x3 : Int32) (x4 : Int32) (st : MS) (g : FI), L75 x3 x4 st g → jJ p l e { frames := 5, cells := 1, slots := N, locals := 124 } s m args below meth c (MQ below (va_Qi post (fun u => cB D ct A (TW ct ad tl u)) A) args s 1 N A) A D 5 (TW ct ad ((fa, .inl (ct 0, N, .inl g)) :: tl) st) 1 N 75 [(0, .ref (ad 0)), (2, .ref fa), (3, .int x3), (4, .int x4)] []) (x3 : Int32) (x4 : Int32) (st : MS) (g : FI) (h : wX5_level_75_b N post L75 x3 x4 st g) : jJ p l e { frames := 5, cells := 1, slots := N, locals := 124 } s m args below meth c (MQ below (va_Qi post (fun u => cB D ct A (TW ct ad tl u)) A) args s 1 N A) A D 5 (TW ct ad ((fa, .inl (ct 0, N, .inl g)) :: tl) st) 1 N 75 [(0, .ref (ad 0)), (2, .ref fa), (3, .int x3), (4, .int x4)] [] := by
  unfold wX5_level_75_b at h
  refine j_iload K 3 dX5_level_75 rfl ?_
  refine j_aload_n K 0 dX5_level_77 rfl rfl ?_
  refine tg_many K dX5_level_78 ?_
  refine j_icmp_ge K 131 dX5_level_81 (by decide) (fun hc => ?_) (fun hc => ?_)
  · refine j_lv K [2] (lv' := [(3, .int x3)]) rfl ?_
    exact kX5_level_131 K hr hgl  x3 st g (h.1 hc)
  · exact kX5_level_84 K hr hgl L75 hL75 x3 x4 st g (h.2 hc)
theorem kX5_level_75 {p : Program} {l : Launch} {e : Env} {s : State} {m : MethodId} {args : Array Value} {below : List Frame} {meth : Method} {c : Code} {A : Nat → Prop} {D : va_G} {ct : Nat → ClassId} {ad : Nat → Nat} {tl : va_W} {G : gE} {t : Nat} {fa N : Nat} {post : Int32 → MS → Prop} (K : CX p s m args meth c cX5_level 5 RX5 A D ct G) (hr : meth.sig.returnType = (some .int)) (hgl : gHas G t)   (x3 : Int32) (x4 : Int32) (st : MS) (g : FI) (h : wX5_level_75 N post  x3 x4 st g) : jJ p l e { frames := 5, cells := 1, slots := N, locals := 124 } s m args below meth c (MQ below (va_Qi post (fun u => cB D ct A (TW ct ad tl u)) A) args s 1 N A) A D 5 (TW ct ad ((fa, .inl (ct 0, N, .inl g)) :: tl) st) 1 N 75 [(0, .ref (ad 0)), (2, .ref fa), (3, .int x3), (4, .int x4)] [] :=
  wloop_sound (V := Int32 × Int32 × MS × FI) (Wk := fun v => jJ p l e { frames := 5, cells := 1, slots := N, locals := 124 } s m args below meth c (MQ below (va_Qi post (fun u => cB D ct A (TW ct ad tl u)) A) args s 1 N A) A D 5 (TW ct ad ((fa, .inl (ct 0, N, .inl v.2.2.2)) :: tl) v.2.2.1) 1 N 75 [(0, .ref (ad 0)), (2, .ref fa), (3, .int v.1), (4, .int v.2.1)] []) (fun L hL v hb => kX5_level_75_b K hr hgl (fun x3 x4 st g => L (x3, x4, st, g)) (fun x3 x4 st g hx => hL (x3, x4, st, g) hx) v.1 v.2.1 v.2.2.1 v.2.2.2 hb) h
theorem kX5_level_70 {p : Program} {l : Launch} {e : Env} {s : State} {m : MethodId} {args : Array Value} {below : List Frame} {meth : Method} {c : Code} {A : Nat → Prop} {D : va_G} {ct : Nat → ClassId} {ad : Nat → Nat} {tl : va_W} {G : gE} {t : Nat} {fa N : Nat} {post : Int32 → MS → Prop} (K : CX p s m args meth c cX5_level 5 RX5 A D ct G) (hr : meth.sig.returnType = (some .int)) (hgl : gHas G t)    (st : MS) (g : FI) (h : wX5_level_70 N post  st g) : jJ p l e { frames := 5, cells := 1, slots := N, locals := 124 } s m args below meth c (MQ below (va_Qi post (fun u => cB D ct A (TW ct ad tl u)) A) args s 1 N A) A D 5 (TW ct ad ((fa, .inl (ct 0, N, .inl g)) :: tl) st) 1 N 70 [(0, .ref (ad 0)), (2, .ref fa)] [] := by
  unfold wX5_level_70 at h
  refine j_iconst K (0 : Int32) dX5_level_70 (by decide) ?_
  refine j_istore_n K [(3, .int (0 : Int32)), (0, .ref (ad 0)), (2, .ref fa)] dX5_level_71 rfl (by decide) rfl ?_
  refine j_iconst K (0 : Int32) dX5_level_72 (by decide) ?_
  refine j_istore K [(4, .int (0 : Int32)), (3, .int (0 : Int32)), (0, .ref (ad 0)), (2, .ref fa)] dX5_level_73 (by decide) rfl ?_
  refine j_lv K [2, 3, 1, 0] (lv' := [(0, .ref (ad 0)), (2, .ref fa), (3, .int (0 : Int32)), (4, .int (0 : Int32))]) rfl ?_
  exact kX5_level_75 K hr hgl  (0 : Int32) (0 : Int32) st g h
theorem kX5_level_63 {p : Program} {l : Launch} {e : Env} {s : State} {m : MethodId} {args : Array Value} {below : List Frame} {meth : Method} {c : Code} {A : Nat → Prop} {D : va_G} {ct : Nat → ClassId} {ad : Nat → Nat} {tl : va_W} {G : gE} {t : Nat} {fa N : Nat} {post : Int32 → MS → Prop} (K : CX p s m args meth c cX5_level 5 RX5 A D ct G) (hr : meth.sig.returnType = (some .int)) (hgl : gHas G t) (L9 : Int32 → Int32 → MS → FI → Prop) (hL9 : ∀ (x1 : Int32) (x3 : Int32) (st : MS) (g : FI), L9 x1 x3 st g → jJ p l e { frames := 5, cells := 1, slots := N, locals := 124 } s m args below meth c (MQ below (va_Qi post (fun u => cB D ct A (TW ct ad tl u)) A) args s 1 N A) A D 5 (TW ct ad ((fa, .inl (ct 0, N, .inl g)) :: tl) st) 1 N 9 [(0, .ref (ad 0)), (1, .int x1), (2, .ref fa), (3, .int x3)] []) (x1 : Int32) (x3 : Int32) (s1 : Int32) (s2 : Int32) (st : MS) (g : FI) (h : wX5_level_63 N post L9 x1 x3 s1 s2 st g) : jJ p l e { frames := 5, cells := 1, slots := N, locals := 124 } s m args below meth c (MQ below (va_Qi post (fun u => cB D ct A (TW ct ad tl u)) A) args s 1 N A) A D 5 (TW ct ad ((fa, .inl (ct 0, N, .inl g)) :: tl) st) 1 N 63 [(0, .ref (ad 0)), (1, .int x1), (2, .ref fa), (3, .int x3)] [.int s2, .int s1, .ref fa] := by
  unfold wX5_level_63 at h
  obtain ⟨hc, h⟩ := h
  refine j_iast K 5 0 rfl rfl hc dX5_level_63 ?_
  refine j_wsEq (ws' := (TW ct ad ((fa, .inl (ct 0, N, .inl (upd g (s1).toNatClampNeg s2))) :: tl) st)) rfl ?_
  refine j_iinc K 3 (x3 + (1 : Int32)) [(3, .int (x3 + (1 : Int32))), (0, .ref (ad 0)), (1, .int x1), (2, .ref fa)] dX5_level_64 rfl rfl (by decide) rfl ?_
  refine j_goto K 9 dX5_level_67 (by decide) ?_
  refine j_lv K [1, 2, 3, 0] (lv' := [(0, .ref (ad 0)), (1, .int x1), (2, .ref fa), (3, .int (x3 + (1 : Int32)))]) rfl ?_
  exact hL9 x1 (x3 + (1 : Int32)) st (upd g (s1).toNatClampNeg s2) h
theorem kX5_level_62 {p : Program} {l : Launch} {e : Env} {s : State} {m : MethodId} {args : Array Value} {below : List Frame} {meth : Method} {c : Code} {A : Nat → Prop} {D : va_G} {ct : Nat → ClassId} {ad : Nat → Nat} {tl : va_W} {G : gE} {t : Nat} {fa N : Nat} {post : Int32 → MS → Prop} (K : CX p s m args meth c cX5_level 5 RX5 A D ct G) (hr : meth.sig.returnType = (some .int)) (hgl : gHas G t) (L9 : Int32 → Int32 → MS → FI → Prop) (hL9 : ∀ (x1 : Int32) (x3 : Int32) (st : MS) (g : FI), L9 x1 x3 st g → jJ p l e { frames := 5, cells := 1, slots := N, locals := 124 } s m args below meth c (MQ below (va_Qi post (fun u => cB D ct A (TW ct ad tl u)) A) args s 1 N A) A D 5 (TW ct ad ((fa, .inl (ct 0, N, .inl g)) :: tl) st) 1 N 9 [(0, .ref (ad 0)), (1, .int x1), (2, .ref fa), (3, .int x3)] []) (x1 : Int32) (x3 : Int32) (s1 : Int32) (st : MS) (g : FI) (h : wX5_level_62 N post L9 x1 x3 s1 st g) : jJ p l e { frames := 5, cells := 1, slots := N, locals := 124 } s m args below meth c (MQ below (va_Qi post (fun u => cB D ct A (TW ct ad tl u)) A) args s 1 N A) A D 5 (TW ct ad ((fa, .inl (ct 0, N, .inl g)) :: tl) st) 1 N 62 [(0, .ref (ad 0)), (1, .int x1), (2, .ref fa), (3, .int x3)] [.int s1, .ref fa] := by
  unfold wX5_level_62 at h
  refine j_iconst K (0 : Int32) dX5_level_62 (by decide) ?_
  exact kX5_level_63 K hr hgl L9 hL9 x1 x3 s1 (0 : Int32) st g h
theorem kX5_level_53 {p : Program} {l : Launch} {e : Env} {s : State} {m : MethodId} {args : Array Value} {below : List Frame} {meth : Method} {c : Code} {A : Nat → Prop} {D : va_G} {ct : Nat → ClassId} {ad : Nat → Nat} {tl : va_W} {G : gE} {t : Nat} {fa N : Nat} {post : Int32 → MS → Prop} (K : CX p s m args meth c cX5_level 5 RX5 A D ct G) (hr : meth.sig.returnType = (some .int)) (hgl : gHas G t) (L9 : Int32 → Int32 → MS → FI → Prop) (hL9 : ∀ (x1 : Int32) (x3 : Int32) (st : MS) (g : FI), L9 x1 x3 st g → jJ p l e { frames := 5, cells := 1, slots := N, locals := 124 } s m args below meth c (MQ below (va_Qi post (fun u => cB D ct A (TW ct ad tl u)) A) args s 1 N A) A D 5 (TW ct ad ((fa, .inl (ct 0, N, .inl g)) :: tl) st) 1 N 9 [(0, .ref (ad 0)), (1, .int x1), (2, .ref fa), (3, .int x3)] []) (x1 : Int32) (x3 : Int32) (s1 : Int32) (st : MS) (g : FI) (h : wX5_level_53 N post L9 x1 x3 s1 st g) : jJ p l e { frames := 5, cells := 1, slots := N, locals := 124 } s m args below meth c (MQ below (va_Qi post (fun u => cB D ct A (TW ct ad tl u)) A) args s 1 N A) A D 5 (TW ct ad ((fa, .inl (ct 0, N, .inl g)) :: tl) st) 1 N 53 [(0, .ref (ad 0)), (1, .int x1), (2, .ref fa), (3, .int x3)] [.int s1, .ref fa] := by
  unfold wX5_level_53 at h
  refine j_aload_n K 0 dX5_level_53 rfl rfl ?_
  refine j_iload_n K 3 dX5_level_54 rfl rfl ?_
  refine j_iload_n K 1 dX5_level_55 rfl rfl ?_
  obtain ⟨hp, h⟩ := h
  refine j_callVi K (As := [.int x3, .int x1]) (rest := [.int s1, .ref fa]) (ctX5_judge (l := l) (D := D) (ct := ct) (ad := ad) (tl := (fa, .inl (ct 0, N, .inl g)) :: tl) (G := G) (t := t) K.2.2.2.2.2.2.2.2.2 hgl x3 x1 st hp) gw5_91 gd5_91 ⟨Nat.le_of_ble_eq_true rfl, Nat.le_of_ble_eq_true rfl⟩ 0 rfl rfl rfl rfl rfl (Nat.le_of_ble_eq_true rfl) dX5_level_56 ⟨Nat.le_refl _, Nat.le_refl _⟩ (fun r_1 st_2 hq => ?_)
  obtain ⟨hq, rfl⟩ := hq
  replace h := h r_1 hq
  refine j_goto K 63 dX5_level_59 (by decide) ?_
  exact kX5_level_63 K hr hgl L9 hL9 x1 x3 s1 r_1 st g h
theorem kX5_level_44 {p : Program} {l : Launch} {e : Env} {s : State} {m : MethodId} {args : Array Value} {below : List Frame} {meth : Method} {c : Code} {A : Nat → Prop} {D : va_G} {ct : Nat → ClassId} {ad : Nat → Nat} {tl : va_W} {G : gE} {t : Nat} {fa N : Nat} {post : Int32 → MS → Prop} (K : CX p s m args meth c cX5_level 5 RX5 A D ct G) (hr : meth.sig.returnType = (some .int)) (hgl : gHas G t) (L9 : Int32 → Int32 → MS → FI → Prop) (hL9 : ∀ (x1 : Int32) (x3 : Int32) (st : MS) (g : FI), L9 x1 x3 st g → jJ p l e { frames := 5, cells := 1, slots := N, locals := 124 } s m args below meth c (MQ below (va_Qi post (fun u => cB D ct A (TW ct ad tl u)) A) args s 1 N A) A D 5 (TW ct ad ((fa, .inl (ct 0, N, .inl g)) :: tl) st) 1 N 9 [(0, .ref (ad 0)), (1, .int x1), (2, .ref fa), (3, .int x3)] []) (x1 : Int32) (x3 : Int32) (s0 : Int32) (st : MS) (g : FI) (h : wX5_level_44 N post L9 x1 x3 s0 st g) : jJ p l e { frames := 5, cells := 1, slots := N, locals := 124 } s m args below meth c (MQ below (va_Qi post (fun u => cB D ct A (TW ct ad tl u)) A) args s 1 N A) A D 5 (TW ct ad ((fa, .inl (ct 0, N, .inl g)) :: tl) st) 1 N 44 [(0, .ref (ad 0)), (1, .int x1), (2, .ref fa), (3, .int x3)] [.int s0] := by
  unfold wX5_level_44 at h
  refine j_istore K [(4, .int s0), (0, .ref (ad 0)), (1, .int x1), (2, .ref fa), (3, .int x3)] dX5_level_44 (by decide) rfl ?_
  refine j_aload_n K 3 dX5_level_46 rfl rfl ?_
  refine j_iload_n K 4 dX5_level_47 rfl rfl ?_
  refine j_iload K 0 dX5_level_48 rfl ?_
  refine j_if_eq K 62 dX5_level_50 (by decide) (fun hc => ?_) (fun hc => ?_)
  · refine j_lv K [1, 2, 3, 4] (lv' := [(0, .ref (ad 0)), (1, .int x1), (2, .ref fa), (3, .int x3)]) rfl ?_
    exact kX5_level_62 K hr hgl L9 hL9 x1 x3 x3 st g (h.1 hc)
  · refine j_lv K [1, 2, 3, 4] (lv' := [(0, .ref (ad 0)), (1, .int x1), (2, .ref fa), (3, .int x3)]) rfl ?_
    exact kX5_level_53 K hr hgl L9 hL9 x1 x3 x3 st g (h.2 hc)
theorem kX5_level_43 {p : Program} {l : Launch} {e : Env} {s : State} {m : MethodId} {args : Array Value} {below : List Frame} {meth : Method} {c : Code} {A : Nat → Prop} {D : va_G} {ct : Nat → ClassId} {ad : Nat → Nat} {tl : va_W} {G : gE} {t : Nat} {fa N : Nat} {post : Int32 → MS → Prop} (K : CX p s m args meth c cX5_level 5 RX5 A D ct G) (hr : meth.sig.returnType = (some .int)) (hgl : gHas G t) (L9 : Int32 → Int32 → MS → FI → Prop) (hL9 : ∀ (x1 : Int32) (x3 : Int32) (st : MS) (g : FI), L9 x1 x3 st g → jJ p l e { frames := 5, cells := 1, slots := N, locals := 124 } s m args below meth c (MQ below (va_Qi post (fun u => cB D ct A (TW ct ad tl u)) A) args s 1 N A) A D 5 (TW ct ad ((fa, .inl (ct 0, N, .inl g)) :: tl) st) 1 N 9 [(0, .ref (ad 0)), (1, .int x1), (2, .ref fa), (3, .int x3)] []) (x1 : Int32) (x3 : Int32) (st : MS) (g : FI) (h : wX5_level_43 N post L9 x1 x3 st g) : jJ p l e { frames := 5, cells := 1, slots := N, locals := 124 } s m args below meth c (MQ below (va_Qi post (fun u => cB D ct A (TW ct ad tl u)) A) args s 1 N A) A D 5 (TW ct ad ((fa, .inl (ct 0, N, .inl g)) :: tl) st) 1 N 43 [(0, .ref (ad 0)), (1, .int x1), (2, .ref fa), (3, .int x3)] [] := by
  unfold wX5_level_43 at h
  refine j_iconst K (0 : Int32) dX5_level_43 (by decide) ?_
  exact kX5_level_44 K hr hgl L9 hL9 x1 x3 (0 : Int32) st g h
theorem kX5_level_39 {p : Program} {l : Launch} {e : Env} {s : State} {m : MethodId} {args : Array Value} {below : List Frame} {meth : Method} {c : Code} {A : Nat → Prop} {D : va_G} {ct : Nat → ClassId} {ad : Nat → Nat} {tl : va_W} {G : gE} {t : Nat} {fa N : Nat} {post : Int32 → MS → Prop} (K : CX p s m args meth c cX5_level 5 RX5 A D ct G) (hr : meth.sig.returnType = (some .int)) (hgl : gHas G t) (L9 : Int32 → Int32 → MS → FI → Prop) (hL9 : ∀ (x1 : Int32) (x3 : Int32) (st : MS) (g : FI), L9 x1 x3 st g → jJ p l e { frames := 5, cells := 1, slots := N, locals := 124 } s m args below meth c (MQ below (va_Qi post (fun u => cB D ct A (TW ct ad tl u)) A) args s 1 N A) A D 5 (TW ct ad ((fa, .inl (ct 0, N, .inl g)) :: tl) st) 1 N 9 [(0, .ref (ad 0)), (1, .int x1), (2, .ref fa), (3, .int x3)] []) (x1 : Int32) (x3 : Int32) (st : MS) (g : FI) (h : wX5_level_39 N post L9 x1 x3 st g) : jJ p l e { frames := 5, cells := 1, slots := N, locals := 124 } s m args below meth c (MQ below (va_Qi post (fun u => cB D ct A (TW ct ad tl u)) A) args s 1 N A) A D 5 (TW ct ad ((fa, .inl (ct 0, N, .inl g)) :: tl) st) 1 N 39 [(0, .ref (ad 0)), (1, .int x1), (2, .ref fa), (3, .int x3)] [] := by
  unfold wX5_level_39 at h
  refine j_iconst K (1 : Int32) dX5_level_39 (by decide) ?_
  refine j_goto K 44 dX5_level_40 (by decide) ?_
  exact kX5_level_44 K hr hgl L9 hL9 x1 x3 (1 : Int32) st g h
theorem kX5_level_17 {p : Program} {l : Launch} {e : Env} {s : State} {m : MethodId} {args : Array Value} {below : List Frame} {meth : Method} {c : Code} {A : Nat → Prop} {D : va_G} {ct : Nat → ClassId} {ad : Nat → Nat} {tl : va_W} {G : gE} {t : Nat} {fa N : Nat} {post : Int32 → MS → Prop} (K : CX p s m args meth c cX5_level 5 RX5 A D ct G) (hr : meth.sig.returnType = (some .int)) (hgl : gHas G t) (L9 : Int32 → Int32 → MS → FI → Prop) (hL9 : ∀ (x1 : Int32) (x3 : Int32) (st : MS) (g : FI), L9 x1 x3 st g → jJ p l e { frames := 5, cells := 1, slots := N, locals := 124 } s m args below meth c (MQ below (va_Qi post (fun u => cB D ct A (TW ct ad tl u)) A) args s 1 N A) A D 5 (TW ct ad ((fa, .inl (ct 0, N, .inl g)) :: tl) st) 1 N 9 [(0, .ref (ad 0)), (1, .int x1), (2, .ref fa), (3, .int x3)] []) (x1 : Int32) (x3 : Int32) (st : MS) (g : FI) (h : wX5_level_17 N post L9 x1 x3 st g) : jJ p l e { frames := 5, cells := 1, slots := N, locals := 124 } s m args below meth c (MQ below (va_Qi post (fun u => cB D ct A (TW ct ad tl u)) A) args s 1 N A) A D 5 (TW ct ad ((fa, .inl (ct 0, N, .inl g)) :: tl) st) 1 N 17 [(0, .ref (ad 0)), (1, .int x1), (2, .ref fa), (3, .int x3)] [] := by
  unfold wX5_level_17 at h
  refine j_aload_n K 0 dX5_level_17 rfl rfl ?_
  refine j_aload_n K 0 dX5_level_18 rfl rfl ?_
  refine j_iload_n K 3 dX5_level_19 rfl rfl ?_
  obtain ⟨hp, h⟩ := h
  refine j_callVi K (As := [.int x3]) (rest := [.ref (ad 0)]) (ctX5_first (l := l) (D := D) (ct := ct) (ad := ad) (tl := (fa, .inl (ct 0, N, .inl g)) :: tl) (G := G) (t := t) K.2.2.2.2.2.2.2.2.2 hgl x3 st hp) gw5_62 gd5_62 ⟨Nat.le_of_ble_eq_true rfl, Nat.le_of_ble_eq_true rfl⟩ 0 rfl rfl rfl rfl rfl (Nat.le_of_ble_eq_true rfl) dX5_level_20 ⟨Nat.le_refl _, Nat.le_refl _⟩ (fun r_1 st_2 hq => ?_)
  obtain ⟨hq, rfl⟩ := hq
  replace h := h r_1 hq
  refine j_aload_n K 0 dX5_level_23 rfl rfl ?_
  refine j_iload_n K 3 dX5_level_24 rfl rfl ?_
  obtain ⟨hp, h⟩ := h
  refine j_callVi K (As := [.int x3]) (rest := [.int r_1, .ref (ad 0)]) (ctX5_second (l := l) (D := D) (ct := ct) (ad := ad) (tl := (fa, .inl (ct 0, N, .inl g)) :: tl) (G := G) (t := t) K.2.2.2.2.2.2.2.2.2 hgl x3 st hp) gw5_65 gd5_65 ⟨Nat.le_of_ble_eq_true rfl, Nat.le_of_ble_eq_true rfl⟩ 0 rfl rfl rfl rfl rfl (Nat.le_of_ble_eq_true rfl) dX5_level_25 ⟨Nat.le_refl _, Nat.le_refl _⟩ (fun r_3 st_4 hq => ?_)
  obtain ⟨hq, rfl⟩ := hq
  replace h := h r_3 hq
  refine j_aload_n K 0 dX5_level_28 rfl rfl ?_
  refine j_iload_n K 3 dX5_level_29 rfl rfl ?_
  obtain ⟨hp, h⟩ := h
  refine j_callVi K (As := [.int x3]) (rest := [.int r_3, .int r_1, .ref (ad 0)]) (ctX5_mover (l := l) (D := D) (ct := ct) (ad := ad) (tl := (fa, .inl (ct 0, N, .inl g)) :: tl) (G := G) (t := t) K.2.2.2.2.2.2.2.2.2 hgl x3 st hp) gw5_71 gd5_71 ⟨Nat.le_of_ble_eq_true rfl, Nat.le_of_ble_eq_true rfl⟩ 0 rfl rfl rfl rfl rfl (Nat.le_of_ble_eq_true rfl) dX5_level_30 ⟨Nat.le_refl _, Nat.le_refl _⟩ (fun r_5 st_6 hq => ?_)
  obtain ⟨hq, rfl⟩ := hq
  replace h := h r_5 hq
  obtain ⟨hp, h⟩ := h
  refine j_callVi K (As := [.int r_1, .int r_3, .int r_5]) (rest := []) (ctX5_worth (l := l) (D := D) (ct := ct) (ad := ad) (tl := (fa, .inl (ct 0, N, .inl g)) :: tl) (G := G) (t := t) K.2.2.2.2.2.2.2.2.2 hgl r_1 r_3 r_5 st hp) gw5_59 gd5_59 ⟨Nat.le_of_ble_eq_true rfl, Nat.le_of_ble_eq_true rfl⟩ 0 rfl rfl rfl rfl rfl (Nat.le_of_ble_eq_true rfl) dX5_level_33 ⟨Nat.le_refl _, Nat.le_refl _⟩ (fun r_7 st_8 hq => ?_)
  obtain ⟨hq, rfl⟩ := hq
  replace h := h r_7 hq
  refine j_if_ne K 43 dX5_level_36 (by decide) (fun hc => ?_) (fun hc => ?_)
  · exact kX5_level_43 K hr hgl L9 hL9 x1 x3 st g (h.1 hc)
  · exact kX5_level_39 K hr hgl L9 hL9 x1 x3 st g (h.2 hc)
theorem kX5_level_9_b {p : Program} {l : Launch} {e : Env} {s : State} {m : MethodId} {args : Array Value} {below : List Frame} {meth : Method} {c : Code} {A : Nat → Prop} {D : va_G} {ct : Nat → ClassId} {ad : Nat → Nat} {tl : va_W} {G : gE} {t : Nat} {fa N : Nat} {post : Int32 → MS → Prop} (K : CX p s m args meth c cX5_level 5 RX5 A D ct G) (hr : meth.sig.returnType = (some .int)) (hgl : gHas G t) (L9 : Int32 → Int32 → MS → FI → Prop) (hL9 : ∀ (x1 : Int32) (x3 : Int32) (st : MS) (g : FI), L9 x1 x3 st g → jJ p l e { frames := 5, cells := 1, slots := N, locals := 124 } s m args below meth c (MQ below (va_Qi post (fun u => cB D ct A (TW ct ad tl u)) A) args s 1 N A) A D 5 (TW ct ad ((fa, .inl (ct 0, N, .inl g)) :: tl) st) 1 N 9 [(0, .ref (ad 0)), (1, .int x1), (2, .ref fa), (3, .int x3)] []) (x1 : Int32) (x3 : Int32) (st : MS) (g : FI) (h : wX5_level_9_b N post L9 x1 x3 st g) : jJ p l e { frames := 5, cells := 1, slots := N, locals := 124 } s m args below meth c (MQ below (va_Qi post (fun u => cB D ct A (TW ct ad tl u)) A) args s 1 N A) A D 5 (TW ct ad ((fa, .inl (ct 0, N, .inl g)) :: tl) st) 1 N 9 [(0, .ref (ad 0)), (1, .int x1), (2, .ref fa), (3, .int x3)] [] := by
  unfold wX5_level_9_b at h
  refine j_iload_n K 3 dX5_level_9 rfl rfl ?_
  refine j_aload_n K 0 dX5_level_10 rfl rfl ?_
  refine tg_many K dX5_level_11 ?_
  refine j_icmp_ge K 70 dX5_level_14 (by decide) (fun hc => ?_) (fun hc => ?_)
  · refine j_lv K [0, 2] (lv' := [(0, .ref (ad 0)), (2, .ref fa)]) rfl ?_
    exact kX5_level_70 K hr hgl  st g (h.1 hc)
  · exact kX5_level_17 K hr hgl L9 hL9 x1 x3 st g (h.2 hc)
theorem kX5_level_9 {p : Program} {l : Launch} {e : Env} {s : State} {m : MethodId} {args : Array Value} {below : List Frame} {meth : Method} {c : Code} {A : Nat → Prop} {D : va_G} {ct : Nat → ClassId} {ad : Nat → Nat} {tl : va_W} {G : gE} {t : Nat} {fa N : Nat} {post : Int32 → MS → Prop} (K : CX p s m args meth c cX5_level 5 RX5 A D ct G) (hr : meth.sig.returnType = (some .int)) (hgl : gHas G t)   (x1 : Int32) (x3 : Int32) (st : MS) (g : FI) (h : wX5_level_9 N post  x1 x3 st g) : jJ p l e { frames := 5, cells := 1, slots := N, locals := 124 } s m args below meth c (MQ below (va_Qi post (fun u => cB D ct A (TW ct ad tl u)) A) args s 1 N A) A D 5 (TW ct ad ((fa, .inl (ct 0, N, .inl g)) :: tl) st) 1 N 9 [(0, .ref (ad 0)), (1, .int x1), (2, .ref fa), (3, .int x3)] [] :=
  wloop_sound (V := Int32 × Int32 × MS × FI) (Wk := fun v => jJ p l e { frames := 5, cells := 1, slots := N, locals := 124 } s m args below meth c (MQ below (va_Qi post (fun u => cB D ct A (TW ct ad tl u)) A) args s 1 N A) A D 5 (TW ct ad ((fa, .inl (ct 0, N, .inl v.2.2.2)) :: tl) v.2.2.1) 1 N 9 [(0, .ref (ad 0)), (1, .int v.1), (2, .ref fa), (3, .int v.2.1)] []) (fun L hL v hb => kX5_level_9_b K hr hgl (fun x1 x3 st g => L (x1, x3, st, g)) (fun x1 x3 st g hx => hL (x1, x3, st, g) hx) v.1 v.2.1 v.2.2.1 v.2.2.2 hb) h
theorem ctX5_level {l : Launch} {D : va_G} {ct : Nat → ClassId} {ad : Nat → Nat} {tl : va_W} {G : gE} {t : Nat} (hG : gOK G) (hgl : gHas G t) (x1 : Int32) (st : MS) (N : Nat) (hN : st.2 2 = nI N) (hN31 : N < 100000000) (hp : pX5_level x1 st) : ∀ sz, Met l yX5_level (ws_ yX5_level cX5_level 5 (some .int)) { frames := 5, cells := 1, slots := N, locals := 124 } (va_Pc [.ref (ad 0), .int x1] (cPre G D ct (TW ct ad tl st) sz)) (va_Qi (qX5_level x1 st) (fun u => cB D ct (va_A (TW ct ad tl st) sz) (TW ct ad tl u)) (va_A (TW ct ad tl st) sz)) 1 N (va_A (TW ct ad tl st) sz) := fun sz =>
  j_met (Qc := fun A => va_Qi (qX5_level x1 st) (fun u => cB D ct A (TW ct ad tl u)) A) (by decide) hG (Nat.le_of_ble_eq_true rfl) (fun p e s m args below meth c A K hr _ _ => by
    refine j_aload_n K 0 dX5_level_0 rfl rfl ?_
    refine j_get K in_X5 0 rfl rfl 6 (by decide) q512 rfl rfl dX5_level_1 ?_
    refine j_newaF K N (by rw [hN]; exact nI_nn hN31) (by rw [hN]; exact nI_clamp (by omega)) (by omega) (by dsimp only; omega) (by dsimp only; omega) dX5_level_4 (fun a1_ => ?_)
    refine j_wsEq (ws' := ((a1_, .inl (ct 0, N, .inl (fun _ => 0))) :: ((ad 0), .inr (4, [.int (st.2 0), .int (st.2 1), .ref (ad 1), .ref (ad 2), .ref (ad 3), .ref (ad 4), .int (st.2 2)])) :: ((ad 1), .inl (ct 0, 9, .inl (st.1 0))) :: ((ad 2), .inl (ct 0, 512, .inl (st.1 1))) :: ((ad 3), .inl (ct 0, 39366, .inl (st.1 2))) :: ((ad 4), .inl (ct 0, 19683, .inl (st.1 3))) :: tl)) rfl ?_
    refine j_astore_n K [(2, .ref a1_), (0, .ref (ad 0)), (1, .int x1)] dX5_level_6 rfl (by decide) rfl ?_
    refine j_iconst K (0 : Int32) dX5_level_7 (by decide) ?_
    refine j_istore_n K [(3, .int (0 : Int32)), (2, .ref a1_), (0, .ref (ad 0)), (1, .int x1)] dX5_level_8 rfl (by decide) rfl ?_
    refine j_wsT [1, 2, 3, 4, 5, 0] (wx := [(a1_, .inl (ct 0, N, .inl (fun _ => 0))), ((ad 0), .inr (4, [.int (st.2 0), .int (st.2 1), .ref (ad 1), .ref (ad 2), .ref (ad 3), .ref (ad 4), .int (st.2 2)])), ((ad 1), .inl (ct 0, 9, .inl (st.1 0))), ((ad 2), .inl (ct 0, 512, .inl (st.1 1))), ((ad 3), .inl (ct 0, 39366, .inl (st.1 2))), ((ad 4), .inl (ct 0, 19683, .inl (st.1 3)))]) (ws' := [((ad 0), .inr (4, [.int (st.2 0), .int (st.2 1), .ref (ad 1), .ref (ad 2), .ref (ad 3), .ref (ad 4), .int (st.2 2)])), ((ad 1), .inl (ct 0, 9, .inl (st.1 0))), ((ad 2), .inl (ct 0, 512, .inl (st.1 1))), ((ad 3), .inl (ct 0, 39366, .inl (st.1 2))), ((ad 4), .inl (ct 0, 19683, .inl (st.1 3))), (a1_, .inl (ct 0, N, .inl (fun _ => 0)))]) (tl := tl) rfl rfl ?_
    refine j_wsEq (ws' := TW ct ad ((a1_, .inl (ct 0, N, .inl (fun _ => 0))) :: tl) st) rfl ?_
    refine j_widen (k := 1) (n := N) (by omega) (by omega) ?_
    refine j_lv K [2, 3, 1, 0] (lv' := [(0, .ref (ad 0)), (1, .int x1), (2, .ref a1_), (3, .int (0 : Int32))]) rfl ?_
    exact kX5_level_9 K hr hgl x1 (0 : Int32) st (fun _ => 0) (vcX5_level x1 st N hN hN31 hp))
