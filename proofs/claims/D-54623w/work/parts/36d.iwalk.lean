/-! WALK of Table.<init>, printed by gen_tinit2.py -/
theorem gw5_22 : GoodIn lw_all (wsV RX5 22 RX5 yX5_findLegal (ws_ yX5_findLegal cX5_findLegal 3 none)) := lw_V q418 q420 qs12 q88 q421
theorem gd5_22 : yX5_findLegal.cls = RX5 ∧ yX5_findLegal.cls ≠ "java/lang/invoke/MethodHandle" ∧ yX5_findLegal.cls ≠ "java/lang/invoke/VarHandle" ∧ (parseMethodDescriptor yX5_findLegal.desc).map (fun d => d.parameters.length) = some 0 := by decide +kernel
theorem gw5_26 : GoodIn lw_all (wsV RX5 26 RX5 yX5_level (ws_ yX5_level cX5_level 5 (some .int))) := lw_V q459 q461 qs15 q88 q462
theorem gd5_26 : yX5_level.cls = RX5 ∧ yX5_level.cls ≠ "java/lang/invoke/MethodHandle" ∧ yX5_level.cls ≠ "java/lang/invoke/VarHandle" ∧ (parseMethodDescriptor yX5_level.desc).map (fun d => d.parameters.length) = some 1 := by decide +kernel
theorem kX5_init_93 {p : Program} {l : Launch} {e : Env} {s : State} {m : MethodId} {args : Array Value} {below : List Frame} {meth : Method} {c : Code} {A : Nat → Prop} {D : va_G} {ct : Nat → ClassId} {ad : Nat → Nat} {tl : va_W} {G : gE} {t : Nat} {post : (Nat → Nat) × MS → Prop} (K : CX p s m args meth c cX5_init 5 RX5 A D ct G) (hr : meth.sig.returnType = none) (hgl : gHas G t)    (st : MS) (kc : Nat) (ks : Nat) (h : wX5_init_93 ad post  st kc ks) : jJ p l e { frames := 6, cells := 15, slots := 266887, locals := 148 } s m args below meth c (MQ below (va_Qv post (fun u : (Nat → Nat) × MS => cB D ct A (TW ct u.1 tl u.2)) A) args s 15 266887 A) A D 5 (TW ct ad tl st) kc ks 93 [] [] := by
  unfold wX5_init_93 at h
  exact j_vret (ad, st) K hr rfl h.1 h.2.1 h.2.2 dX5_init_93
theorem kX5_init_80 {p : Program} {l : Launch} {e : Env} {s : State} {m : MethodId} {args : Array Value} {below : List Frame} {meth : Method} {c : Code} {A : Nat → Prop} {D : va_G} {ct : Nat → ClassId} {ad : Nat → Nat} {tl : va_W} {G : gE} {t : Nat} {post : (Nat → Nat) × MS → Prop} (K : CX p s m args meth c cX5_init 5 RX5 A D ct G) (hr : meth.sig.returnType = none) (hgl : gHas G t) (L76 : Int32 → Int32 → MS → Nat → Nat → Prop) (hL76 : ∀ (x3 : Int32) (x4 : Int32) (st : MS) (kc : Nat) (ks : Nat), L76 x3 x4 st kc ks → jJ p l e { frames := 6, cells := 15, slots := 266887, locals := 148 } s m args below meth c (MQ below (va_Qv post (fun u : (Nat → Nat) × MS => cB D ct A (TW ct u.1 tl u.2)) A) args s 15 266887 A) A D 5 (TW ct ad tl st) kc ks 76 [(0, .ref (ad 0)), (3, .int x3), (4, .int x4)] []) (x4 : Int32) (st : MS) (kc : Nat) (ks : Nat) (h : wX5_init_80 ad post L76 x4 st kc ks) : jJ p l e { frames := 6, cells := 15, slots := 266887, locals := 148 } s m args below meth c (MQ below (va_Qv post (fun u : (Nat → Nat) × MS => cB D ct A (TW ct u.1 tl u.2)) A) args s 15 266887 A) A D 5 (TW ct ad tl st) kc ks 80 [(0, .ref (ad 0)), (4, .int x4)] [] := by
  unfold wX5_init_80 at h
  refine j_aload_n K 0 dX5_init_80 rfl rfl ?_
  refine j_iload K 1 dX5_init_81 rfl ?_
  obtain ⟨hp, N_3, ⟨hN, hN31⟩, hk, h⟩ := h
  refine j_callVi K (As := [.int x4]) (rest := []) (ctX5_level (l := l) (D := D) (ct := ct) (ad := ad) (tl := tl) (G := G) (t := t) K.2.2.2.2.2.2.2.2.2 hgl x4 st N_3 hN hN31 hp) gw5_26 gd5_26 ⟨Nat.le_of_ble_eq_true rfl, Nat.le_of_ble_eq_true rfl⟩ 0 rfl rfl rfl rfl rfl (Nat.le_of_ble_eq_true rfl) dX5_init_83 hk (fun r_2 st_1 hq => ?_)
  replace h := h r_2 st_1 hq
  refine j_istore_n K [(3, .int r_2), (0, .ref (ad 0)), (4, .int x4)] dX5_init_86 rfl (by decide) rfl ?_
  refine j_iinc K 2 (x4 + (1 : Int32)) [(4, .int (x4 + (1 : Int32))), (3, .int r_2), (0, .ref (ad 0))] dX5_init_87 rfl rfl (by decide) rfl ?_
  refine j_goto K 76 dX5_init_90 (by decide) ?_
  refine j_lv K [2, 1, 0] (lv' := [(0, .ref (ad 0)), (3, .int r_2), (4, .int (x4 + (1 : Int32)))]) rfl ?_
  exact hL76 r_2 (x4 + (1 : Int32)) st_1 (kc + 1) (ks + N_3) h
theorem kX5_init_76_b {p : Program} {l : Launch} {e : Env} {s : State} {m : MethodId} {args : Array Value} {below : List Frame} {meth : Method} {c : Code} {A : Nat → Prop} {D : va_G} {ct : Nat → ClassId} {ad : Nat → Nat} {tl : va_W} {G : gE} {t : Nat} {post : (Nat → Nat) × MS → Prop} (K : CX p s m args meth c cX5_init 5 RX5 A D ct G) (hr : meth.sig.returnType = none) (hgl : gHas G t) (L76 : Int32 → Int32 → MS → Nat → Nat → Prop) (hL76 : ∀ (x3 : Int32) (x4 : Int32) (st : MS) (kc : Nat) (ks : Nat), L76 x3 x4 st kc ks → jJ p l e { frames := 6, cells := 15, slots := 266887, locals := 148 } s m args below meth c (MQ below (va_Qv post (fun u : (Nat → Nat) × MS => cB D ct A (TW ct u.1 tl u.2)) A) args s 15 266887 A) A D 5 (TW ct ad tl st) kc ks 76 [(0, .ref (ad 0)), (3, .int x3), (4, .int x4)] []) (x3 : Int32) (x4 : Int32) (st : MS) (kc : Nat) (ks : Nat) (h : wX5_init_76_b ad post L76 x3 x4 st kc ks) : jJ p l e { frames := 6, cells := 15, slots := 266887, locals := 148 } s m args below meth c (MQ below (va_Qv post (fun u : (Nat → Nat) × MS => cB D ct A (TW ct u.1 tl u.2)) A) args s 15 266887 A) A D 5 (TW ct ad tl st) kc ks 76 [(0, .ref (ad 0)), (3, .int x3), (4, .int x4)] [] := by
  unfold wX5_init_76_b at h
  refine j_iload_n K 1 dX5_init_76 rfl rfl ?_
  refine j_if_le K 93 dX5_init_77 (by decide) (fun hc => ?_) (fun hc => ?_)
  · refine j_lv K [] (lv' := []) rfl ?_
    exact kX5_init_93 K hr hgl  st kc ks (h.1 hc)
  · refine j_lv K [0, 2] (lv' := [(0, .ref (ad 0)), (4, .int x4)]) rfl ?_
    exact kX5_init_80 K hr hgl L76 hL76 x4 st kc ks (h.2 hc)
theorem kX5_init_76 {p : Program} {l : Launch} {e : Env} {s : State} {m : MethodId} {args : Array Value} {below : List Frame} {meth : Method} {c : Code} {A : Nat → Prop} {D : va_G} {ct : Nat → ClassId} {ad : Nat → Nat} {tl : va_W} {G : gE} {t : Nat} {post : (Nat → Nat) × MS → Prop} (K : CX p s m args meth c cX5_init 5 RX5 A D ct G) (hr : meth.sig.returnType = none) (hgl : gHas G t)   (x3 : Int32) (x4 : Int32) (st : MS) (kc : Nat) (ks : Nat) (h : wX5_init_76 ad post  x3 x4 st kc ks) : jJ p l e { frames := 6, cells := 15, slots := 266887, locals := 148 } s m args below meth c (MQ below (va_Qv post (fun u : (Nat → Nat) × MS => cB D ct A (TW ct u.1 tl u.2)) A) args s 15 266887 A) A D 5 (TW ct ad tl st) kc ks 76 [(0, .ref (ad 0)), (3, .int x3), (4, .int x4)] [] :=
  wloop_sound (V := Int32 × Int32 × MS × Nat × Nat) (Wk := fun v => jJ p l e { frames := 6, cells := 15, slots := 266887, locals := 148 } s m args below meth c (MQ below (va_Qv post (fun u : (Nat → Nat) × MS => cB D ct A (TW ct u.1 tl u.2)) A) args s 15 266887 A) A D 5 (TW ct ad tl v.2.2.1) v.2.2.2.1 v.2.2.2.2 76 [(0, .ref (ad 0)), (3, .int v.1), (4, .int v.2.1)] []) (fun L hL v hb => kX5_init_76_b K hr hgl (fun x3 x4 st kc ks => L (x3, x4, st, kc, ks)) (fun x3 x4 st kc ks hx => hL (x3, x4, st, kc, ks) hx) v.1 v.2.1 v.2.2.1 v.2.2.2.1 v.2.2.2.2 hb) h
theorem kX5_init_67 {p : Program} {l : Launch} {e : Env} {s : State} {m : MethodId} {args : Array Value} {below : List Frame} {meth : Method} {c : Code} {A : Nat → Prop} {D : va_G} {ct : Nat → ClassId} {ad : Nat → Nat} {tl : va_W} {G : gE} {t : Nat} {post : (Nat → Nat) × MS → Prop} (K : CX p s m args meth c cX5_init 5 RX5 A D ct G) (hr : meth.sig.returnType = none) (hgl : gHas G t)    (st : MS) (kc : Nat) (ks : Nat) (h : wX5_init_67 ad post  st kc ks) : jJ p l e { frames := 6, cells := 15, slots := 266887, locals := 148 } s m args below meth c (MQ below (va_Qv post (fun u : (Nat → Nat) × MS => cB D ct A (TW ct u.1 tl u.2)) A) args s 15 266887 A) A D 5 (TW ct ad tl st) kc ks 67 [(0, .ref (ad 0))] [] := by
  unfold wX5_init_67 at h
  refine j_aload_n K 0 dX5_init_67 rfl rfl ?_
  obtain ⟨hp, hk, h⟩ := h
  refine j_callVv K (As := []) (rest := []) (ctX5_findLegal (l := l) (D := D) (ct := ct) (ad := ad) (tl := tl) (G := G) (t := t) K.2.2.2.2.2.2.2.2.2 hgl st hp) gw5_22 gd5_22 ⟨Nat.le_of_ble_eq_true rfl, Nat.le_of_ble_eq_true rfl⟩ 0 rfl rfl rfl rfl rfl (Nat.le_of_ble_eq_true rfl) dX5_init_68 hk (fun st_1 hq => ?_)
  replace h := h st_1 hq
  refine j_iconst K (1 : Int32) dX5_init_71 (by decide) ?_
  refine j_istore_n K [(3, .int (1 : Int32)), (0, .ref (ad 0))] dX5_init_72 rfl (by decide) rfl ?_
  refine j_iconst K (1 : Int32) dX5_init_73 (by decide) ?_
  refine j_istore K [(4, .int (1 : Int32)), (3, .int (1 : Int32)), (0, .ref (ad 0))] dX5_init_74 (by decide) rfl ?_
  refine j_lv K [2, 1, 0] (lv' := [(0, .ref (ad 0)), (3, .int (1 : Int32)), (4, .int (1 : Int32))]) rfl ?_
  exact kX5_init_76 K hr hgl  (1 : Int32) (1 : Int32) st_1 kc ks h
theorem kX5_init_41 {p : Program} {l : Launch} {e : Env} {s : State} {m : MethodId} {args : Array Value} {below : List Frame} {meth : Method} {c : Code} {A : Nat → Prop} {D : va_G} {ct : Nat → ClassId} {ad : Nat → Nat} {tl : va_W} {G : gE} {t : Nat} {post : (Nat → Nat) × MS → Prop} (K : CX p s m args meth c cX5_init 5 RX5 A D ct G) (hr : meth.sig.returnType = none) (hgl : gHas G t) (L34 : Int32 → MS → Nat → Nat → Prop) (hL34 : ∀ (x3 : Int32) (st : MS) (kc : Nat) (ks : Nat), L34 x3 st kc ks → jJ p l e { frames := 6, cells := 15, slots := 266887, locals := 148 } s m args below meth c (MQ below (va_Qv post (fun u : (Nat → Nat) × MS => cB D ct A (TW ct u.1 tl u.2)) A) args s 15 266887 A) A D 5 (TW ct ad tl st) kc ks 34 [(0, .ref (ad 0)), (3, .int x3)] []) (x3 : Int32) (st : MS) (kc : Nat) (ks : Nat) (h : wX5_init_41 ad post L34 x3 st kc ks) : jJ p l e { frames := 6, cells := 15, slots := 266887, locals := 148 } s m args below meth c (MQ below (va_Qv post (fun u : (Nat → Nat) × MS => cB D ct A (TW ct u.1 tl u.2)) A) args s 15 266887 A) A D 5 (TW ct ad tl st) kc ks 41 [(0, .ref (ad 0)), (3, .int x3)] [] := by
  unfold wX5_init_41 at h
  refine j_aload_n K 0 dX5_init_41 rfl rfl ?_
  refine tg_codes K dX5_init_42 ?_
  refine j_iload_n K 1 dX5_init_45 rfl rfl ?_
  refine j_iconst K (3 : Int32) dX5_init_46 (by decide) ?_
  refine j_aload_n K 0 dX5_init_47 rfl rfl ?_
  refine tg_codes K dX5_init_48 ?_
  refine j_iload_n K 1 dX5_init_51 rfl rfl ?_
  refine j_iconst K (1 : Int32) dX5_init_52 (by decide) ?_
  refine j_ishr K dX5_init_53 ?_
  obtain ⟨hc, h⟩ := h
  refine tl_codes K hc dX5_init_54 ?_
  refine j_imul K dX5_init_55 ?_
  refine j_iload_n K 1 dX5_init_56 rfl rfl ?_
  refine j_iconst K (1 : Int32) dX5_init_57 (by decide) ?_
  refine j_iand K dX5_init_58 ?_
  refine j_iadd K dX5_init_59 ?_
  obtain ⟨hc, h⟩ := h
  refine tt_codes K hc dX5_init_60 ?_
  refine j_iinc K 1 (x3 + (1 : Int32)) [(3, .int (x3 + (1 : Int32))), (0, .ref (ad 0))] dX5_init_61 rfl rfl (by decide) rfl ?_
  refine j_goto K 34 dX5_init_64 (by decide) ?_
  refine j_lv K [1, 0] (lv' := [(0, .ref (ad 0)), (3, .int (x3 + (1 : Int32)))]) rfl ?_
  exact hL34 (x3 + (1 : Int32)) (mA st 1 (x3).toNatClampNeg (((3 : Int32) * (st.1 1 ((x3 >>> ((1 : Int32) &&& 31))).toNatClampNeg)) + (x3 &&& (1 : Int32)))) kc ks h
theorem kX5_init_34_b {p : Program} {l : Launch} {e : Env} {s : State} {m : MethodId} {args : Array Value} {below : List Frame} {meth : Method} {c : Code} {A : Nat → Prop} {D : va_G} {ct : Nat → ClassId} {ad : Nat → Nat} {tl : va_W} {G : gE} {t : Nat} {post : (Nat → Nat) × MS → Prop} (K : CX p s m args meth c cX5_init 5 RX5 A D ct G) (hr : meth.sig.returnType = none) (hgl : gHas G t) (L34 : Int32 → MS → Nat → Nat → Prop) (hL34 : ∀ (x3 : Int32) (st : MS) (kc : Nat) (ks : Nat), L34 x3 st kc ks → jJ p l e { frames := 6, cells := 15, slots := 266887, locals := 148 } s m args below meth c (MQ below (va_Qv post (fun u : (Nat → Nat) × MS => cB D ct A (TW ct u.1 tl u.2)) A) args s 15 266887 A) A D 5 (TW ct ad tl st) kc ks 34 [(0, .ref (ad 0)), (3, .int x3)] []) (x3 : Int32) (st : MS) (kc : Nat) (ks : Nat) (h : wX5_init_34_b ad post L34 x3 st kc ks) : jJ p l e { frames := 6, cells := 15, slots := 266887, locals := 148 } s m args below meth c (MQ below (va_Qv post (fun u : (Nat → Nat) × MS => cB D ct A (TW ct u.1 tl u.2)) A) args s 15 266887 A) A D 5 (TW ct ad tl st) kc ks 34 [(0, .ref (ad 0)), (3, .int x3)] [] := by
  unfold wX5_init_34_b at h
  refine j_iload_n K 1 dX5_init_34 rfl rfl ?_
  refine j_sipush K (511 : Int32) dX5_init_35 (by decide) ?_
  refine j_icmp_gt K 67 dX5_init_38 (by decide) (fun hc => ?_) (fun hc => ?_)
  · refine j_lv K [0] (lv' := [(0, .ref (ad 0))]) rfl ?_
    exact kX5_init_67 K hr hgl  st kc ks (h.1 hc)
  · exact kX5_init_41 K hr hgl L34 hL34 x3 st kc ks (h.2 hc)
theorem kX5_init_34 {p : Program} {l : Launch} {e : Env} {s : State} {m : MethodId} {args : Array Value} {below : List Frame} {meth : Method} {c : Code} {A : Nat → Prop} {D : va_G} {ct : Nat → ClassId} {ad : Nat → Nat} {tl : va_W} {G : gE} {t : Nat} {post : (Nat → Nat) × MS → Prop} (K : CX p s m args meth c cX5_init 5 RX5 A D ct G) (hr : meth.sig.returnType = none) (hgl : gHas G t)   (x3 : Int32) (st : MS) (kc : Nat) (ks : Nat) (h : wX5_init_34 ad post  x3 st kc ks) : jJ p l e { frames := 6, cells := 15, slots := 266887, locals := 148 } s m args below meth c (MQ below (va_Qv post (fun u : (Nat → Nat) × MS => cB D ct A (TW ct u.1 tl u.2)) A) args s 15 266887 A) A D 5 (TW ct ad tl st) kc ks 34 [(0, .ref (ad 0)), (3, .int x3)] [] :=
  wloop_sound (V := Int32 × MS × Nat × Nat) (Wk := fun v => jJ p l e { frames := 6, cells := 15, slots := 266887, locals := 148 } s m args below meth c (MQ below (va_Qv post (fun u : (Nat → Nat) × MS => cB D ct A (TW ct u.1 tl u.2)) A) args s 15 266887 A) A D 5 (TW ct ad tl v.2.1) v.2.2.1 v.2.2.2 34 [(0, .ref (ad 0)), (3, .int v.1)] []) (fun L hL v hb => kX5_init_34_b K hr hgl (fun x3 st kc ks => L (x3, st, kc, ks)) (fun x3 st kc ks hx => hL (x3, st, kc, ks) hx) v.1 v.2.1 v.2.2.1 v.2.2.2 hb) h
theorem ctX5_init {l : Launch} {D : va_G} {ct : Nat → ClassId} {a : Nat} {tl : va_W} {G : gE} {t : Nat} (hG : gOK G) (hgl : gHas G t) (x1 x2 : Int32) (hp : pX4_init x1 x2) : ∀ sz, Met l yX5_init (ws_ yX5_init cX5_init 5 none) { frames := 6, cells := 15, slots := 266887, locals := 148 } (va_Pc [.ref a, .int x1, .int x2] (cPre G D ct ((a, .inr (4, [.int 0, .int 0, .null, .null, .null, .null, .int 0])) :: tl) sz)) (va_Qv (fun u : (Nat → Nat) × MS => u.1 0 = a ∧ qX5_init x1 x2 u.2) (fun u : (Nat → Nat) × MS => cB D ct (va_A ((a, .inr (4, [.int 0, .int 0, .null, .null, .null, .null, .int 0])) :: tl) sz) (TW ct u.1 tl u.2)) (va_A ((a, .inr (4, [.int 0, .int 0, .null, .null, .null, .null, .int 0])) :: tl) sz)) 15 266887 (va_A ((a, .inr (4, [.int 0, .int 0, .null, .null, .null, .null, .int 0])) :: tl) sz) := fun sz =>
  j_met (Qc := fun A => va_Qv (fun u : (Nat → Nat) × MS => u.1 0 = a ∧ qX5_init x1 x2 u.2) (fun u : (Nat → Nat) × MS => cB D ct A (TW ct u.1 tl u.2)) A) (by decide) hG (Nat.le_of_ble_eq_true rfl) (fun p e s m args below meth c A K hr hnm _ => by
    refine j_aload_n K 0 dX5_init_0 rfl rfl ?_
    refine j_iload_n K 1 dX5_init_1 rfl rfl ?_
    refine j_iload_n K 2 dX5_init_2 rfl rfl ?_
    refine j_callIv K (As := [.int x1, .int x2]) (rest := []) (ctX4_init (l := l) (D := D) (ct := ct) (a := a) (tl := tl) (G := G) (t := t) K.2.2.2.2.2.2.2.2.2 hgl x1 x2 hp) q402 q87 q400 q401 rfl (n := 2) (by decide +kernel) ⟨Nat.le_of_ble_eq_true rfl, Nat.le_of_ble_eq_true rfl⟩ rfl rfl (Nat.le_of_ble_eq_true rfl) dX5_init_3 ⟨Nat.le_of_ble_eq_true rfl, Nat.le_of_ble_eq_true rfl⟩ (fun u3 hq3 => ?_)
    refine j_wsEq (ws' := ((a, .inr (4, [.int (u3.2.2 0), .int (u3.2.2 1), .ref u3.1, .null, .null, .null, .int 0])) :: (u3.1, .inl (ct 0, 9, .inl (u3.2.1 0))) :: tl)) rfl ?_
    refine j_aload_n K 0 dX5_init_6 rfl rfl ?_
    refine j_sipush K (512 : Int32) dX5_init_7 (by decide) ?_
    refine j_newaF K 512 (by decide) (by decide) (Nat.le_of_ble_eq_true rfl) (Nat.le_of_ble_eq_true rfl) (Nat.le_of_ble_eq_true rfl) dX5_init_10 (fun a1_ => ?_)
    refine j_wsEq (ws' := ((a1_, .inl (ct 0, 512, .inl (fun _ => 0))) :: (a, .inr (4, [.int (u3.2.2 0), .int (u3.2.2 1), .ref u3.1, .null, .null, .null, .int 0])) :: (u3.1, .inl (ct 0, 9, .inl (u3.2.1 0))) :: tl)) rfl ?_
    refine j_putF K in_X5 tyX5 tyX5_ok nmX5 1 rfl rfl 3 (by decide) q509 rfl rfl hnm rfl (ty := .array .int) (by decide +kernel) rfl rfl (Nat.le_of_ble_eq_true rfl) dX5_init_12 ?_
    refine j_wsEq (ws' := ((a1_, .inl (ct 0, 512, .inl (fun _ => 0))) :: (a, .inr (4, [.int (u3.2.2 0), .int (u3.2.2 1), .ref u3.1, .ref a1_, .null, .null, .int 0])) :: (u3.1, .inl (ct 0, 9, .inl (u3.2.1 0))) :: tl)) rfl ?_
    refine j_aload_n K 0 dX5_init_15 rfl rfl ?_
    refine j_ldc K q417 dX5_init_16 ?_
    refine j_newaF K 39366 (by decide) (by decide) (Nat.le_of_ble_eq_true rfl) (Nat.le_of_ble_eq_true rfl) (Nat.le_of_ble_eq_true rfl) dX5_init_18 (fun a2_ => ?_)
    refine j_wsEq (ws' := ((a2_, .inl (ct 0, 39366, .inl (fun _ => 0))) :: (a1_, .inl (ct 0, 512, .inl (fun _ => 0))) :: (a, .inr (4, [.int (u3.2.2 0), .int (u3.2.2 1), .ref u3.1, .ref a1_, .null, .null, .int 0])) :: (u3.1, .inl (ct 0, 9, .inl (u3.2.1 0))) :: tl)) rfl ?_
    refine j_putF K in_X5 tyX5 tyX5_ok nmX5 2 rfl rfl 4 (by decide) q510 rfl rfl hnm rfl (ty := .array .int) (by decide +kernel) rfl rfl (Nat.le_of_ble_eq_true rfl) dX5_init_20 ?_
    refine j_wsEq (ws' := ((a2_, .inl (ct 0, 39366, .inl (fun _ => 0))) :: (a1_, .inl (ct 0, 512, .inl (fun _ => 0))) :: (a, .inr (4, [.int (u3.2.2 0), .int (u3.2.2 1), .ref u3.1, .ref a1_, .ref a2_, .null, .int 0])) :: (u3.1, .inl (ct 0, 9, .inl (u3.2.1 0))) :: tl)) rfl ?_
    refine j_aload_n K 0 dX5_init_23 rfl rfl ?_
    refine j_sipush K (19683 : Int32) dX5_init_24 (by decide) ?_
    refine j_newaF K 19683 (by decide) (by decide) (Nat.le_of_ble_eq_true rfl) (Nat.le_of_ble_eq_true rfl) (Nat.le_of_ble_eq_true rfl) dX5_init_27 (fun a3_ => ?_)
    refine j_wsEq (ws' := ((a3_, .inl (ct 0, 19683, .inl (fun _ => 0))) :: (a2_, .inl (ct 0, 39366, .inl (fun _ => 0))) :: (a1_, .inl (ct 0, 512, .inl (fun _ => 0))) :: (a, .inr (4, [.int (u3.2.2 0), .int (u3.2.2 1), .ref u3.1, .ref a1_, .ref a2_, .null, .int 0])) :: (u3.1, .inl (ct 0, 9, .inl (u3.2.1 0))) :: tl)) rfl ?_
    refine j_putF K in_X5 tyX5 tyX5_ok nmX5 3 rfl rfl 5 (by decide) q511 rfl rfl hnm rfl (ty := .array .int) (by decide +kernel) rfl rfl (Nat.le_of_ble_eq_true rfl) dX5_init_29 ?_
    refine j_wsEq (ws' := ((a3_, .inl (ct 0, 19683, .inl (fun _ => 0))) :: (a2_, .inl (ct 0, 39366, .inl (fun _ => 0))) :: (a1_, .inl (ct 0, 512, .inl (fun _ => 0))) :: (a, .inr (4, [.int (u3.2.2 0), .int (u3.2.2 1), .ref u3.1, .ref a1_, .ref a2_, .ref a3_, .int 0])) :: (u3.1, .inl (ct 0, 9, .inl (u3.2.1 0))) :: tl)) rfl ?_
    refine j_iconst K (1 : Int32) dX5_init_32 (by decide) ?_
    refine j_istore_n K [(3, .int (1 : Int32)), (0, .ref a), (1, .int x1), (2, .int x2)] dX5_init_33 rfl (by decide) rfl ?_
    refine j_wsT [3, 4, 2, 1, 0] (wx := [(a3_, .inl (ct 0, 19683, .inl (fun _ => 0))), (a2_, .inl (ct 0, 39366, .inl (fun _ => 0))), (a1_, .inl (ct 0, 512, .inl (fun _ => 0))), (a, .inr (4, [.int (u3.2.2 0), .int (u3.2.2 1), .ref u3.1, .ref a1_, .ref a2_, .ref a3_, .int 0])), (u3.1, .inl (ct 0, 9, .inl (u3.2.1 0)))]) (ws' := [(a, .inr (4, [.int (u3.2.2 0), .int (u3.2.2 1), .ref u3.1, .ref a1_, .ref a2_, .ref a3_, .int 0])), (u3.1, .inl (ct 0, 9, .inl (u3.2.1 0))), (a1_, .inl (ct 0, 512, .inl (fun _ => 0))), (a2_, .inl (ct 0, 39366, .inl (fun _ => 0))), (a3_, .inl (ct 0, 19683, .inl (fun _ => 0)))]) (tl := tl) rfl rfl ?_
    refine j_wsEq (ws' := TW ct (fun k => ([a, u3.1, a1_, a2_, a3_] : List Nat).getD k 0) tl (tst0 u3.2)) rfl ?_
    refine j_lv K [1, 0] (lv' := [(0, .ref a), (3, .int (1 : Int32))]) rfl ?_
    exact kX5_init_34 K hr hgl (ad := (fun k => ([a, u3.1, a1_, a2_, a3_] : List Nat).getD k 0)) (1 : Int32) (tst0 u3.2) _ _ (vcX5_init (fun k => ([a, u3.1, a1_, a2_, a3_] : List Nat).getD k 0) x1 x2 u3.2 rfl hp hq3))
