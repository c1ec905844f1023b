/-! WALK of Rules.<init>, printed by gen_tinit2.py -/
theorem kX4_init_68 {p : Program} {l : Launch} {e : Env} {s : State} {m : MethodId} {args : Array Value} {below : List Frame} {meth : Method} {c : Code} {A : Nat → Prop} {D : va_G} {ct : Nat → ClassId} {a b : Nat} {tl : va_W} {G : gE} {t : Nat} {post : Nat × MS → Prop} (K : CX p s m args meth c cX4_init 4 RX4 A D ct G) (hr : meth.sig.returnType = none) (hgl : gHas G t) (hnm : meth.name = "<init>")    (st : MS) (h : wX4_init_68 b post  st) : jJ p l e { frames := 3, cells := 1, slots := 9, locals := 68 } s m args below meth c (MQ below (va_Qv post (fun u : Nat × MS => cB D ct A (RW ct a u.1 tl u.2)) A) args s 1 9 A) A D 4 (RW ct a b tl st) 1 9 68 [] [] := by
  unfold wX4_init_68 at h
  exact j_vret (b, st) K hr rfl h (Nat.le_of_ble_eq_true rfl) (Nat.le_of_ble_eq_true rfl) dX4_init_68
theorem kX4_init_51 {p : Program} {l : Launch} {e : Env} {s : State} {m : MethodId} {args : Array Value} {below : List Frame} {meth : Method} {c : Code} {A : Nat → Prop} {D : va_G} {ct : Nat → ClassId} {a b : Nat} {tl : va_W} {G : gE} {t : Nat} {post : Nat × MS → Prop} (K : CX p s m args meth c cX4_init 4 RX4 A D ct G) (hr : meth.sig.returnType = none) (hgl : gHas G t) (hnm : meth.name = "<init>") (L45 : Int32 → MS → Prop) (hL45 : ∀ (x3 : Int32) (st : MS), L45 x3 st → jJ p l e { frames := 3, cells := 1, slots := 9, locals := 68 } s m args below meth c (MQ below (va_Qv post (fun u : Nat × MS => cB D ct A (RW ct a u.1 tl u.2)) A) args s 1 9 A) A D 4 (RW ct a b tl st) 1 9 45 [(0, .ref a), (3, .int x3)] []) (x3 : Int32) (st : MS) (h : wX4_init_51 b post L45 x3 st) : jJ p l e { frames := 3, cells := 1, slots := 9, locals := 68 } s m args below meth c (MQ below (va_Qv post (fun u : Nat × MS => cB D ct A (RW ct a u.1 tl u.2)) A) args s 1 9 A) A D 4 (RW ct a b tl st) 1 9 51 [(0, .ref a), (3, .int x3)] [] := by
  unfold wX4_init_51 at h
  refine j_aload_n K 0 dX4_init_51 rfl rfl ?_
  refine j_get K in_X5 0 rfl rfl 2 (by decide) q516 rfl rfl dX4_init_52 ?_
  refine j_iload_n K 1 dX4_init_55 rfl rfl ?_
  refine j_aload_n K 0 dX4_init_56 rfl rfl ?_
  refine j_iload_n K 1 dX4_init_57 rfl rfl ?_
  obtain ⟨hp, h⟩ := h
  refine j_callNi K hgl (As := [.int x3]) (rest := [.int x3, .ref b]) (ctX4_nextOf (l := l) (D := D) (ct := ct) (a := a) (fs := [.int (st.2 0), .int (st.2 1), .ref b, .null, .null, .null, .int 0]) (tl := (b, .inl (ct 0, 9, .inl (st.1 0))) :: tl) (G := G) (t := t) K.2.2.2.2.2.2.2.2.2 hgl rfl x3 hp) q410 q406 q1271 q408 q87 (n := 1) rfl ⟨Nat.le_of_ble_eq_true rfl, Nat.le_of_ble_eq_true rfl⟩ 0 rfl rfl rfl (Nat.le_of_ble_eq_true rfl) dX4_init_58 ⟨Nat.le_of_ble_eq_true rfl, Nat.le_of_ble_eq_true rfl⟩ (fun r_1 _ hq => ?_)
  refine j_wsEq (ws' := (RW ct a b tl st)) rfl ?_
  replace h := h r_1 hq
  obtain ⟨hc, h⟩ := h
  refine j_iast K 1 0 rfl rfl hc dX4_init_61 ?_
  refine j_wsEq (ws' := (RW ct a b tl (mA st 0 (x3).toNatClampNeg r_1))) rfl ?_
  refine j_iinc K 1 (x3 + (1 : Int32)) [(3, .int (x3 + (1 : Int32))), (0, .ref a)] dX4_init_62 rfl rfl (by decide) rfl ?_
  refine j_goto K 45 dX4_init_65 (by decide) ?_
  refine j_lv K [1, 0] (lv' := [(0, .ref a), (3, .int (x3 + (1 : Int32)))]) rfl ?_
  exact hL45 (x3 + (1 : Int32)) (mA st 0 (x3).toNatClampNeg r_1) h
theorem kX4_init_45_b {p : Program} {l : Launch} {e : Env} {s : State} {m : MethodId} {args : Array Value} {below : List Frame} {meth : Method} {c : Code} {A : Nat → Prop} {D : va_G} {ct : Nat → ClassId} {a b : Nat} {tl : va_W} {G : gE} {t : Nat} {post : Nat × MS → Prop} (K : CX p s m args meth c cX4_init 4 RX4 A D ct G) (hr : meth.sig.returnType = none) (hgl : gHas G t) (hnm : meth.name = "<init>") (L45 : Int32 → MS → Prop) (hL45 : ∀ (x3 : Int32) (st : MS), L45 x3 st → jJ p l e { frames := 3, cells := 1, slots := 9, locals := 68 } s m args below meth c (MQ below (va_Qv post (fun u : Nat × MS => cB D ct A (RW ct a u.1 tl u.2)) A) args s 1 9 A) A D 4 (RW ct a b tl st) 1 9 45 [(0, .ref a), (3, .int x3)] []) (x3 : Int32) (st : MS) (h : wX4_init_45_b b post L45 x3 st) : jJ p l e { frames := 3, cells := 1, slots := 9, locals := 68 } s m args below meth c (MQ below (va_Qv post (fun u : Nat × MS => cB D ct A (RW ct a u.1 tl u.2)) A) args s 1 9 A) A D 4 (RW ct a b tl st) 1 9 45 [(0, .ref a), (3, .int x3)] [] := by
  unfold wX4_init_45_b at h
  refine j_iload_n K 1 dX4_init_45 rfl rfl ?_
  refine j_bipush K (9 : Int32) dX4_init_46 (by decide) ?_
  refine j_icmp_ge K 68 dX4_init_48 (by decide) (fun hc => ?_) (fun hc => ?_)
  · refine j_lv K [] (lv' := []) rfl ?_
    exact kX4_init_68 K hr hgl hnm  st (h.1 hc)
  · exact kX4_init_51 K hr hgl hnm L45 hL45 x3 st (h.2 hc)
theorem kX4_init_45 {p : Program} {l : Launch} {e : Env} {s : State} {m : MethodId} {args : Array Value} {below : List Frame} {meth : Method} {c : Code} {A : Nat → Prop} {D : va_G} {ct : Nat → ClassId} {a b : Nat} {tl : va_W} {G : gE} {t : Nat} {post : Nat × MS → Prop} (K : CX p s m args meth c cX4_init 4 RX4 A D ct G) (hr : meth.sig.returnType = none) (hgl : gHas G t) (hnm : meth.name = "<init>")   (x3 : Int32) (st : MS) (h : wX4_init_45 b post  x3 st) : jJ p l e { frames := 3, cells := 1, slots := 9, locals := 68 } s m args below meth c (MQ below (va_Qv post (fun u : Nat × MS => cB D ct A (RW ct a u.1 tl u.2)) A) args s 1 9 A) A D 4 (RW ct a b tl st) 1 9 45 [(0, .ref a), (3, .int x3)] [] :=
  wloop_sound (V := Int32 × MS) (Wk := fun v => jJ p l e { frames := 3, cells := 1, slots := 9, locals := 68 } s m args below meth c (MQ below (va_Qv post (fun u : Nat × MS => cB D ct A (RW ct a u.1 tl u.2)) A) args s 1 9 A) A D 4 (RW ct a b tl v.2) 1 9 45 [(0, .ref a), (3, .int v.1)] []) (fun L hL v hb => kX4_init_45_b K hr hgl hnm (fun x3 st => L (x3, st)) (fun x3 st hx => hL (x3, st) hx) v.1 v.2 hb) h
theorem kX4_init_40 {p : Program} {l : Launch} {e : Env} {s : State} {m : MethodId} {args : Array Value} {below : List Frame} {meth : Method} {c : Code} {A : Nat → Prop} {D : va_G} {ct : Nat → ClassId} {a b : Nat} {tl : va_W} {G : gE} {t : Nat} {post : Nat × MS → Prop} (K : CX p s m args meth c cX4_init 4 RX4 A D ct G) (hr : meth.sig.returnType = none) (hgl : gHas G t) (hnm : meth.name = "<init>")   (s1 : Int32) (st : MS) (h : wX4_init_40 b post  s1 st) : jJ p l e { frames := 3, cells := 1, slots := 9, locals := 68 } s m args below meth c (MQ below (va_Qv post (fun u : Nat × MS => cB D ct A (RW ct a u.1 tl u.2)) A) args s 1 9 A) A D 4 (RW ct a b tl st) 1 9 40 [(0, .ref a)] [.int s1, .ref a] := by
  unfold wX4_init_40 at h
  obtain ⟨hb_, h⟩ := h
  refine j_putF K in_X5 tyX5 tyX5_ok nmX5 0 rfl rfl 1 (by decide) q515 rfl rfl hnm rfl (ty := .boolean) (by decide +kernel) (isB_nar hb_) (isB_fit hb_) (Nat.le_of_ble_eq_true rfl) dX4_init_40 ?_
  refine j_wsEq (ws' := (RW ct a b tl (mF st 1 s1))) rfl ?_
  refine j_iconst K (0 : Int32) dX4_init_43 (by decide) ?_
  refine j_istore_n K [(3, .int (0 : Int32)), (0, .ref a)] dX4_init_44 rfl (by decide) rfl ?_
  refine j_lv K [1, 0] (lv' := [(0, .ref a), (3, .int (0 : Int32))]) rfl ?_
  exact kX4_init_45 K hr hgl hnm  (0 : Int32) (mF st 1 s1) h
theorem kX4_init_39 {p : Program} {l : Launch} {e : Env} {s : State} {m : MethodId} {args : Array Value} {below : List Frame} {meth : Method} {c : Code} {A : Nat → Prop} {D : va_G} {ct : Nat → ClassId} {a b : Nat} {tl : va_W} {G : gE} {t : Nat} {post : Nat × MS → Prop} (K : CX p s m args meth c cX4_init 4 RX4 A D ct G) (hr : meth.sig.returnType = none) (hgl : gHas G t) (hnm : meth.name = "<init>")    (st : MS) (h : wX4_init_39 b post  st) : jJ p l e { frames := 3, cells := 1, slots := 9, locals := 68 } s m args below meth c (MQ below (va_Qv post (fun u : Nat × MS => cB D ct A (RW ct a u.1 tl u.2)) A) args s 1 9 A) A D 4 (RW ct a b tl st) 1 9 39 [(0, .ref a)] [.ref a] := by
  unfold wX4_init_39 at h
  refine j_iconst K (0 : Int32) dX4_init_39 (by decide) ?_
  exact kX4_init_40 K hr hgl hnm  (0 : Int32) st h
theorem kX4_init_35 {p : Program} {l : Launch} {e : Env} {s : State} {m : MethodId} {args : Array Value} {below : List Frame} {meth : Method} {c : Code} {A : Nat → Prop} {D : va_G} {ct : Nat → ClassId} {a b : Nat} {tl : va_W} {G : gE} {t : Nat} {post : Nat × MS → Prop} (K : CX p s m args meth c cX4_init 4 RX4 A D ct G) (hr : meth.sig.returnType = none) (hgl : gHas G t) (hnm : meth.name = "<init>")    (st : MS) (h : wX4_init_35 b post  st) : jJ p l e { frames := 3, cells := 1, slots := 9, locals := 68 } s m args below meth c (MQ below (va_Qv post (fun u : Nat × MS => cB D ct A (RW ct a u.1 tl u.2)) A) args s 1 9 A) A D 4 (RW ct a b tl st) 1 9 35 [(0, .ref a)] [.ref a] := by
  unfold wX4_init_35 at h
  refine j_iconst K (1 : Int32) dX4_init_35 (by decide) ?_
  refine j_goto K 40 dX4_init_36 (by decide) ?_
  exact kX4_init_40 K hr hgl hnm  (1 : Int32) st h
theorem kX4_init_27 {p : Program} {l : Launch} {e : Env} {s : State} {m : MethodId} {args : Array Value} {below : List Frame} {meth : Method} {c : Code} {A : Nat → Prop} {D : va_G} {ct : Nat → ClassId} {a b : Nat} {tl : va_W} {G : gE} {t : Nat} {post : Nat × MS → Prop} (K : CX p s m args meth c cX4_init 4 RX4 A D ct G) (hr : meth.sig.returnType = none) (hgl : gHas G t) (hnm : meth.name = "<init>")   (x2 : Int32) (s1 : Int32) (st : MS) (h : wX4_init_27 b post  x2 s1 st) : jJ p l e { frames := 3, cells := 1, slots := 9, locals := 68 } s m args below meth c (MQ below (va_Qv post (fun u : Nat × MS => cB D ct A (RW ct a u.1 tl u.2)) A) args s 1 9 A) A D 4 (RW ct a b tl st) 1 9 27 [(0, .ref a), (2, .int x2)] [.int s1, .ref a] := by
  unfold wX4_init_27 at h
  refine j_putF K in_X5 tyX5 tyX5_ok nmX5 0 rfl rfl 0 (by decide) q514 rfl rfl hnm rfl (ty := .int) (by decide +kernel) rfl rfl (Nat.le_of_ble_eq_true rfl) dX4_init_27 ?_
  refine j_wsEq (ws' := (RW ct a b tl (mF st 0 s1))) rfl ?_
  refine j_aload_n K 0 dX4_init_30 rfl rfl ?_
  refine j_iload_n K 1 dX4_init_31 rfl rfl ?_
  refine j_if_ne K 39 dX4_init_32 (by decide) (fun hc => ?_) (fun hc => ?_)
  · refine j_lv K [0] (lv' := [(0, .ref a)]) rfl ?_
    exact kX4_init_39 K hr hgl hnm  (mF st 0 s1) (h.1 hc)
  · refine j_lv K [0] (lv' := [(0, .ref a)]) rfl ?_
    exact kX4_init_35 K hr hgl hnm  (mF st 0 s1) (h.2 hc)
theorem kX4_init_25 {p : Program} {l : Launch} {e : Env} {s : State} {m : MethodId} {args : Array Value} {below : List Frame} {meth : Method} {c : Code} {A : Nat → Prop} {D : va_G} {ct : Nat → ClassId} {a b : Nat} {tl : va_W} {G : gE} {t : Nat} {post : Nat × MS → Prop} (K : CX p s m args meth c cX4_init 4 RX4 A D ct G) (hr : meth.sig.returnType = none) (hgl : gHas G t) (hnm : meth.name = "<init>")   (x2 : Int32) (st : MS) (h : wX4_init_25 b post  x2 st) : jJ p l e { frames := 3, cells := 1, slots := 9, locals := 68 } s m args below meth c (MQ below (va_Qv post (fun u : Nat × MS => cB D ct A (RW ct a u.1 tl u.2)) A) args s 1 9 A) A D 4 (RW ct a b tl st) 1 9 25 [(0, .ref a), (2, .int x2)] [.ref a] := by
  unfold wX4_init_25 at h
  refine j_bipush K (6 : Int32) dX4_init_25 (by decide) ?_
  exact kX4_init_27 K hr hgl hnm  x2 (6 : Int32) st h
theorem kX4_init_18 {p : Program} {l : Launch} {e : Env} {s : State} {m : MethodId} {args : Array Value} {below : List Frame} {meth : Method} {c : Code} {A : Nat → Prop} {D : va_G} {ct : Nat → ClassId} {a b : Nat} {tl : va_W} {G : gE} {t : Nat} {post : Nat × MS → Prop} (K : CX p s m args meth c cX4_init 4 RX4 A D ct G) (hr : meth.sig.returnType = none) (hgl : gHas G t) (hnm : meth.name = "<init>")   (x2 : Int32) (st : MS) (h : wX4_init_18 b post  x2 st) : jJ p l e { frames := 3, cells := 1, slots := 9, locals := 68 } s m args below meth c (MQ below (va_Qv post (fun u : Nat × MS => cB D ct A (RW ct a u.1 tl u.2)) A) args s 1 9 A) A D 4 (RW ct a b tl st) 1 9 18 [(0, .ref a), (2, .int x2)] [.ref a] := by
  unfold wX4_init_18 at h
  refine j_lines K hgl dX4_init_18 ?_
  refine j_lineLen K hgl dX4_init_21 ?_
  refine j_goto K 27 dX4_init_22 (by decide) ?_
  exact kX4_init_27 K hr hgl hnm  x2 (8 : Int32) st h
theorem kX4_init_12 {p : Program} {l : Launch} {e : Env} {s : State} {m : MethodId} {args : Array Value} {below : List Frame} {meth : Method} {c : Code} {A : Nat → Prop} {D : va_G} {ct : Nat → ClassId} {a b : Nat} {tl : va_W} {G : gE} {t : Nat} {post : Nat × MS → Prop} (K : CX p s m args meth c cX4_init 4 RX4 A D ct G) (hr : meth.sig.returnType = none) (hgl : gHas G t) (hnm : meth.name = "<init>")   (x1 : Int32) (x2 : Int32) (st : MS) (h : wX4_init_12 b post  x1 x2 st) : jJ p l e { frames := 3, cells := 1, slots := 9, locals := 68 } s m args below meth c (MQ below (va_Qv post (fun u : Nat × MS => cB D ct A (RW ct a u.1 tl u.2)) A) args s 1 9 A) A D 4 (RW ct a b tl st) 1 9 12 [(0, .ref a), (1, .int x1), (2, .int x2)] [] := by
  unfold wX4_init_12 at h
  refine j_aload_n K 0 dX4_init_12 rfl rfl ?_
  refine j_iload_n K 1 dX4_init_13 rfl rfl ?_
  refine j_iconst K (1 : Int32) dX4_init_14 (by decide) ?_
  refine j_icmp_ne K 25 dX4_init_15 (by decide) (fun hc => ?_) (fun hc => ?_)
  · refine j_lv K [0, 2] (lv' := [(0, .ref a), (2, .int x2)]) rfl ?_
    exact kX4_init_25 K hr hgl hnm  x2 st (h.1 hc)
  · refine j_lv K [0, 2] (lv' := [(0, .ref a), (2, .int x2)]) rfl ?_
    exact kX4_init_18 K hr hgl hnm  x2 st (h.2 hc)
theorem ctX4_init {l : Launch} {D : va_G} {ct : Nat → ClassId} {a : Nat} {tl : va_W} {G : gE} {t : Nat} (hG : gOK G) (hgl : gHas G t) (x1 x2 : Int32) (hp : pX4_init x1 x2) : ∀ sz, Met l yX4_init (ws_ yX4_init cX4_init 4 none) { frames := 3, cells := 1, slots := 9, locals := 68 } (va_Pc [.ref a, .int x1, .int x2] (cPre G D ct ((a, .inr (4, [.int 0, .int 0, .null, .null, .null, .null, .int 0])) :: tl) sz)) (va_Qv (fun u : Nat × MS => qX4_init x1 x2 u.2) (fun u : Nat × MS => cB D ct (va_A ((a, .inr (4, [.int 0, .int 0, .null, .null, .null, .null, .int 0])) :: tl) sz) (RW ct a u.1 tl u.2)) (va_A ((a, .inr (4, [.int 0, .int 0, .null, .null, .null, .null, .int 0])) :: tl) sz)) 1 9 (va_A ((a, .inr (4, [.int 0, .int 0, .null, .null, .null, .null, .int 0])) :: tl) sz) := fun sz =>
  j_met (Qc := fun A => va_Qv (fun u : Nat × MS => qX4_init x1 x2 u.2) (fun u : Nat × MS => cB D ct A (RW ct a u.1 tl u.2)) A) (by decide) hG (Nat.le_of_ble_eq_true rfl) (fun p e s m args below meth c A K hr hnm _ => by
    refine j_aload_n K 0 dX4_init_0 rfl rfl ?_
    refine j_objInit K q403 q101 q102 (Nat.le_of_ble_eq_true rfl) (Nat.le_of_ble_eq_true rfl) dX4_init_1 ?_
    refine j_aload_n K 0 dX4_init_4 rfl rfl ?_
    refine j_bipush K (9 : Int32) dX4_init_5 (by decide) ?_
    refine j_newaF K 9 (by decide) (by decide) (Nat.le_of_ble_eq_true rfl) (by dsimp only; omega) (by dsimp only; omega) dX4_init_7 (fun a1_ => ?_)
    refine j_wsEq (ws' := ((a1_, .inl (ct 0, 9, .inl (fun _ => 0))) :: (a, .inr (4, [.int 0, .int 0, .null, .null, .null, .null, .int 0])) :: tl)) rfl ?_
    refine j_putF K in_X5 tyX5 tyX5_ok nmX5 1 rfl rfl 2 (by decide) q516 rfl rfl hnm rfl (ty := .array .int) (by decide +kernel) rfl rfl (Nat.le_of_ble_eq_true rfl) dX4_init_9 ?_
    refine j_wsEq (ws' := ((a1_, .inl (ct 0, 9, .inl (fun _ => 0))) :: (a, .inr (4, [.int 0, .int 0, .ref a1_, .null, .null, .null, .int 0])) :: tl)) rfl ?_
    refine j_wsT [1, 0] (wx := [(a1_, .inl (ct 0, 9, .inl (fun _ => 0))), (a, .inr (4, [.int 0, .int 0, .ref a1_, .null, .null, .null, .int 0]))]) (ws' := [(a, .inr (4, [.int 0, .int 0, .ref a1_, .null, .null, .null, .int 0])), (a1_, .inl (ct 0, 9, .inl (fun _ => 0)))]) (tl := tl) rfl rfl ?_
    refine j_wsEq (ws' := RW ct a a1_ tl rst0) rfl ?_
    exact kX4_init_12 K hr hgl hnm x1 x2 rst0 (vcX4_init a1_ x1 x2 hp))
