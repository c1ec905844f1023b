/-! WALK of MorrisTables, D: printed by gen_mainD.py -/
-- places(IZ)I
theorem kX0_places_37 {p : Program} {l : Launch} {e : Env} {s : State} {m : MethodId} {args : Array Value} {below : List Frame} {meth : Method} {c : Code} {A : Nat → Prop} {D : va_G} {ct : Nat → ClassId} {G : gE} {g : GP} {fx : Nat → Nat} {tl : va_W} {H : HB} {T0 : TB} {post : Int32 → CS → Prop} (K : CX p s m args meth c cX0_places 4 RX0 A D ct G) (hr : meth.sig.returnType = (some .int)) (hgc : gHasC G g)   (x1 : Int32) (S : CS) (mk : Bool) (cc : Nat) (sc : Nat) (h : wX0_places_37 H post  x1 S mk cc sc) : jM p l e s m args below meth c A D ct g fx tl 11 254 4 H T0 post S mk cc sc 37 [(0, .ref (fx 0)), (1, .int x1)] [] := by
  unfold wX0_places_37 at h
  intro T kc ks hh hm hcl hsl
  have hG := K.2.2.2.2.2.2.2.2.2
  refine j_aload_n K 0 dX0_places_37 rfl rfl ?_
  refine j_get K in_X0 0 rfl rfl 1 (by decide) q263 rfl rfl dX0_places_38 ?_
  refine j_iload_n K 1 dX0_places_41 rfl rfl ?_
  obtain ⟨hp, h⟩ := h
  obtain ⟨hrm, h⟩ := h
  refine j_callVv K (As := [.int x1]) (rest := []) (ctC_makeX hG hh.tok hp.1 hp.2) (lw_V q575 q576 q577 q79 q578) (n := 1) (by decide +kernel) ⟨Nat.le_of_ble_eq_true rfl, Nat.le_of_ble_eq_true rfl⟩ 7 rfl rfl rfl rfl rfl (Nat.le_of_ble_eq_true rfl) dX0_places_42 (hh.roomF hm hrm.1 hrm.2) (fun u_42 hq => ?_)
  obtain ⟨S_2, Tu42⟩ := u_42
  obtain ⟨hq, he⟩ := hq
  have hh1 := hh.callF (c' := 1) (s' := (S.1.2.2.2.length + 1)) he
  have hm1 := hm
  have hcl1 := hrm.1
  have hsl1 := hrm.2
  replace h := h S_2 hq
  show jJ p l e _ s m args below meth c _ A D _ (CW ct g.2.1 fx S_2 Tu42 tl) _ _ _ _ _
  refine j_aload_n K 0 dX0_places_45 rfl rfl ?_
  obtain ⟨hp, h⟩ := h
  refine j_callVi K (As := []) (rest := []) (pureM hG (ctX0_others hG hgc hp hh1.tok)) (lw_V q549 q551 qs19 q70 q552) (n := 0) (by decide +kernel) ⟨Nat.le_of_ble_eq_true rfl, Nat.le_of_ble_eq_true rfl⟩ 0 rfl rfl rfl rfl rfl (Nat.le_of_ble_eq_true rfl) dX0_places_46 (hh1.room0 hm1 hcl1 hsl1) (fun r_3 _ hq => ?_)
  have hq : r_3 = (nI (otB (cur S_2.1.2))) := hq
  subst hq
  refine j_callSi K (As := [.int (nI (otB (cur S_2.1.2)))]) (rest := []) (ctJ12_bitCount (l := l) (D := D) (ct := ct) (G := G) (ws := (CW ct g.2.1 fx S_2 Tu42 tl)) hG (nI (otB (cur S_2.1.2)))) (lw_S q581 q423 q90 q424) (n := 1) (by decide +kernel) ⟨Nat.le_of_ble_eq_true rfl, Nat.le_of_ble_eq_true rfl⟩ rfl rfl (Nat.le_of_ble_eq_true rfl) dX0_places_49 (hh1.room0 hm1 hcl1 hsl1) (fun r_4 _ hq => ?_)
  replace h := h r_4 hq
  exact m_iret K hr hh1 hm1 hcl1 hsl1 h dX0_places_52
theorem kX0_places_35 {p : Program} {l : Launch} {e : Env} {s : State} {m : MethodId} {args : Array Value} {below : List Frame} {meth : Method} {c : Code} {A : Nat → Prop} {D : va_G} {ct : Nat → ClassId} {G : gE} {g : GP} {fx : Nat → Nat} {tl : va_W} {H : HB} {T0 : TB} {post : Int32 → CS → Prop} (K : CX p s m args meth c cX0_places 4 RX0 A D ct G) (hr : meth.sig.returnType = (some .int)) (hgc : gHasC G g)   (x3 : Int32) (S : CS) (mk : Bool) (cc : Nat) (sc : Nat) (h : wX0_places_35 H post  x3 S mk cc sc) : jM p l e s m args below meth c A D ct g fx tl 11 254 4 H T0 post S mk cc sc 35 [(3, .int x3)] [] := by
  unfold wX0_places_35 at h
  intro T kc ks hh hm hcl hsl
  have hG := K.2.2.2.2.2.2.2.2.2
  refine j_iload_n K 0 dX0_places_35 rfl rfl ?_
  exact m_iret K hr hh hm hcl hsl h dX0_places_36
theorem kX0_places_26 {p : Program} {l : Launch} {e : Env} {s : State} {m : MethodId} {args : Array Value} {below : List Frame} {meth : Method} {c : Code} {A : Nat → Prop} {D : va_G} {ct : Nat → ClassId} {G : gE} {g : GP} {fx : Nat → Nat} {tl : va_W} {H : HB} {T0 : TB} {post : Int32 → CS → Prop} (K : CX p s m args meth c cX0_places 4 RX0 A D ct G) (hr : meth.sig.returnType = (some .int)) (hgc : gHasC G g)   (x1 : Int32) (x2 : Int32) (s1 : Int32) (S : CS) (mk : Bool) (cc : Nat) (sc : Nat) (h : wX0_places_26 H post  x1 x2 s1 S mk cc sc) : jM p l e s m args below meth c A D ct g fx tl 11 254 4 H T0 post S mk cc sc 26 [(0, .ref (fx 0)), (1, .int x1), (2, .int x2)] [.int s1, .ref (fx 0)] := by
  unfold wX0_places_26 at h
  intro T kc ks hh hm hcl hsl
  have hG := K.2.2.2.2.2.2.2.2.2
  refine j_iload_n K 2 dX0_places_26 rfl rfl ?_
  obtain ⟨hp, h⟩ := h
  obtain ⟨hrm, h⟩ := h
  refine j_callVi K (As := [.int s1, .int x2]) (rest := []) (ctX0_begun hG hgc s1 x2 hp hh.tok) (lw_V q286 q288 qs3 q70 q289) (n := 2) (by decide +kernel) ⟨Nat.le_of_ble_eq_true rfl, Nat.le_of_ble_eq_true rfl⟩ 0 rfl rfl rfl rfl rfl (Nat.le_of_ble_eq_true rfl) dX0_places_27 (hh.roomF hm hrm.1 hrm.2) (fun r_1 u_27 hq => ?_)
  obtain ⟨S_2, Tu27⟩ := u_27
  obtain ⟨hq, he⟩ := hq
  have hh1 := hh.callF (c' := (bgC s1 x2 S)) (s' := (bgS s1 x2 S)) he
  have hm1 := hm
  have hcl1 := hrm.1
  have hsl1 := hrm.2
  replace h := h r_1 S_2 hq
  show jJ p l e _ s m args below meth c _ A D _ (CW ct g.2.1 fx S_2 Tu27 tl) _ _ _ _ _
  refine j_istore_n K [(3, .int r_1), (0, .ref (fx 0)), (1, .int x1), (2, .int x2)] dX0_places_30 rfl (by decide) rfl ?_
  refine j_iload_n K 0 dX0_places_31 rfl rfl ?_
  refine j_if_ge K 37 dX0_places_32 (by decide) (fun hc => ?_) (fun hc => ?_)
  · refine j_lv K [1, 2] (lv' := [(0, .ref (fx 0)), (1, .int x1)]) rfl ?_
    exact kX0_places_37 K hr hgc  x1 S_2 mk (cc + (bgC s1 x2 S)) (sc + (bgS s1 x2 S)) (h.1 hc) _ _ _ hh1 hm1 hcl1 hsl1
  · refine j_lv K [0] (lv' := [(3, .int r_1)]) rfl ?_
    exact kX0_places_35 K hr hgc  r_1 S_2 mk (cc + (bgC s1 x2 S)) (sc + (bgS s1 x2 S)) (h.2 hc) _ _ _ hh1 hm1 hcl1 hsl1
theorem kX0_places_24 {p : Program} {l : Launch} {e : Env} {s : State} {m : MethodId} {args : Array Value} {below : List Frame} {meth : Method} {c : Code} {A : Nat → Prop} {D : va_G} {ct : Nat → ClassId} {G : gE} {g : GP} {fx : Nat → Nat} {tl : va_W} {H : HB} {T0 : TB} {post : Int32 → CS → Prop} (K : CX p s m args meth c cX0_places 4 RX0 A D ct G) (hr : meth.sig.returnType = (some .int)) (hgc : gHasC G g)   (x1 : Int32) (x2 : Int32) (S : CS) (mk : Bool) (cc : Nat) (sc : Nat) (h : wX0_places_24 H post  x1 x2 S mk cc sc) : jM p l e s m args below meth c A D ct g fx tl 11 254 4 H T0 post S mk cc sc 24 [(0, .ref (fx 0)), (1, .int x1), (2, .int x2)] [.ref (fx 0)] := by
  unfold wX0_places_24 at h
  intro T kc ks hh hm hcl hsl
  have hG := K.2.2.2.2.2.2.2.2.2
  refine j_bipush K (-5 : Int32) dX0_places_24 (by decide) ?_
  exact kX0_places_26 K hr hgc  x1 x2 (-5 : Int32) S mk cc sc h _ _ _ hh hm hcl hsl
theorem kX0_places_20 {p : Program} {l : Launch} {e : Env} {s : State} {m : MethodId} {args : Array Value} {below : List Frame} {meth : Method} {c : Code} {A : Nat → Prop} {D : va_G} {ct : Nat → ClassId} {G : gE} {g : GP} {fx : Nat → Nat} {tl : va_W} {H : HB} {T0 : TB} {post : Int32 → CS → Prop} (K : CX p s m args meth c cX0_places 4 RX0 A D ct G) (hr : meth.sig.returnType = (some .int)) (hgc : gHasC G g)   (x1 : Int32) (x2 : Int32) (S : CS) (mk : Bool) (cc : Nat) (sc : Nat) (h : wX0_places_20 H post  x1 x2 S mk cc sc) : jM p l e s m args below meth c A D ct g fx tl 11 254 4 H T0 post S mk cc sc 20 [(0, .ref (fx 0)), (1, .int x1), (2, .int x2)] [.ref (fx 0)] := by
  unfold wX0_places_20 at h
  intro T kc ks hh hm hcl hsl
  have hG := K.2.2.2.2.2.2.2.2.2
  refine j_iconst K (0 : Int32) dX0_places_20 (by decide) ?_
  refine j_goto K 26 dX0_places_21 (by decide) ?_
  exact kX0_places_26 K hr hgc  x1 x2 (0 : Int32) S mk cc sc h _ _ _ hh hm hcl hsl
theorem kX0_places_12 {p : Program} {l : Launch} {e : Env} {s : State} {m : MethodId} {args : Array Value} {below : List Frame} {meth : Method} {c : Code} {A : Nat → Prop} {D : va_G} {ct : Nat → ClassId} {G : gE} {g : GP} {fx : Nat → Nat} {tl : va_W} {H : HB} {T0 : TB} {post : Int32 → CS → Prop} (K : CX p s m args meth c cX0_places 4 RX0 A D ct G) (hr : meth.sig.returnType = (some .int)) (hgc : gHasC G g)   (x1 : Int32) (x2 : Int32) (S : CS) (mk : Bool) (cc : Nat) (sc : Nat) (h : wX0_places_12 H post  x1 x2 S mk cc sc) : jM p l e s m args below meth c A D ct g fx tl 11 254 4 H T0 post S mk cc sc 12 [(0, .ref (fx 0)), (1, .int x1), (2, .int x2)] [.ref (fx 0)] := by
  unfold wX0_places_12 at h
  intro T kc ks hh hm hcl hsl
  have hG := K.2.2.2.2.2.2.2.2.2
  refine j_aload_n K 0 dX0_places_12 rfl rfl ?_
  refine j_iload_n K 1 dX0_places_13 rfl rfl ?_
  obtain ⟨hp, h⟩ := h
  refine j_callVi K (As := [.int x1]) (rest := [.ref (fx 0)]) (ctX0_isMove hG hgc x1 hp.1 hh.tok) (lw_V q357 q359 qs7 q70 q360) (n := 1) (by decide +kernel) ⟨Nat.le_of_ble_eq_true rfl, Nat.le_of_ble_eq_true rfl⟩ 0 rfl rfl rfl rfl rfl (Nat.le_of_ble_eq_true rfl) dX0_places_14 (hh.roomT hm hp.2 hcl hsl) (fun r_14 u_14 hq => ?_)
  obtain ⟨Su14, Tu14⟩ := u_14
  obtain ⟨⟨hq, hq0⟩, he⟩ := hq
  have hq0 : S = Su14 := hq0.symm
  subst hq0
  have hq : r_14 = (b2 (!overG S.1.2 && isMvX S.1.2 x1)) := hq
  subst hq
  have hh1 := hh.callT hp.2.2 he
  have hm1 : true = true → H.1 = true := fun _ => hp.2.1
  show jJ p l e _ s m args below meth c _ A D _ (CW ct g.2.1 fx S Tu14 tl) _ _ _ _ _
  refine j_if_eq K 24 dX0_places_17 (by decide) (fun hc => ?_) (fun hc => ?_)
  · exact kX0_places_24 K hr hgc  x1 x2 S true cc sc (h.1 hc) _ _ _ hh1 hm1 hcl hsl
  · exact kX0_places_20 K hr hgc  x1 x2 S true cc sc (h.2 hc) _ _ _ hh1 hm1 hcl hsl
theorem kX0_places_8 {p : Program} {l : Launch} {e : Env} {s : State} {m : MethodId} {args : Array Value} {below : List Frame} {meth : Method} {c : Code} {A : Nat → Prop} {D : va_G} {ct : Nat → ClassId} {G : gE} {g : GP} {fx : Nat → Nat} {tl : va_W} {H : HB} {T0 : TB} {post : Int32 → CS → Prop} (K : CX p s m args meth c cX0_places 4 RX0 A D ct G) (hr : meth.sig.returnType = (some .int)) (hgc : gHasC G g)   (x1 : Int32) (x2 : Int32) (S : CS) (mk : Bool) (cc : Nat) (sc : Nat) (h : wX0_places_8 H post  x1 x2 S mk cc sc) : jM p l e s m args below meth c A D ct g fx tl 11 254 4 H T0 post S mk cc sc 8 [(0, .ref (fx 0)), (1, .int x1), (2, .int x2)] [.ref (fx 0)] := by
  unfold wX0_places_8 at h
  intro T kc ks hh hm hcl hsl
  have hG := K.2.2.2.2.2.2.2.2.2
  refine j_iconst K (-1 : Int32) dX0_places_8 (by decide) ?_
  refine j_goto K 26 dX0_places_9 (by decide) ?_
  exact kX0_places_26 K hr hgc  x1 x2 (-1 : Int32) S mk cc sc h _ _ _ hh hm hcl hsl
theorem kX0_places_0 {p : Program} {l : Launch} {e : Env} {s : State} {m : MethodId} {args : Array Value} {below : List Frame} {meth : Method} {c : Code} {A : Nat → Prop} {D : va_G} {ct : Nat → ClassId} {G : gE} {g : GP} {fx : Nat → Nat} {tl : va_W} {H : HB} {T0 : TB} {post : Int32 → CS → Prop} (K : CX p s m args meth c cX0_places 4 RX0 A D ct G) (hr : meth.sig.returnType = (some .int)) (hgc : gHasC G g)   (x1 : Int32) (x2 : Int32) (S : CS) (mk : Bool) (cc : Nat) (sc : Nat) (h : wX0_places_0 H post  x1 x2 S mk cc sc) : jM p l e s m args below meth c A D ct g fx tl 11 254 4 H T0 post S mk cc sc 0 [(0, .ref (fx 0)), (1, .int x1), (2, .int x2)] [] := by
  unfold wX0_places_0 at h
  intro T kc ks hh hm hcl hsl
  have hG := K.2.2.2.2.2.2.2.2.2
  refine j_aload_n K 0 dX0_places_0 rfl rfl ?_
  refine j_iload_n K 1 dX0_places_1 rfl rfl ?_
  refine j_callSi K (As := [.int x1]) (rest := [.ref (fx 0)]) (ctX0_isPoint (l := l) (D := D) (ct := ct) (G := G) (ws := (CW ct g.2.1 fx S T tl)) hG x1) (lw_S q354 q355 q70 q356) (n := 1) (by decide +kernel) ⟨Nat.le_of_ble_eq_true rfl, Nat.le_of_ble_eq_true rfl⟩ rfl rfl (Nat.le_of_ble_eq_true rfl) dX0_places_2 (hh.room0 hm hcl hsl) (fun r_1 _ hq => ?_)
  replace h := h r_1 hq
  refine j_if_ne K 12 dX0_places_5 (by decide) (fun hc => ?_) (fun hc => ?_)
  · exact kX0_places_12 K hr hgc  x1 x2 S mk cc sc (h.1 hc) _ _ _ hh hm hcl hsl
  · exact kX0_places_8 K hr hgc  x1 x2 S mk cc sc (h.2 hc) _ _ _ hh hm hcl hsl
theorem ctX0_places {l : Launch} {D : va_G} {ct : Nat → ClassId} {G : gE} {g : GP} {fx : Nat → Nat} {tl : va_W} {S : CS} {T : TB} (hG : gOK G) (hgc : gHasC G g) (x1 : Int32) (x2 : Int32) (hp : cOk S) (hT : tOK T) : mCi l D ct G g fx tl yX0_places (ws_ yX0_places cX0_places 4 (some .int)) 11 254 [.ref (fx 0), .int x1, .int x2] S T (in09 x1) (mvCl (placesG x1 S.1.2) x2 S) (mvSl (placesG x1 S.1.2) x2 S) (fun r S' => mvPo (placesG x1 S.1.2) x2 S r S') := fun sz =>
  j_met (Qc := fun A => va_Qi (fun (r : Int32) (u : CS × TB) => (fun (r : Int32) (S' : CS) => mvPo (placesG x1 S.1.2) x2 S r S') r u.1 ∧ extB (in09 x1) (pS S) T u.2) (fun (u : CS × TB) => cB D ct A (CW ct g.2.1 fx u.1 u.2 tl)) A) (by decide) hG (Nat.le_of_ble_eq_true rfl) (fun p e s m args below meth c A K hr _ _ => kX0_places_0 (H := ((in09 x1), pS S, (mvCl (placesG x1 S.1.2) x2 S), (mvSl (placesG x1 S.1.2) x2 S))) (T0 := T) (post := fun r S' => mvPo (placesG x1 S.1.2) x2 S r S') K hr hgc x1 x2 S false 0 0 (vcX0_places x1 x2 hp) T 0 0 (hid.start hT) (fun z => (by cases z)) (Nat.zero_le _) (Nat.zero_le _))
-- slides(IIZ)I
theorem kX0_slides_67 {p : Program} {l : Launch} {e : Env} {s : State} {m : MethodId} {args : Array Value} {below : List Frame} {meth : Method} {c : Code} {A : Nat → Prop} {D : va_G} {ct : Nat → ClassId} {G : gE} {g : GP} {fx : Nat → Nat} {tl : va_W} {H : HB} {T0 : TB} {post : Int32 → CS → Prop} (K : CX p s m args meth c cX0_slides 6 RX0 A D ct G) (hr : meth.sig.returnType = (some .int)) (hgc : gHasC G g)   (x1 : Int32) (x2 : Int32) (S : CS) (mk : Bool) (cc : Nat) (sc : Nat) (h : wX0_slides_67 H post  x1 x2 S mk cc sc) : jM p l e s m args below meth c A D ct g fx tl 11 254 6 H T0 post S mk cc sc 67 [(0, .ref (fx 0)), (1, .int x1), (2, .int x2)] [] := by
  unfold wX0_slides_67 at h
  intro T kc ks hh hm hcl hsl
  have hG := K.2.2.2.2.2.2.2.2.2
  refine j_aload_n K 0 dX0_slides_67 rfl rfl ?_
  refine j_get K in_X0 0 rfl rfl 1 (by decide) q263 rfl rfl dX0_slides_68 ?_
  refine j_bipush K (9 : Int32) dX0_slides_71 (by decide) ?_
  refine j_bipush K (9 : Int32) dX0_slides_73 (by decide) ?_
  refine j_iload_n K 1 dX0_slides_75 rfl rfl ?_
  refine j_imul K dX0_slides_76 ?_
  refine j_iadd K dX0_slides_77 ?_
  refine j_iload_n K 2 dX0_slides_78 rfl rfl ?_
  refine j_iadd K dX0_slides_79 ?_
  obtain ⟨hp, h⟩ := h
  obtain ⟨hrm, h⟩ := h
  refine j_callVv K (As := [.int (((9 : Int32) + ((9 : Int32) * x1)) + x2)]) (rest := []) (ctC_makeX hG hh.tok hp.1 hp.2) (lw_V q575 q576 q577 q79 q578) (n := 1) (by decide +kernel) ⟨Nat.le_of_ble_eq_true rfl, Nat.le_of_ble_eq_true rfl⟩ 7 rfl rfl rfl rfl rfl (Nat.le_of_ble_eq_true rfl) dX0_slides_80 (hh.roomF hm hrm.1 hrm.2) (fun u_80 hq => ?_)
  obtain ⟨S_2, Tu80⟩ := u_80
  obtain ⟨hq, he⟩ := hq
  have hh1 := hh.callF (c' := 1) (s' := (S.1.2.2.2.length + 1)) he
  have hm1 := hm
  have hcl1 := hrm.1
  have hsl1 := hrm.2
  replace h := h S_2 hq
  show jJ p l e _ s m args below meth c _ A D _ (CW ct g.2.1 fx S_2 Tu80 tl) _ _ _ _ _
  refine j_aload_n K 0 dX0_slides_83 rfl rfl ?_
  refine j_get K in_X0 0 rfl rfl 1 (by decide) q263 rfl rfl dX0_slides_84 ?_
  refine j_getN K in_X2 7 rfl rfl 2 (by decide) (K.fn hgc 2 rfl) rfl rfl dX0_slides_87 ?_
  exact m_iret K hr hh1 hm1 hcl1 hsl1 h dX0_slides_90
theorem kX0_slides_64 {p : Program} {l : Launch} {e : Env} {s : State} {m : MethodId} {args : Array Value} {below : List Frame} {meth : Method} {c : Code} {A : Nat → Prop} {D : va_G} {ct : Nat → ClassId} {G : gE} {g : GP} {fx : Nat → Nat} {tl : va_W} {H : HB} {T0 : TB} {post : Int32 → CS → Prop} (K : CX p s m args meth c cX0_slides 6 RX0 A D ct G) (hr : meth.sig.returnType = (some .int)) (hgc : gHasC G g)   (x5 : Int32) (S : CS) (mk : Bool) (cc : Nat) (sc : Nat) (h : wX0_slides_64 H post  x5 S mk cc sc) : jM p l e s m args below meth c A D ct g fx tl 11 254 6 H T0 post S mk cc sc 64 [(5, .int x5)] [] := by
  unfold wX0_slides_64 at h
  intro T kc ks hh hm hcl hsl
  have hG := K.2.2.2.2.2.2.2.2.2
  refine j_iload K 0 dX0_slides_64 rfl ?_
  exact m_iret K hr hh hm hcl hsl h dX0_slides_66
theorem kX0_slides_53 {p : Program} {l : Launch} {e : Env} {s : State} {m : MethodId} {args : Array Value} {below : List Frame} {meth : Method} {c : Code} {A : Nat → Prop} {D : va_G} {ct : Nat → ClassId} {G : gE} {g : GP} {fx : Nat → Nat} {tl : va_W} {H : HB} {T0 : TB} {post : Int32 → CS → Prop} (K : CX p s m args meth c cX0_slides 6 RX0 A D ct G) (hr : meth.sig.returnType = (some .int)) (hgc : gHasC G g)   (x1 : Int32) (x2 : Int32) (x3 : Int32) (s1 : Int32) (S : CS) (mk : Bool) (cc : Nat) (sc : Nat) (h : wX0_slides_53 H post  x1 x2 x3 s1 S mk cc sc) : jM p l e s m args below meth c A D ct g fx tl 11 254 6 H T0 post S mk cc sc 53 [(0, .ref (fx 0)), (1, .int x1), (2, .int x2), (3, .int x3)] [.int s1, .ref (fx 0)] := by
  unfold wX0_slides_53 at h
  intro T kc ks hh hm hcl hsl
  have hG := K.2.2.2.2.2.2.2.2.2
  refine j_iload_n K 3 dX0_slides_53 rfl rfl ?_
  obtain ⟨hp, h⟩ := h
  obtain ⟨hrm, h⟩ := h
  refine j_callVi K (As := [.int s1, .int x3]) (rest := []) (ctX0_begun hG hgc s1 x3 hp hh.tok) (lw_V q286 q288 qs3 q70 q289) (n := 2) (by decide +kernel) ⟨Nat.le_of_ble_eq_true rfl, Nat.le_of_ble_eq_true rfl⟩ 0 rfl rfl rfl rfl rfl (Nat.le_of_ble_eq_true rfl) dX0_slides_54 (hh.roomF hm hrm.1 hrm.2) (fun r_1 u_54 hq => ?_)
  obtain ⟨S_2, Tu54⟩ := u_54
  obtain ⟨hq, he⟩ := hq
  have hh1 := hh.callF (c' := (bgC s1 x3 S)) (s' := (bgS s1 x3 S)) he
  have hm1 := hm
  have hcl1 := hrm.1
  have hsl1 := hrm.2
  replace h := h r_1 S_2 hq
  show jJ p l e _ s m args below meth c _ A D _ (CW ct g.2.1 fx S_2 Tu54 tl) _ _ _ _ _
  refine j_istore K [(5, .int r_1), (0, .ref (fx 0)), (1, .int x1), (2, .int x2), (3, .int x3)] dX0_slides_57 (by decide) rfl ?_
  refine j_iload K 0 dX0_slides_59 rfl ?_
  refine j_if_ge K 67 dX0_slides_61 (by decide) (fun hc => ?_) (fun hc => ?_)
  · refine j_lv K [1, 2, 3] (lv' := [(0, .ref (fx 0)), (1, .int x1), (2, .int x2)]) rfl ?_
    exact kX0_slides_67 K hr hgc  x1 x2 S_2 mk (cc + (bgC s1 x3 S)) (sc + (bgS s1 x3 S)) (h.1 hc) _ _ _ hh1 hm1 hcl1 hsl1
  · refine j_lv K [0] (lv' := [(5, .int r_1)]) rfl ?_
    exact kX0_slides_64 K hr hgc  r_1 S_2 mk (cc + (bgC s1 x3 S)) (sc + (bgS s1 x3 S)) (h.2 hc) _ _ _ hh1 hm1 hcl1 hsl1
theorem kX0_slides_51 {p : Program} {l : Launch} {e : Env} {s : State} {m : MethodId} {args : Array Value} {below : List Frame} {meth : Method} {c : Code} {A : Nat → Prop} {D : va_G} {ct : Nat → ClassId} {G : gE} {g : GP} {fx : Nat → Nat} {tl : va_W} {H : HB} {T0 : TB} {post : Int32 → CS → Prop} (K : CX p s m args meth c cX0_slides 6 RX0 A D ct G) (hr : meth.sig.returnType = (some .int)) (hgc : gHasC G g)   (x1 : Int32) (x2 : Int32) (x3 : Int32) (S : CS) (mk : Bool) (cc : Nat) (sc : Nat) (h : wX0_slides_51 H post  x1 x2 x3 S mk cc sc) : jM p l e s m args below meth c A D ct g fx tl 11 254 6 H T0 post S mk cc sc 51 [(0, .ref (fx 0)), (1, .int x1), (2, .int x2), (3, .int x3)] [.ref (fx 0)] := by
  unfold wX0_slides_51 at h
  intro T kc ks hh hm hcl hsl
  have hG := K.2.2.2.2.2.2.2.2.2
  refine j_bipush K (-5 : Int32) dX0_slides_51 (by decide) ?_
  exact kX0_slides_53 K hr hgc  x1 x2 x3 (-5 : Int32) S mk cc sc h _ _ _ hh hm hcl hsl
theorem kX0_slides_47 {p : Program} {l : Launch} {e : Env} {s : State} {m : MethodId} {args : Array Value} {below : List Frame} {meth : Method} {c : Code} {A : Nat → Prop} {D : va_G} {ct : Nat → ClassId} {G : gE} {g : GP} {fx : Nat → Nat} {tl : va_W} {H : HB} {T0 : TB} {post : Int32 → CS → Prop} (K : CX p s m args meth c cX0_slides 6 RX0 A D ct G) (hr : meth.sig.returnType = (some .int)) (hgc : gHasC G g)   (x1 : Int32) (x2 : Int32) (x3 : Int32) (S : CS) (mk : Bool) (cc : Nat) (sc : Nat) (h : wX0_slides_47 H post  x1 x2 x3 S mk cc sc) : jM p l e s m args below meth c A D ct g fx tl 11 254 6 H T0 post S mk cc sc 47 [(0, .ref (fx 0)), (1, .int x1), (2, .int x2), (3, .int x3)] [.ref (fx 0)] := by
  unfold wX0_slides_47 at h
  intro T kc ks hh hm hcl hsl
  have hG := K.2.2.2.2.2.2.2.2.2
  refine j_iconst K (0 : Int32) dX0_slides_47 (by decide) ?_
  refine j_goto K 53 dX0_slides_48 (by decide) ?_
  exact kX0_slides_53 K hr hgc  x1 x2 x3 (0 : Int32) S mk cc sc h _ _ _ hh hm hcl hsl
theorem kX0_slides_31 {p : Program} {l : Launch} {e : Env} {s : State} {m : MethodId} {args : Array Value} {below : List Frame} {meth : Method} {c : Code} {A : Nat → Prop} {D : va_G} {ct : Nat → ClassId} {G : gE} {g : GP} {fx : Nat → Nat} {tl : va_W} {H : HB} {T0 : TB} {post : Int32 → CS → Prop} (K : CX p s m args meth c cX0_slides 6 RX0 A D ct G) (hr : meth.sig.returnType = (some .int)) (hgc : gHasC G g)   (x1 : Int32) (x2 : Int32) (x3 : Int32) (S : CS) (mk : Bool) (cc : Nat) (sc : Nat) (h : wX0_slides_31 H post  x1 x2 x3 S mk cc sc) : jM p l e s m args below meth c A D ct g fx tl 11 254 6 H T0 post S mk cc sc 31 [(0, .ref (fx 0)), (1, .int x1), (2, .int x2), (3, .int x3)] [.ref (fx 0)] := by
  unfold wX0_slides_31 at h
  intro T kc ks hh hm hcl hsl
  have hG := K.2.2.2.2.2.2.2.2.2
  refine j_aload_n K 0 dX0_slides_31 rfl rfl ?_
  refine j_bipush K (9 : Int32) dX0_slides_32 (by decide) ?_
  refine j_bipush K (9 : Int32) dX0_slides_34 (by decide) ?_
  refine j_iload_n K 1 dX0_slides_36 rfl rfl ?_
  refine j_imul K dX0_slides_37 ?_
  refine j_iadd K dX0_slides_38 ?_
  refine j_iload_n K 2 dX0_slides_39 rfl rfl ?_
  refine j_iadd K dX0_slides_40 ?_
  obtain ⟨hp, h⟩ := h
  refine j_callVi K (As := [.int (((9 : Int32) + ((9 : Int32) * x1)) + x2)]) (rest := [.ref (fx 0)]) (ctX0_isMove hG hgc (((9 : Int32) + ((9 : Int32) * x1)) + x2) hp.1 hh.tok) (lw_V q357 q359 qs7 q70 q360) (n := 1) (by decide +kernel) ⟨Nat.le_of_ble_eq_true rfl, Nat.le_of_ble_eq_true rfl⟩ 0 rfl rfl rfl rfl rfl (Nat.le_of_ble_eq_true rfl) dX0_slides_41 (hh.roomT hm hp.2 hcl hsl) (fun r_41 u_41 hq => ?_)
  obtain ⟨Su41, Tu41⟩ := u_41
  obtain ⟨⟨hq, hq0⟩, he⟩ := hq
  have hq0 : S = Su41 := hq0.symm
  subst hq0
  have hq : r_41 = (b2 (!overG S.1.2 && isMvX S.1.2 (((9 : Int32) + ((9 : Int32) * x1)) + x2))) := hq
  subst hq
  have hh1 := hh.callT hp.2.2 he
  have hm1 : true = true → H.1 = true := fun _ => hp.2.1
  show jJ p l e _ s m args below meth c _ A D _ (CW ct g.2.1 fx S Tu41 tl) _ _ _ _ _
  refine j_if_eq K 51 dX0_slides_44 (by decide) (fun hc => ?_) (fun hc => ?_)
  · exact kX0_slides_51 K hr hgc  x1 x2 x3 S true cc sc (h.1 hc) _ _ _ hh1 hm1 hcl hsl
  · exact kX0_slides_47 K hr hgc  x1 x2 x3 S true cc sc (h.2 hc) _ _ _ hh1 hm1 hcl hsl
theorem kX0_slides_27 {p : Program} {l : Launch} {e : Env} {s : State} {m : MethodId} {args : Array Value} {below : List Frame} {meth : Method} {c : Code} {A : Nat → Prop} {D : va_G} {ct : Nat → ClassId} {G : gE} {g : GP} {fx : Nat → Nat} {tl : va_W} {H : HB} {T0 : TB} {post : Int32 → CS → Prop} (K : CX p s m args meth c cX0_slides 6 RX0 A D ct G) (hr : meth.sig.returnType = (some .int)) (hgc : gHasC G g)   (x1 : Int32) (x2 : Int32) (x3 : Int32) (S : CS) (mk : Bool) (cc : Nat) (sc : Nat) (h : wX0_slides_27 H post  x1 x2 x3 S mk cc sc) : jM p l e s m args below meth c A D ct g fx tl 11 254 6 H T0 post S mk cc sc 27 [(0, .ref (fx 0)), (1, .int x1), (2, .int x2), (3, .int x3)] [.ref (fx 0)] := by
  unfold wX0_slides_27 at h
  intro T kc ks hh hm hcl hsl
  have hG := K.2.2.2.2.2.2.2.2.2
  refine j_iconst K (-1 : Int32) dX0_slides_27 (by decide) ?_
  refine j_goto K 53 dX0_slides_28 (by decide) ?_
  exact kX0_slides_53 K hr hgc  x1 x2 x3 (-1 : Int32) S mk cc sc h _ _ _ hh hm hcl hsl
theorem kX0_slides_19 {p : Program} {l : Launch} {e : Env} {s : State} {m : MethodId} {args : Array Value} {below : List Frame} {meth : Method} {c : Code} {A : Nat → Prop} {D : va_G} {ct : Nat → ClassId} {G : gE} {g : GP} {fx : Nat → Nat} {tl : va_W} {H : HB} {T0 : TB} {post : Int32 → CS → Prop} (K : CX p s m args meth c cX0_slides 6 RX0 A D ct G) (hr : meth.sig.returnType = (some .int)) (hgc : gHasC G g)   (x1 : Int32) (x2 : Int32) (x3 : Int32) (s0 : Int32) (S : CS) (mk : Bool) (cc : Nat) (sc : Nat) (h : wX0_slides_19 H post  x1 x2 x3 s0 S mk cc sc) : jM p l e s m args below meth c A D ct g fx tl 11 254 6 H T0 post S mk cc sc 19 [(0, .ref (fx 0)), (1, .int x1), (2, .int x2), (3, .int x3)] [.int s0] := by
  unfold wX0_slides_19 at h
  intro T kc ks hh hm hcl hsl
  have hG := K.2.2.2.2.2.2.2.2.2
  refine j_istore K [(4, .int s0), (0, .ref (fx 0)), (1, .int x1), (2, .int x2), (3, .int x3)] dX0_slides_19 (by decide) rfl ?_
  refine j_aload_n K 1 dX0_slides_21 rfl rfl ?_
  refine j_iload K 0 dX0_slides_22 rfl ?_
  refine j_if_ne K 31 dX0_slides_24 (by decide) (fun hc => ?_) (fun hc => ?_)
  · refine j_lv K [1, 2, 3, 4] (lv' := [(0, .ref (fx 0)), (1, .int x1), (2, .int x2), (3, .int x3)]) rfl ?_
    exact kX0_slides_31 K hr hgc  x1 x2 x3 S mk cc sc (h.1 hc) _ _ _ hh hm hcl hsl
  · refine j_lv K [1, 2, 3, 4] (lv' := [(0, .ref (fx 0)), (1, .int x1), (2, .int x2), (3, .int x3)]) rfl ?_
    exact kX0_slides_27 K hr hgc  x1 x2 x3 S mk cc sc (h.2 hc) _ _ _ hh hm hcl hsl
theorem kX0_slides_18 {p : Program} {l : Launch} {e : Env} {s : State} {m : MethodId} {args : Array Value} {below : List Frame} {meth : Method} {c : Code} {A : Nat → Prop} {D : va_G} {ct : Nat → ClassId} {G : gE} {g : GP} {fx : Nat → Nat} {tl : va_W} {H : HB} {T0 : TB} {post : Int32 → CS → Prop} (K : CX p s m args meth c cX0_slides 6 RX0 A D ct G) (hr : meth.sig.returnType = (some .int)) (hgc : gHasC G g)   (x1 : Int32) (x2 : Int32) (x3 : Int32) (S : CS) (mk : Bool) (cc : Nat) (sc : Nat) (h : wX0_slides_18 H post  x1 x2 x3 S mk cc sc) : jM p l e s m args below meth c A D ct g fx tl 11 254 6 H T0 post S mk cc sc 18 [(0, .ref (fx 0)), (1, .int x1), (2, .int x2), (3, .int x3)] [] := by
  unfold wX0_slides_18 at h
  intro T kc ks hh hm hcl hsl
  have hG := K.2.2.2.2.2.2.2.2.2
  refine j_iconst K (0 : Int32) dX0_slides_18 (by decide) ?_
  exact kX0_slides_19 K hr hgc  x1 x2 x3 (0 : Int32) S mk cc sc h _ _ _ hh hm hcl hsl
theorem kX0_slides_14 {p : Program} {l : Launch} {e : Env} {s : State} {m : MethodId} {args : Array Value} {below : List Frame} {meth : Method} {c : Code} {A : Nat → Prop} {D : va_G} {ct : Nat → ClassId} {G : gE} {g : GP} {fx : Nat → Nat} {tl : va_W} {H : HB} {T0 : TB} {post : Int32 → CS → Prop} (K : CX p s m args meth c cX0_slides 6 RX0 A D ct G) (hr : meth.sig.returnType = (some .int)) (hgc : gHasC G g)   (x1 : Int32) (x2 : Int32) (x3 : Int32) (S : CS) (mk : Bool) (cc : Nat) (sc : Nat) (h : wX0_slides_14 H post  x1 x2 x3 S mk cc sc) : jM p l e s m args below meth c A D ct g fx tl 11 254 6 H T0 post S mk cc sc 14 [(0, .ref (fx 0)), (1, .int x1), (2, .int x2), (3, .int x3)] [] := by
  unfold wX0_slides_14 at h
  intro T kc ks hh hm hcl hsl
  have hG := K.2.2.2.2.2.2.2.2.2
  refine j_iconst K (1 : Int32) dX0_slides_14 (by decide) ?_
  refine j_goto K 19 dX0_slides_15 (by decide) ?_
  exact kX0_slides_19 K hr hgc  x1 x2 x3 (1 : Int32) S mk cc sc h _ _ _ hh hm hcl hsl
theorem kX0_slides_7 {p : Program} {l : Launch} {e : Env} {s : State} {m : MethodId} {args : Array Value} {below : List Frame} {meth : Method} {c : Code} {A : Nat → Prop} {D : va_G} {ct : Nat → ClassId} {G : gE} {g : GP} {fx : Nat → Nat} {tl : va_W} {H : HB} {T0 : TB} {post : Int32 → CS → Prop} (K : CX p s m args meth c cX0_slides 6 RX0 A D ct G) (hr : meth.sig.returnType = (some .int)) (hgc : gHasC G g)   (x1 : Int32) (x2 : Int32) (x3 : Int32) (S : CS) (mk : Bool) (cc : Nat) (sc : Nat) (h : wX0_slides_7 H post  x1 x2 x3 S mk cc sc) : jM p l e s m args below meth c A D ct g fx tl 11 254 6 H T0 post S mk cc sc 7 [(0, .ref (fx 0)), (1, .int x1), (2, .int x2), (3, .int x3)] [] := by
  unfold wX0_slides_7 at h
  intro T kc ks hh hm hcl hsl
  have hG := K.2.2.2.2.2.2.2.2.2
  refine j_iload_n K 2 dX0_slides_7 rfl rfl ?_
  refine j_callSi K (As := [.int x2]) (rest := []) (ctX0_isPoint (l := l) (D := D) (ct := ct) (G := G) (ws := (CW ct g.2.1 fx S T tl)) hG x2) (lw_S q354 q355 q70 q356) (n := 1) (by decide +kernel) ⟨Nat.le_of_ble_eq_true rfl, Nat.le_of_ble_eq_true rfl⟩ rfl rfl (Nat.le_of_ble_eq_true rfl) dX0_slides_8 (hh.room0 hm hcl hsl) (fun r_1 _ hq => ?_)
  replace h := h r_1 hq
  refine j_if_eq K 18 dX0_slides_11 (by decide) (fun hc => ?_) (fun hc => ?_)
  · exact kX0_slides_18 K hr hgc  x1 x2 x3 S mk cc sc (h.1 hc) _ _ _ hh hm hcl hsl
  · exact kX0_slides_14 K hr hgc  x1 x2 x3 S mk cc sc (h.2 hc) _ _ _ hh hm hcl hsl
theorem kX0_slides_0 {p : Program} {l : Launch} {e : Env} {s : State} {m : MethodId} {args : Array Value} {below : List Frame} {meth : Method} {c : Code} {A : Nat → Prop} {D : va_G} {ct : Nat → ClassId} {G : gE} {g : GP} {fx : Nat → Nat} {tl : va_W} {H : HB} {T0 : TB} {post : Int32 → CS → Prop} (K : CX p s m args meth c cX0_slides 6 RX0 A D ct G) (hr : meth.sig.returnType = (some .int)) (hgc : gHasC G g)   (x1 : Int32) (x2 : Int32) (x3 : Int32) (S : CS) (mk : Bool) (cc : Nat) (sc : Nat) (h : wX0_slides_0 H post  x1 x2 x3 S mk cc sc) : jM p l e s m args below meth c A D ct g fx tl 11 254 6 H T0 post S mk cc sc 0 [(0, .ref (fx 0)), (1, .int x1), (2, .int x2), (3, .int x3)] [] := by
  unfold wX0_slides_0 at h
  intro T kc ks hh hm hcl hsl
  have hG := K.2.2.2.2.2.2.2.2.2
  refine j_iload_n K 1 dX0_slides_0 rfl rfl ?_
  refine j_callSi K (As := [.int x1]) (rest := []) (ctX0_isPoint (l := l) (D := D) (ct := ct) (G := G) (ws := (CW ct g.2.1 fx S T tl)) hG x1) (lw_S q354 q355 q70 q356) (n := 1) (by decide +kernel) ⟨Nat.le_of_ble_eq_true rfl, Nat.le_of_ble_eq_true rfl⟩ rfl rfl (Nat.le_of_ble_eq_true rfl) dX0_slides_1 (hh.room0 hm hcl hsl) (fun r_1 _ hq => ?_)
  replace h := h r_1 hq
  refine j_if_eq K 18 dX0_slides_4 (by decide) (fun hc => ?_) (fun hc => ?_)
  · exact kX0_slides_18 K hr hgc  x1 x2 x3 S mk cc sc (h.1 hc) _ _ _ hh hm hcl hsl
  · exact kX0_slides_7 K hr hgc  x1 x2 x3 S mk cc sc (h.2 hc) _ _ _ hh hm hcl hsl
theorem ctX0_slides {l : Launch} {D : va_G} {ct : Nat → ClassId} {G : gE} {g : GP} {fx : Nat → Nat} {tl : va_W} {S : CS} {T : TB} (hG : gOK G) (hgc : gHasC G g) (x1 : Int32) (x2 : Int32) (x3 : Int32) (hp : cOk S) (hT : tOK T) : mCi l D ct G g fx tl yX0_slides (ws_ yX0_slides cX0_slides 6 (some .int)) 11 254 [.ref (fx 0), .int x1, .int x2, .int x3] S T (in09 x1 && in09 x2) (mvCl (slidesG x1 x2 S.1.2) x3 S) (mvSl (slidesG x1 x2 S.1.2) x3 S) (fun r S' => mvPo (slidesG x1 x2 S.1.2) x3 S r S') := fun sz =>
  j_met (Qc := fun A => va_Qi (fun (r : Int32) (u : CS × TB) => (fun (r : Int32) (S' : CS) => mvPo (slidesG x1 x2 S.1.2) x3 S r S') r u.1 ∧ extB (in09 x1 && in09 x2) (pS S) T u.2) (fun (u : CS × TB) => cB D ct A (CW ct g.2.1 fx u.1 u.2 tl)) A) (by decide) hG (Nat.le_of_ble_eq_true rfl) (fun p e s m args below meth c A K hr _ _ => kX0_slides_0 (H := ((in09 x1 && in09 x2), pS S, (mvCl (slidesG x1 x2 S.1.2) x3 S), (mvSl (slidesG x1 x2 S.1.2) x3 S))) (T0 := T) (post := fun r S' => mvPo (slidesG x1 x2 S.1.2) x3 S r S') K hr hgc x1 x2 x3 S false 0 0 (vcX0_slides x1 x2 x3 hp) T 0 0 (hid.start hT) (fun z => (by cases z)) (Nat.zero_le _) (Nat.zero_le _))
-- passes(Z)I
theorem kX0_passes_27 {p : Program} {l : Launch} {e : Env} {s : State} {m : MethodId} {args : Array Value} {below : List Frame} {meth : Method} {c : Code} {A : Nat → Prop} {D : va_G} {ct : Nat → ClassId} {G : gE} {g : GP} {fx : Nat → Nat} {tl : va_W} {H : HB} {T0 : TB} {post : Int32 → CS → Prop} (K : CX p s m args meth c cX0_passes 3 RX0 A D ct G) (hr : meth.sig.returnType = (some .int)) (hgc : gHasC G g)    (S : CS) (mk : Bool) (cc : Nat) (sc : Nat) (h : wX0_passes_27 H post  S mk cc sc) : jM p l e s m args below meth c A D ct g fx tl 11 254 3 H T0 post S mk cc sc 27 [(0, .ref (fx 0))] [] := by
  unfold wX0_passes_27 at h
  intro T kc ks hh hm hcl hsl
  have hG := K.2.2.2.2.2.2.2.2.2
  refine j_aload_n K 0 dX0_passes_27 rfl rfl ?_
  refine j_get K in_X0 0 rfl rfl 1 (by decide) q263 rfl rfl dX0_passes_28 ?_
  refine j_bipush K (90 : Int32) dX0_passes_31 (by decide) ?_
  obtain ⟨hp, h⟩ := h
  obtain ⟨hrm, h⟩ := h
  refine j_callVv K (As := [.int (90 : Int32)]) (rest := []) (ctC_makeX hG hh.tok hp.1 hp.2) (lw_V q575 q576 q577 q79 q578) (n := 1) (by decide +kernel) ⟨Nat.le_of_ble_eq_true rfl, Nat.le_of_ble_eq_true rfl⟩ 7 rfl rfl rfl rfl rfl (Nat.le_of_ble_eq_true rfl) dX0_passes_33 (hh.roomF hm hrm.1 hrm.2) (fun u_33 hq => ?_)
  obtain ⟨S_2, Tu33⟩ := u_33
  obtain ⟨hq, he⟩ := hq
  have hh1 := hh.callF (c' := 1) (s' := (S.1.2.2.2.length + 1)) he
  have hm1 := hm
  have hcl1 := hrm.1
  have hsl1 := hrm.2
  replace h := h S_2 hq
  show jJ p l e _ s m args below meth c _ A D _ (CW ct g.2.1 fx S_2 Tu33 tl) _ _ _ _ _
  refine j_aload_n K 0 dX0_passes_36 rfl rfl ?_
  refine j_get K in_X0 0 rfl rfl 1 (by decide) q263 rfl rfl dX0_passes_37 ?_
  refine j_getN K in_X2 7 rfl rfl 2 (by decide) (K.fn hgc 2 rfl) rfl rfl dX0_passes_40 ?_
  exact m_iret K hr hh1 hm1 hcl1 hsl1 h dX0_passes_43
theorem kX0_passes_25 {p : Program} {l : Launch} {e : Env} {s : State} {m : MethodId} {args : Array Value} {below : List Frame} {meth : Method} {c : Code} {A : Nat → Prop} {D : va_G} {ct : Nat → ClassId} {G : gE} {g : GP} {fx : Nat → Nat} {tl : va_W} {H : HB} {T0 : TB} {post : Int32 → CS → Prop} (K : CX p s m args meth c cX0_passes 3 RX0 A D ct G) (hr : meth.sig.returnType = (some .int)) (hgc : gHasC G g)   (x2 : Int32) (S : CS) (mk : Bool) (cc : Nat) (sc : Nat) (h : wX0_passes_25 H post  x2 S mk cc sc) : jM p l e s m args below meth c A D ct g fx tl 11 254 3 H T0 post S mk cc sc 25 [(2, .int x2)] [] := by
  unfold wX0_passes_25 at h
  intro T kc ks hh hm hcl hsl
  have hG := K.2.2.2.2.2.2.2.2.2
  refine j_iload_n K 0 dX0_passes_25 rfl rfl ?_
  exact m_iret K hr hh hm hcl hsl h dX0_passes_26
theorem kX0_passes_16 {p : Program} {l : Launch} {e : Env} {s : State} {m : MethodId} {args : Array Value} {below : List Frame} {meth : Method} {c : Code} {A : Nat → Prop} {D : va_G} {ct : Nat → ClassId} {G : gE} {g : GP} {fx : Nat → Nat} {tl : va_W} {H : HB} {T0 : TB} {post : Int32 → CS → Prop} (K : CX p s m args meth c cX0_passes 3 RX0 A D ct G) (hr : meth.sig.returnType = (some .int)) (hgc : gHasC G g)   (x1 : Int32) (s1 : Int32) (S : CS) (mk : Bool) (cc : Nat) (sc : Nat) (h : wX0_passes_16 H post  x1 s1 S mk cc sc) : jM p l e s m args below meth c A D ct g fx tl 11 254 3 H T0 post S mk cc sc 16 [(0, .ref (fx 0)), (1, .int x1)] [.int s1, .ref (fx 0)] := by
  unfold wX0_passes_16 at h
  intro T kc ks hh hm hcl hsl
  have hG := K.2.2.2.2.2.2.2.2.2
  refine j_iload_n K 1 dX0_passes_16 rfl rfl ?_
  obtain ⟨hp, h⟩ := h
  obtain ⟨hrm, h⟩ := h
  refine j_callVi K (As := [.int s1, .int x1]) (rest := []) (ctX0_begun hG hgc s1 x1 hp hh.tok) (lw_V q286 q288 qs3 q70 q289) (n := 2) (by decide +kernel) ⟨Nat.le_of_ble_eq_true rfl, Nat.le_of_ble_eq_true rfl⟩ 0 rfl rfl rfl rfl rfl (Nat.le_of_ble_eq_true rfl) dX0_passes_17 (hh.roomF hm hrm.1 hrm.2) (fun r_1 u_17 hq => ?_)
  obtain ⟨S_2, Tu17⟩ := u_17
  obtain ⟨hq, he⟩ := hq
  have hh1 := hh.callF (c' := (bgC s1 x1 S)) (s' := (bgS s1 x1 S)) he
  have hm1 := hm
  have hcl1 := hrm.1
  have hsl1 := hrm.2
  replace h := h r_1 S_2 hq
  show jJ p l e _ s m args below meth c _ A D _ (CW ct g.2.1 fx S_2 Tu17 tl) _ _ _ _ _
  refine j_istore_n K [(2, .int r_1), (0, .ref (fx 0)), (1, .int x1)] dX0_passes_20 rfl (by decide) rfl ?_
  refine j_iload_n K 0 dX0_passes_21 rfl rfl ?_
  refine j_if_ge K 27 dX0_passes_22 (by decide) (fun hc => ?_) (fun hc => ?_)
  · refine j_lv K [1] (lv' := [(0, .ref (fx 0))]) rfl ?_
    exact kX0_passes_27 K hr hgc  S_2 mk (cc + (bgC s1 x1 S)) (sc + (bgS s1 x1 S)) (h.1 hc) _ _ _ hh1 hm1 hcl1 hsl1
  · refine j_lv K [0] (lv' := [(2, .int r_1)]) rfl ?_
    exact kX0_passes_25 K hr hgc  r_1 S_2 mk (cc + (bgC s1 x1 S)) (sc + (bgS s1 x1 S)) (h.2 hc) _ _ _ hh1 hm1 hcl1 hsl1
theorem kX0_passes_14 {p : Program} {l : Launch} {e : Env} {s : State} {m : MethodId} {args : Array Value} {below : List Frame} {meth : Method} {c : Code} {A : Nat → Prop} {D : va_G} {ct : Nat → ClassId} {G : gE} {g : GP} {fx : Nat → Nat} {tl : va_W} {H : HB} {T0 : TB} {post : Int32 → CS → Prop} (K : CX p s m args meth c cX0_passes 3 RX0 A D ct G) (hr : meth.sig.returnType = (some .int)) (hgc : gHasC G g)   (x1 : Int32) (S : CS) (mk : Bool) (cc : Nat) (sc : Nat) (h : wX0_passes_14 H post  x1 S mk cc sc) : jM p l e s m args below meth c A D ct g fx tl 11 254 3 H T0 post S mk cc sc 14 [(0, .ref (fx 0)), (1, .int x1)] [.ref (fx 0)] := by
  unfold wX0_passes_14 at h
  intro T kc ks hh hm hcl hsl
  have hG := K.2.2.2.2.2.2.2.2.2
  refine j_bipush K (-5 : Int32) dX0_passes_14 (by decide) ?_
  exact kX0_passes_16 K hr hgc  x1 (-5 : Int32) S mk cc sc h _ _ _ hh hm hcl hsl
theorem kX0_passes_10 {p : Program} {l : Launch} {e : Env} {s : State} {m : MethodId} {args : Array Value} {below : List Frame} {meth : Method} {c : Code} {A : Nat → Prop} {D : va_G} {ct : Nat → ClassId} {G : gE} {g : GP} {fx : Nat → Nat} {tl : va_W} {H : HB} {T0 : TB} {post : Int32 → CS → Prop} (K : CX p s m args meth c cX0_passes 3 RX0 A D ct G) (hr : meth.sig.returnType = (some .int)) (hgc : gHasC G g)   (x1 : Int32) (S : CS) (mk : Bool) (cc : Nat) (sc : Nat) (h : wX0_passes_10 H post  x1 S mk cc sc) : jM p l e s m args below meth c A D ct g fx tl 11 254 3 H T0 post S mk cc sc 10 [(0, .ref (fx 0)), (1, .int x1)] [.ref (fx 0)] := by
  unfold wX0_passes_10 at h
  intro T kc ks hh hm hcl hsl
  have hG := K.2.2.2.2.2.2.2.2.2
  refine j_iconst K (0 : Int32) dX0_passes_10 (by decide) ?_
  refine j_goto K 16 dX0_passes_11 (by decide) ?_
  exact kX0_passes_16 K hr hgc  x1 (0 : Int32) S mk cc sc h _ _ _ hh hm hcl hsl
theorem kX0_passes_0 {p : Program} {l : Launch} {e : Env} {s : State} {m : MethodId} {args : Array Value} {below : List Frame} {meth : Method} {c : Code} {A : Nat → Prop} {D : va_G} {ct : Nat → ClassId} {G : gE} {g : GP} {fx : Nat → Nat} {tl : va_W} {H : HB} {T0 : TB} {post : Int32 → CS → Prop} (K : CX p s m args meth c cX0_passes 3 RX0 A D ct G) (hr : meth.sig.returnType = (some .int)) (hgc : gHasC G g)   (x1 : Int32) (S : CS) (mk : Bool) (cc : Nat) (sc : Nat) (h : wX0_passes_0 H post  x1 S mk cc sc) : jM p l e s m args below meth c A D ct g fx tl 11 254 3 H T0 post S mk cc sc 0 [(0, .ref (fx 0)), (1, .int x1)] [] := by
  unfold wX0_passes_0 at h
  intro T kc ks hh hm hcl hsl
  have hG := K.2.2.2.2.2.2.2.2.2
  refine j_aload_n K 0 dX0_passes_0 rfl rfl ?_
  refine j_aload_n K 0 dX0_passes_1 rfl rfl ?_
  refine j_bipush K (90 : Int32) dX0_passes_2 (by decide) ?_
  obtain ⟨hp, h⟩ := h
  refine j_callVi K (As := [.int (90 : Int32)]) (rest := [.ref (fx 0)]) (ctX0_isMove hG hgc (90 : Int32) hp.1 hh.tok) (lw_V q357 q359 qs7 q70 q360) (n := 1) (by decide +kernel) ⟨Nat.le_of_ble_eq_true rfl, Nat.le_of_ble_eq_true rfl⟩ 0 rfl rfl rfl rfl rfl (Nat.le_of_ble_eq_true rfl) dX0_passes_4 (hh.roomT hm hp.2 hcl hsl) (fun r_4 u_4 hq => ?_)
  obtain ⟨Su4, Tu4⟩ := u_4
  obtain ⟨⟨hq, hq0⟩, he⟩ := hq
  have hq0 : S = Su4 := hq0.symm
  subst hq0
  have hq : r_4 = (b2 (!overG S.1.2 && isMvX S.1.2 (90 : Int32))) := hq
  subst hq
  have hh1 := hh.callT hp.2.2 he
  have hm1 : true = true → H.1 = true := fun _ => hp.2.1
  show jJ p l e _ s m args below meth c _ A D _ (CW ct g.2.1 fx S Tu4 tl) _ _ _ _ _
  refine j_if_eq K 14 dX0_passes_7 (by decide) (fun hc => ?_) (fun hc => ?_)
  · exact kX0_passes_14 K hr hgc  x1 S true cc sc (h.1 hc) _ _ _ hh1 hm1 hcl hsl
  · exact kX0_passes_10 K hr hgc  x1 S true cc sc (h.2 hc) _ _ _ hh1 hm1 hcl hsl
theorem ctX0_passes {l : Launch} {D : va_G} {ct : Nat → ClassId} {G : gE} {g : GP} {fx : Nat → Nat} {tl : va_W} {S : CS} {T : TB} (hG : gOK G) (hgc : gHasC G g) (x1 : Int32) (hp : cOk S) (hT : tOK T) : mCi l D ct G g fx tl yX0_passes (ws_ yX0_passes cX0_passes 3 (some .int)) 11 254 [.ref (fx 0), .int x1] S T true (mvCl (mvsG 90 false S.1.2) x1 S) (mvSl (mvsG 90 false S.1.2) x1 S) (fun r S' => mvPo (mvsG 90 false S.1.2) x1 S r S') := fun sz =>
  j_met (Qc := fun A => va_Qi (fun (r : Int32) (u : CS × TB) => (fun (r : Int32) (S' : CS) => mvPo (mvsG 90 false S.1.2) x1 S r S') r u.1 ∧ extB true (pS S) T u.2) (fun (u : CS × TB) => cB D ct A (CW ct g.2.1 fx u.1 u.2 tl)) A) (by decide) hG (Nat.le_of_ble_eq_true rfl) (fun p e s m args below meth c A K hr _ _ => kX0_passes_0 (H := (true, pS S, (mvCl (mvsG 90 false S.1.2) x1 S), (mvSl (mvsG 90 false S.1.2) x1 S))) (T0 := T) (post := fun r S' => mvPo (mvsG 90 false S.1.2) x1 S r S') K hr hgc x1 S false 0 0 (vcX0_passes x1 hp) T 0 0 (hid.start hT) (fun z => (by cases z)) (Nat.zero_le _) (Nat.zero_le _))
-- plays(IZ)I
theorem kX0_plays_73 {p : Program} {l : Launch} {e : Env} {s : State} {m : MethodId} {args : Array Value} {below : List Frame} {meth : Method} {c : Code} {A : Nat → Prop} {D : va_G} {ct : Nat → ClassId} {G : gE} {g : GP} {fx : Nat → Nat} {tl : va_W} {H : HB} {T0 : TB} {post : Int32 → CS → Prop} (K : CX p s m args meth c cX0_plays 5 RX0 A D ct G) (hr : meth.sig.returnType = (some .int)) (hgc : gHasC G g)   (x4 : Int32) (S : CS) (mk : Bool) (cc : Nat) (sc : Nat) (h : wX0_plays_73 H post  x4 S mk cc sc) : jM p l e s m args below meth c A D ct g fx tl 10 237 5 H T0 post S mk cc sc 73 [(4, .int x4)] [] := by
  unfold wX0_plays_73 at h
  intro T kc ks hh hm hcl hsl
  have hG := K.2.2.2.2.2.2.2.2.2
  refine j_iload K 0 dX0_plays_73 rfl ?_
  exact m_iret K hr hh hm hcl hsl h dX0_plays_75
theorem kX0_plays_56 {p : Program} {l : Launch} {e : Env} {s : State} {m : MethodId} {args : Array Value} {below : List Frame} {meth : Method} {c : Code} {A : Nat → Prop} {D : va_G} {ct : Nat → ClassId} {G : gE} {g : GP} {fx : Nat → Nat} {tl : va_W} {H : HB} {T0 : TB} {post : Int32 → CS → Prop} (K : CX p s m args meth c cX0_plays 5 RX0 A D ct G) (hr : meth.sig.returnType = (some .int)) (hgc : gHasC G g) (L43 : Int32 → Int32 → CS → Bool → Nat → Nat → Prop) (hL43 : ∀ (x1 : Int32) (x4 : Int32) (S : CS) (mk : Bool) (cc : Nat) (sc : Nat), L43 x1 x4 S mk cc sc → jM p l e s m args below meth c A D ct g fx tl 10 237 5 H T0 post S mk cc sc 43 [(0, .ref (fx 0)), (1, .int x1), (4, .int x4)] []) (x1 : Int32) (x4 : Int32) (S : CS) (mk : Bool) (cc : Nat) (sc : Nat) (h : wX0_plays_56 H post L43 x1 x4 S mk cc sc) : jM p l e s m args below meth c A D ct g fx tl 10 237 5 H T0 post S mk cc sc 56 [(0, .ref (fx 0)), (1, .int x1), (4, .int x4)] [] := by
  unfold wX0_plays_56 at h
  intro T kc ks hh hm hcl hsl
  have hG := K.2.2.2.2.2.2.2.2.2
  refine j_aload_n K 0 dX0_plays_56 rfl rfl ?_
  refine j_get K in_X0 0 rfl rfl 1 (by decide) q263 rfl rfl dX0_plays_57 ?_
  refine j_aload_n K 0 dX0_plays_60 rfl rfl ?_
  obtain ⟨hp, h⟩ := h
  obtain ⟨ho, h⟩ := h
  refine j_callVi K (As := []) (rest := [.ref (S.1.1 0)]) (ctX0_bestMove hG hgc hp.1 ho hh.tok) (lw_V q606 q608 qs23 q70 q609) (n := 0) (by decide +kernel) ⟨Nat.le_of_ble_eq_true rfl, Nat.le_of_ble_eq_true rfl⟩ 0 rfl rfl rfl rfl rfl (Nat.le_of_ble_eq_true rfl) dX0_plays_61 (hh.roomT hm hp.2 hcl hsl) (fun r_61 u_61 hq => ?_)
  obtain ⟨Su61, Tu61⟩ := u_61
  obtain ⟨⟨hq, hq0⟩, he⟩ := hq
  have hq0 : S = Su61 := hq0.symm
  subst hq0
  have hq : r_61 = (nI (bestG S.1.2)) := hq
  subst hq
  have hh1 := hh.callT hp.2.2 he
  have hm1 : true = true → H.1 = true := fun _ => hp.2.1
  show jJ p l e _ s m args below meth c _ A D _ (CW ct g.2.1 fx S Tu61 tl) _ _ _ _ _
  obtain ⟨hp, h⟩ := h
  obtain ⟨hrm, h⟩ := h
  refine j_callVv K (As := [.int (nI (bestG S.1.2))]) (rest := []) (ctC_makeX hG hh1.tok hp.1 hp.2) (lw_V q575 q576 q577 q79 q578) (n := 1) (by decide +kernel) ⟨Nat.le_of_ble_eq_true rfl, Nat.le_of_ble_eq_true rfl⟩ 7 rfl rfl rfl rfl rfl (Nat.le_of_ble_eq_true rfl) dX0_plays_64 (hh1.roomF hm1 hrm.1 hrm.2) (fun u_64 hq => ?_)
  obtain ⟨S_2, Tu64⟩ := u_64
  obtain ⟨hq, he⟩ := hq
  have hh2 := hh1.callF (c' := 1) (s' := (S.1.2.2.2.length + 1)) he
  have hm2 := hm1
  have hcl2 := hrm.1
  have hsl2 := hrm.2
  replace h := h S_2 hq
  show jJ p l e _ s m args below meth c _ A D _ (CW ct g.2.1 fx S_2 Tu64 tl) _ _ _ _ _
  refine j_iinc K 2 (x4 + (1 : Int32)) [(4, .int (x4 + (1 : Int32))), (0, .ref (fx 0)), (1, .int x1)] dX0_plays_67 rfl rfl (by decide) rfl ?_
  refine j_goto K 43 dX0_plays_70 (by decide) ?_
  refine j_lv K [1, 2, 0] (lv' := [(0, .ref (fx 0)), (1, .int x1), (4, .int (x4 + (1 : Int32)))]) rfl ?_
  exact hL43 x1 (x4 + (1 : Int32)) S_2 true (cc + 1) (sc + (S.1.2.2.2.length + 1)) h _ _ _ hh2 hm2 hcl2 hsl2
theorem kX0_plays_49 {p : Program} {l : Launch} {e : Env} {s : State} {m : MethodId} {args : Array Value} {below : List Frame} {meth : Method} {c : Code} {A : Nat → Prop} {D : va_G} {ct : Nat → ClassId} {G : gE} {g : GP} {fx : Nat → Nat} {tl : va_W} {H : HB} {T0 : TB} {post : Int32 → CS → Prop} (K : CX p s m args meth c cX0_plays 5 RX0 A D ct G) (hr : meth.sig.returnType = (some .int)) (hgc : gHasC G g) (L43 : Int32 → Int32 → CS → Bool → Nat → Nat → Prop) (hL43 : ∀ (x1 : Int32) (x4 : Int32) (S : CS) (mk : Bool) (cc : Nat) (sc : Nat), L43 x1 x4 S mk cc sc → jM p l e s m args below meth c A D ct g fx tl 10 237 5 H T0 post S mk cc sc 43 [(0, .ref (fx 0)), (1, .int x1), (4, .int x4)] []) (x1 : Int32) (x4 : Int32) (S : CS) (mk : Bool) (cc : Nat) (sc : Nat) (h : wX0_plays_49 H post L43 x1 x4 S mk cc sc) : jM p l e s m args below meth c A D ct g fx tl 10 237 5 H T0 post S mk cc sc 49 [(0, .ref (fx 0)), (1, .int x1), (4, .int x4)] [] := by
  unfold wX0_plays_49 at h
  intro T kc ks hh hm hcl hsl
  have hG := K.2.2.2.2.2.2.2.2.2
  refine j_aload_n K 0 dX0_plays_49 rfl rfl ?_
  obtain ⟨hp, h⟩ := h
  refine j_callVi K (As := []) (rest := []) (ctX0_isOver hG hgc hp.1 hh.tok) (lw_V q361 q363 qs8 q70 q364) (n := 0) (by decide +kernel) ⟨Nat.le_of_ble_eq_true rfl, Nat.le_of_ble_eq_true rfl⟩ 0 rfl rfl rfl rfl rfl (Nat.le_of_ble_eq_true rfl) dX0_plays_50 (hh.roomT hm hp.2 hcl hsl) (fun r_50 u_50 hq => ?_)
  obtain ⟨Su50, Tu50⟩ := u_50
  obtain ⟨⟨hq, hq0⟩, he⟩ := hq
  have hq0 : S = Su50 := hq0.symm
  subst hq0
  have hq : r_50 = (b2 (overG S.1.2)) := hq
  subst hq
  have hh1 := hh.callT hp.2.2 he
  have hm1 : true = true → H.1 = true := fun _ => hp.2.1
  show jJ p l e _ s m args below meth c _ A D _ (CW ct g.2.1 fx S Tu50 tl) _ _ _ _ _
  refine j_if_ne K 73 dX0_plays_53 (by decide) (fun hc => ?_) (fun hc => ?_)
  · refine j_lv K [2] (lv' := [(4, .int x4)]) rfl ?_
    exact kX0_plays_73 K hr hgc  x4 S true cc sc (h.1 hc) _ _ _ hh1 hm1 hcl hsl
  · exact kX0_plays_56 K hr hgc L43 hL43 x1 x4 S true cc sc (h.2 hc) _ _ _ hh1 hm1 hcl hsl
theorem kX0_plays_43_b {p : Program} {l : Launch} {e : Env} {s : State} {m : MethodId} {args : Array Value} {below : List Frame} {meth : Method} {c : Code} {A : Nat → Prop} {D : va_G} {ct : Nat → ClassId} {G : gE} {g : GP} {fx : Nat → Nat} {tl : va_W} {H : HB} {T0 : TB} {post : Int32 → CS → Prop} (K : CX p s m args meth c cX0_plays 5 RX0 A D ct G) (hr : meth.sig.returnType = (some .int)) (hgc : gHasC G g) (L43 : Int32 → Int32 → CS → Bool → Nat → Nat → Prop) (hL43 : ∀ (x1 : Int32) (x4 : Int32) (S : CS) (mk : Bool) (cc : Nat) (sc : Nat), L43 x1 x4 S mk cc sc → jM p l e s m args below meth c A D ct g fx tl 10 237 5 H T0 post S mk cc sc 43 [(0, .ref (fx 0)), (1, .int x1), (4, .int x4)] []) (x1 : Int32) (x4 : Int32) (S : CS) (mk : Bool) (cc : Nat) (sc : Nat) (h : wX0_plays_43_b H post L43 x1 x4 S mk cc sc) : jM p l e s m args below meth c A D ct g fx tl 10 237 5 H T0 post S mk cc sc 43 [(0, .ref (fx 0)), (1, .int x1), (4, .int x4)] [] := by
  unfold wX0_plays_43_b at h
  intro T kc ks hh hm hcl hsl
  have hG := K.2.2.2.2.2.2.2.2.2
  refine j_iload K 2 dX0_plays_43 rfl ?_
  refine j_iload_n K 1 dX0_plays_45 rfl rfl ?_
  refine j_icmp_ge K 73 dX0_plays_46 (by decide) (fun hc => ?_) (fun hc => ?_)
  · refine j_lv K [2] (lv' := [(4, .int x4)]) rfl ?_
    exact kX0_plays_73 K hr hgc  x4 S mk cc sc (h.1 hc) _ _ _ hh hm hcl hsl
  · exact kX0_plays_49 K hr hgc L43 hL43 x1 x4 S mk cc sc (h.2 hc) _ _ _ hh hm hcl hsl
theorem kX0_plays_43 {p : Program} {l : Launch} {e : Env} {s : State} {m : MethodId} {args : Array Value} {below : List Frame} {meth : Method} {c : Code} {A : Nat → Prop} {D : va_G} {ct : Nat → ClassId} {G : gE} {g : GP} {fx : Nat → Nat} {tl : va_W} {H : HB} {T0 : TB} {post : Int32 → CS → Prop} (K : CX p s m args meth c cX0_plays 5 RX0 A D ct G) (hr : meth.sig.returnType = (some .int)) (hgc : gHasC G g)   (x1 : Int32) (x4 : Int32) (S : CS) (mk : Bool) (cc : Nat) (sc : Nat) (h : wX0_plays_43 H post  x1 x4 S mk cc sc) : jM p l e s m args below meth c A D ct g fx tl 10 237 5 H T0 post S mk cc sc 43 [(0, .ref (fx 0)), (1, .int x1), (4, .int x4)] [] :=
  wloop_sound (V := Int32 × Int32 × CS × Bool × Nat × Nat) (Wk := fun v => jM p l e s m args below meth c A D ct g fx tl 10 237 5 H T0 post v.2.2.1 v.2.2.2.1 v.2.2.2.2.1 v.2.2.2.2.2 43 [(0, .ref (fx 0)), (1, .int v.1), (4, .int v.2.1)] []) (fun L hL v hb => kX0_plays_43_b K hr hgc (fun x1 x4 S mk cc sc => L (x1, x4, S, mk, cc, sc)) (fun x1 x4 S mk cc sc hx => hL (x1, x4, S, mk, cc, sc) hx) v.1 v.2.1 v.2.2.1 v.2.2.2.1 v.2.2.2.2.1 v.2.2.2.2.2 hb) h
theorem kX0_plays_40 {p : Program} {l : Launch} {e : Env} {s : State} {m : MethodId} {args : Array Value} {below : List Frame} {meth : Method} {c : Code} {A : Nat → Prop} {D : va_G} {ct : Nat → ClassId} {G : gE} {g : GP} {fx : Nat → Nat} {tl : va_W} {H : HB} {T0 : TB} {post : Int32 → CS → Prop} (K : CX p s m args meth c cX0_plays 5 RX0 A D ct G) (hr : meth.sig.returnType = (some .int)) (hgc : gHasC G g)   (x1 : Int32) (S : CS) (mk : Bool) (cc : Nat) (sc : Nat) (h : wX0_plays_40 H post  x1 S mk cc sc) : jM p l e s m args below meth c A D ct g fx tl 10 237 5 H T0 post S mk cc sc 40 [(0, .ref (fx 0)), (1, .int x1)] [] := by
  unfold wX0_plays_40 at h
  intro T kc ks hh hm hcl hsl
  have hG := K.2.2.2.2.2.2.2.2.2
  refine j_iconst K (0 : Int32) dX0_plays_40 (by decide) ?_
  refine j_istore K [(4, .int (0 : Int32)), (0, .ref (fx 0)), (1, .int x1)] dX0_plays_41 (by decide) rfl ?_
  refine j_lv K [1, 2, 0] (lv' := [(0, .ref (fx 0)), (1, .int x1), (4, .int (0 : Int32))]) rfl ?_
  exact kX0_plays_43 K hr hgc  x1 (0 : Int32) S mk cc sc h _ _ _ hh hm hcl hsl
theorem kX0_plays_38 {p : Program} {l : Launch} {e : Env} {s : State} {m : MethodId} {args : Array Value} {below : List Frame} {meth : Method} {c : Code} {A : Nat → Prop} {D : va_G} {ct : Nat → ClassId} {G : gE} {g : GP} {fx : Nat → Nat} {tl : va_W} {H : HB} {T0 : TB} {post : Int32 → CS → Prop} (K : CX p s m args meth c cX0_plays 5 RX0 A D ct G) (hr : meth.sig.returnType = (some .int)) (hgc : gHasC G g)   (x3 : Int32) (S : CS) (mk : Bool) (cc : Nat) (sc : Nat) (h : wX0_plays_38 H post  x3 S mk cc sc) : jM p l e s m args below meth c A D ct g fx tl 10 237 5 H T0 post S mk cc sc 38 [(3, .int x3)] [] := by
  unfold wX0_plays_38 at h
  intro T kc ks hh hm hcl hsl
  have hG := K.2.2.2.2.2.2.2.2.2
  refine j_iload_n K 0 dX0_plays_38 rfl rfl ?_
  exact m_iret K hr hh hm hcl hsl h dX0_plays_39
theorem kX0_plays_29 {p : Program} {l : Launch} {e : Env} {s : State} {m : MethodId} {args : Array Value} {below : List Frame} {meth : Method} {c : Code} {A : Nat → Prop} {D : va_G} {ct : Nat → ClassId} {G : gE} {g : GP} {fx : Nat → Nat} {tl : va_W} {H : HB} {T0 : TB} {post : Int32 → CS → Prop} (K : CX p s m args meth c cX0_plays 5 RX0 A D ct G) (hr : meth.sig.returnType = (some .int)) (hgc : gHasC G g)   (x1 : Int32) (x2 : Int32) (s1 : Int32) (S : CS) (mk : Bool) (cc : Nat) (sc : Nat) (h : wX0_plays_29 H post  x1 x2 s1 S mk cc sc) : jM p l e s m args below meth c A D ct g fx tl 10 237 5 H T0 post S mk cc sc 29 [(0, .ref (fx 0)), (1, .int x1), (2, .int x2)] [.int s1, .ref (fx 0)] := by
  unfold wX0_plays_29 at h
  intro T kc ks hh hm hcl hsl
  have hG := K.2.2.2.2.2.2.2.2.2
  refine j_iload_n K 2 dX0_plays_29 rfl rfl ?_
  obtain ⟨hp, h⟩ := h
  obtain ⟨hrm, h⟩ := h
  refine j_callVi K (As := [.int s1, .int x2]) (rest := []) (ctX0_begun hG hgc s1 x2 hp hh.tok) (lw_V q286 q288 qs3 q70 q289) (n := 2) (by decide +kernel) ⟨Nat.le_of_ble_eq_true rfl, Nat.le_of_ble_eq_true rfl⟩ 0 rfl rfl rfl rfl rfl (Nat.le_of_ble_eq_true rfl) dX0_plays_30 (hh.roomF hm hrm.1 hrm.2) (fun r_1 u_30 hq => ?_)
  obtain ⟨S_2, Tu30⟩ := u_30
  obtain ⟨hq, he⟩ := hq
  have hh1 := hh.callF (c' := (bgC s1 x2 S)) (s' := (bgS s1 x2 S)) he
  have hm1 := hm
  have hcl1 := hrm.1
  have hsl1 := hrm.2
  replace h := h r_1 S_2 hq
  show jJ p l e _ s m args below meth c _ A D _ (CW ct g.2.1 fx S_2 Tu30 tl) _ _ _ _ _
  refine j_istore_n K [(3, .int r_1), (0, .ref (fx 0)), (1, .int x1), (2, .int x2)] dX0_plays_33 rfl (by decide) rfl ?_
  refine j_iload_n K 0 dX0_plays_34 rfl rfl ?_
  refine j_if_ge K 40 dX0_plays_35 (by decide) (fun hc => ?_) (fun hc => ?_)
  · refine j_lv K [1, 2] (lv' := [(0, .ref (fx 0)), (1, .int x1)]) rfl ?_
    exact kX0_plays_40 K hr hgc  x1 S_2 mk (cc + (bgC s1 x2 S)) (sc + (bgS s1 x2 S)) (h.1 hc) _ _ _ hh1 hm1 hcl1 hsl1
  · refine j_lv K [0] (lv' := [(3, .int r_1)]) rfl ?_
    exact kX0_plays_38 K hr hgc  r_1 S_2 mk (cc + (bgC s1 x2 S)) (sc + (bgS s1 x2 S)) (h.2 hc) _ _ _ hh1 hm1 hcl1 hsl1
theorem kX0_plays_28 {p : Program} {l : Launch} {e : Env} {s : State} {m : MethodId} {args : Array Value} {below : List Frame} {meth : Method} {c : Code} {A : Nat → Prop} {D : va_G} {ct : Nat → ClassId} {G : gE} {g : GP} {fx : Nat → Nat} {tl : va_W} {H : HB} {T0 : TB} {post : Int32 → CS → Prop} (K : CX p s m args meth c cX0_plays 5 RX0 A D ct G) (hr : meth.sig.returnType = (some .int)) (hgc : gHasC G g)   (x1 : Int32) (x2 : Int32) (S : CS) (mk : Bool) (cc : Nat) (sc : Nat) (h : wX0_plays_28 H post  x1 x2 S mk cc sc) : jM p l e s m args below meth c A D ct g fx tl 10 237 5 H T0 post S mk cc sc 28 [(0, .ref (fx 0)), (1, .int x1), (2, .int x2)] [.ref (fx 0)] := by
  unfold wX0_plays_28 at h
  intro T kc ks hh hm hcl hsl
  have hG := K.2.2.2.2.2.2.2.2.2
  refine j_iconst K (0 : Int32) dX0_plays_28 (by decide) ?_
  exact kX0_plays_29 K hr hgc  x1 x2 (0 : Int32) S mk cc sc h _ _ _ hh hm hcl hsl
theorem kX0_plays_23 {p : Program} {l : Launch} {e : Env} {s : State} {m : MethodId} {args : Array Value} {below : List Frame} {meth : Method} {c : Code} {A : Nat → Prop} {D : va_G} {ct : Nat → ClassId} {G : gE} {g : GP} {fx : Nat → Nat} {tl : va_W} {H : HB} {T0 : TB} {post : Int32 → CS → Prop} (K : CX p s m args meth c cX0_plays 5 RX0 A D ct G) (hr : meth.sig.returnType = (some .int)) (hgc : gHasC G g)   (x1 : Int32) (x2 : Int32) (S : CS) (mk : Bool) (cc : Nat) (sc : Nat) (h : wX0_plays_23 H post  x1 x2 S mk cc sc) : jM p l e s m args below meth c A D ct g fx tl 10 237 5 H T0 post S mk cc sc 23 [(0, .ref (fx 0)), (1, .int x1), (2, .int x2)] [.ref (fx 0)] := by
  unfold wX0_plays_23 at h
  intro T kc ks hh hm hcl hsl
  have hG := K.2.2.2.2.2.2.2.2.2
  refine j_bipush K (-5 : Int32) dX0_plays_23 (by decide) ?_
  refine j_goto K 29 dX0_plays_25 (by decide) ?_
  exact kX0_plays_29 K hr hgc  x1 x2 (-5 : Int32) S mk cc sc h _ _ _ hh hm hcl hsl
theorem kX0_plays_16 {p : Program} {l : Launch} {e : Env} {s : State} {m : MethodId} {args : Array Value} {below : List Frame} {meth : Method} {c : Code} {A : Nat → Prop} {D : va_G} {ct : Nat → ClassId} {G : gE} {g : GP} {fx : Nat → Nat} {tl : va_W} {H : HB} {T0 : TB} {post : Int32 → CS → Prop} (K : CX p s m args meth c cX0_plays 5 RX0 A D ct G) (hr : meth.sig.returnType = (some .int)) (hgc : gHasC G g)   (x1 : Int32) (x2 : Int32) (S : CS) (mk : Bool) (cc : Nat) (sc : Nat) (h : wX0_plays_16 H post  x1 x2 S mk cc sc) : jM p l e s m args below meth c A D ct g fx tl 10 237 5 H T0 post S mk cc sc 16 [(0, .ref (fx 0)), (1, .int x1), (2, .int x2)] [.ref (fx 0)] := by
  unfold wX0_plays_16 at h
  intro T kc ks hh hm hcl hsl
  have hG := K.2.2.2.2.2.2.2.2.2
  refine j_aload_n K 0 dX0_plays_16 rfl rfl ?_
  obtain ⟨hp, h⟩ := h
  refine j_callVi K (As := []) (rest := [.ref (fx 0)]) (ctX0_isOver hG hgc hp.1 hh.tok) (lw_V q361 q363 qs8 q70 q364) (n := 0) (by decide +kernel) ⟨Nat.le_of_ble_eq_true rfl, Nat.le_of_ble_eq_true rfl⟩ 0 rfl rfl rfl rfl rfl (Nat.le_of_ble_eq_true rfl) dX0_plays_17 (hh.roomT hm hp.2 hcl hsl) (fun r_17 u_17 hq => ?_)
  obtain ⟨Su17, Tu17⟩ := u_17
  obtain ⟨⟨hq, hq0⟩, he⟩ := hq
  have hq0 : S = Su17 := hq0.symm
  subst hq0
  have hq : r_17 = (b2 (overG S.1.2)) := hq
  subst hq
  have hh1 := hh.callT hp.2.2 he
  have hm1 : true = true → H.1 = true := fun _ => hp.2.1
  show jJ p l e _ s m args below meth c _ A D _ (CW ct g.2.1 fx S Tu17 tl) _ _ _ _ _
  refine j_if_eq K 28 dX0_plays_20 (by decide) (fun hc => ?_) (fun hc => ?_)
  · exact kX0_plays_28 K hr hgc  x1 x2 S true cc sc (h.1 hc) _ _ _ hh1 hm1 hcl hsl
  · exact kX0_plays_23 K hr hgc  x1 x2 S true cc sc (h.2 hc) _ _ _ hh1 hm1 hcl hsl
theorem kX0_plays_11 {p : Program} {l : Launch} {e : Env} {s : State} {m : MethodId} {args : Array Value} {below : List Frame} {meth : Method} {c : Code} {A : Nat → Prop} {D : va_G} {ct : Nat → ClassId} {G : gE} {g : GP} {fx : Nat → Nat} {tl : va_W} {H : HB} {T0 : TB} {post : Int32 → CS → Prop} (K : CX p s m args meth c cX0_plays 5 RX0 A D ct G) (hr : meth.sig.returnType = (some .int)) (hgc : gHasC G g)   (x1 : Int32) (x2 : Int32) (S : CS) (mk : Bool) (cc : Nat) (sc : Nat) (h : wX0_plays_11 H post  x1 x2 S mk cc sc) : jM p l e s m args below meth c A D ct g fx tl 10 237 5 H T0 post S mk cc sc 11 [(0, .ref (fx 0)), (1, .int x1), (2, .int x2)] [.ref (fx 0)] := by
  unfold wX0_plays_11 at h
  intro T kc ks hh hm hcl hsl
  have hG := K.2.2.2.2.2.2.2.2.2
  refine j_bipush K (-2 : Int32) dX0_plays_11 (by decide) ?_
  refine j_goto K 29 dX0_plays_13 (by decide) ?_
  exact kX0_plays_29 K hr hgc  x1 x2 (-2 : Int32) S mk cc sc h _ _ _ hh hm hcl hsl
theorem kX0_plays_0 {p : Program} {l : Launch} {e : Env} {s : State} {m : MethodId} {args : Array Value} {below : List Frame} {meth : Method} {c : Code} {A : Nat → Prop} {D : va_G} {ct : Nat → ClassId} {G : gE} {g : GP} {fx : Nat → Nat} {tl : va_W} {H : HB} {T0 : TB} {post : Int32 → CS → Prop} (K : CX p s m args meth c cX0_plays 5 RX0 A D ct G) (hr : meth.sig.returnType = (some .int)) (hgc : gHasC G g)   (x1 : Int32) (x2 : Int32) (S : CS) (mk : Bool) (cc : Nat) (sc : Nat) (h : wX0_plays_0 H post  x1 x2 S mk cc sc) : jM p l e s m args below meth c A D ct g fx tl 10 237 5 H T0 post S mk cc sc 0 [(0, .ref (fx 0)), (1, .int x1), (2, .int x2)] [] := by
  unfold wX0_plays_0 at h
  intro T kc ks hh hm hcl hsl
  have hG := K.2.2.2.2.2.2.2.2.2
  refine j_aload_n K 0 dX0_plays_0 rfl rfl ?_
  refine j_iload_n K 1 dX0_plays_1 rfl rfl ?_
  refine j_iconst K (1 : Int32) dX0_plays_2 (by decide) ?_
  refine j_bipush K (60 : Int32) dX0_plays_3 (by decide) ?_
  refine j_callSi K (As := [.int x1, .int (1 : Int32), .int (60 : Int32)]) (rest := [.ref (fx 0)]) (ctX0_isIn (l := l) (D := D) (ct := ct) (G := G) (ws := (CW ct g.2.1 fx S T tl)) hG x1 (1 : Int32) (60 : Int32)) (lw_S q283 q284 q70 q285) (n := 3) (by decide +kernel) ⟨Nat.le_of_ble_eq_true rfl, Nat.le_of_ble_eq_true rfl⟩ rfl rfl (Nat.le_of_ble_eq_true rfl) dX0_plays_5 (hh.room0 hm hcl hsl) (fun r_1 _ hq => ?_)
  replace h := h r_1 hq
  refine j_if_ne K 16 dX0_plays_8 (by decide) (fun hc => ?_) (fun hc => ?_)
  · exact kX0_plays_16 K hr hgc  x1 x2 S mk cc sc (h.1 hc) _ _ _ hh hm hcl hsl
  · exact kX0_plays_11 K hr hgc  x1 x2 S mk cc sc (h.2 hc) _ _ _ hh hm hcl hsl
theorem ctX0_plays {l : Launch} {D : va_G} {ct : Nat → ClassId} {G : gE} {g : GP} {fx : Nat → Nat} {tl : va_W} {S : CS} {T : TB} (hG : gOK G) (hgc : gHasC G g) (x1 : Int32) (x2 : Int32) (hp : cOk S) (ho : S.1.2.2.2.length < 900000) (hT : tOK T) : mCi l D ct G g fx tl yX0_plays (ws_ yX0_plays cX0_plays 5 (some .int)) 10 237 [.ref (fx 0), .int x1, .int x2] S T (plB x1) (plCl x1 x2 S) (plSl x1 x2 S) (fun r S' => mvPo (playsG x1 S.1.2) x2 S r S') := fun sz =>
  j_met (Qc := fun A => va_Qi (fun (r : Int32) (u : CS × TB) => (fun (r : Int32) (S' : CS) => mvPo (playsG x1 S.1.2) x2 S r S') r u.1 ∧ extB (plB x1) (pS S) T u.2) (fun (u : CS × TB) => cB D ct A (CW ct g.2.1 fx u.1 u.2 tl)) A) (by decide) hG (Nat.le_of_ble_eq_true rfl) (fun p e s m args below meth c A K hr _ _ => kX0_plays_0 (H := ((plB x1), pS S, (plCl x1 x2 S), (plSl x1 x2 S))) (T0 := T) (post := fun r S' => mvPo (playsG x1 S.1.2) x2 S r S') K hr hgc x1 x2 S false 0 0 (vcX0_plays x1 x2 hp ho) T 0 0 (hid.start hT) (fun z => (by cases z)) (Nat.zero_le _) (Nat.zero_le _))
-- place(I)I
theorem kX0_place_0 {p : Program} {l : Launch} {e : Env} {s : State} {m : MethodId} {args : Array Value} {below : List Frame} {meth : Method} {c : Code} {A : Nat → Prop} {D : va_G} {ct : Nat → ClassId} {G : gE} {g : GP} {fx : Nat → Nat} {tl : va_W} {H : HB} {T0 : TB} {post : Int32 → CS → Prop} (K : CX p s m args meth c cX0_place 2 RX0 A D ct G) (hr : meth.sig.returnType = (some .int)) (hgc : gHasC G g)   (x1 : Int32) (S : CS) (mk : Bool) (cc : Nat) (sc : Nat) (h : wX0_place_0 H post  x1 S mk cc sc) : jM p l e s m args below meth c A D ct g fx tl 12 277 2 H T0 post S mk cc sc 0 [(0, .ref (fx 0)), (1, .int x1)] [] := by
  unfold wX0_place_0 at h
  intro T kc ks hh hm hcl hsl
  have hG := K.2.2.2.2.2.2.2.2.2
  refine j_aload_n K 0 dX0_place_0 rfl rfl ?_
  refine j_iload_n K 1 dX0_place_1 rfl rfl ?_
  refine j_iconst K (1 : Int32) dX0_place_2 (by decide) ?_
  obtain ⟨hp, h⟩ := h
  obtain ⟨hb, h⟩ := h
  obtain ⟨hrm, h⟩ := h
  refine j_callVi K (As := [.int x1, .int (1 : Int32)]) (rest := []) (ctX0_places hG hgc x1 (1 : Int32) hp hh.tok) (lw_V q350 q352 qs6 q70 q353) (n := 2) (by decide +kernel) ⟨Nat.le_of_ble_eq_true rfl, Nat.le_of_ble_eq_true rfl⟩ 0 rfl rfl rfl rfl rfl (Nat.le_of_ble_eq_true rfl) dX0_place_3 (hh.roomB hm hb hrm.1 hrm.2) (fun r_1 u_3 hq => ?_)
  obtain ⟨S_2, Tu3⟩ := u_3
  obtain ⟨hq, he⟩ := hq
  have hh1 := hh.callB (c' := (mvCl (placesG x1 S.1.2) (1 : Int32) S)) (s' := (mvSl (placesG x1 S.1.2) (1 : Int32) S)) he (fun z => (hb z).2)
  have hm1 : (mk || (in09 x1)) = true → H.1 = true := or_made hm (fun z => (hb z).1)
  have hcl1 := hrm.1
  have hsl1 := hrm.2
  replace h := h r_1 S_2 hq
  show jJ p l e _ s m args below meth c _ A D _ (CW ct g.2.1 fx S_2 Tu3 tl) _ _ _ _ _
  exact m_iret K hr hh1 hm1 hcl1 hsl1 h dX0_place_6
theorem ctX0_place {l : Launch} {D : va_G} {ct : Nat → ClassId} {G : gE} {g : GP} {fx : Nat → Nat} {tl : va_W} {S : CS} {T : TB} (hG : gOK G) (hgc : gHasC G g) (x1 : Int32) (hp : cOk S) (hT : tOK T) : mCi l D ct G g fx tl yX0_place (ws_ yX0_place cX0_place 2 (some .int)) 12 277 [.ref (fx 0), .int x1] S T (in09 x1) (mvCl (placesG x1 S.1.2) 1 S) (mvSl (placesG x1 S.1.2) 1 S) (fun r S' => mvPo (placesG x1 S.1.2) 1 S r S') := fun sz =>
  j_met (Qc := fun A => va_Qi (fun (r : Int32) (u : CS × TB) => (fun (r : Int32) (S' : CS) => mvPo (placesG x1 S.1.2) 1 S r S') r u.1 ∧ extB (in09 x1) (pS S) T u.2) (fun (u : CS × TB) => cB D ct A (CW ct g.2.1 fx u.1 u.2 tl)) A) (by decide) hG (Nat.le_of_ble_eq_true rfl) (fun p e s m args below meth c A K hr _ _ => kX0_place_0 (H := ((in09 x1), pS S, (mvCl (placesG x1 S.1.2) 1 S), (mvSl (placesG x1 S.1.2) 1 S))) (T0 := T) (post := fun r S' => mvPo (placesG x1 S.1.2) 1 S r S') K hr hgc x1 S false 0 0 (vcX0_place x1 hp) T 0 0 (hid.start hT) (fun z => (by cases z)) (Nat.zero_le _) (Nat.zero_le _))
-- slide(II)I
theorem kX0_slide_0 {p : Program} {l : Launch} {e : Env} {s : State} {m : MethodId} {args : Array Value} {below : List Frame} {meth : Method} {c : Code} {A : Nat → Prop} {D : va_G} {ct : Nat → ClassId} {G : gE} {g : GP} {fx : Nat → Nat} {tl : va_W} {H : HB} {T0 : TB} {post : Int32 → CS → Prop} (K : CX p s m args meth c cX0_slide 3 RX0 A D ct G) (hr : meth.sig.returnType = (some .int)) (hgc : gHasC G g)   (x1 : Int32) (x2 : Int32) (S : CS) (mk : Bool) (cc : Nat) (sc : Nat) (h : wX0_slide_0 H post  x1 x2 S mk cc sc) : jM p l e s m args below meth c A D ct g fx tl 12 279 3 H T0 post S mk cc sc 0 [(0, .ref (fx 0)), (1, .int x1), (2, .int x2)] [] := by
  unfold wX0_slide_0 at h
  intro T kc ks hh hm hcl hsl
  have hG := K.2.2.2.2.2.2.2.2.2
  refine j_aload_n K 0 dX0_slide_0 rfl rfl ?_
  refine j_iload_n K 1 dX0_slide_1 rfl rfl ?_
  refine j_iload_n K 2 dX0_slide_2 rfl rfl ?_
  refine j_iconst K (1 : Int32) dX0_slide_3 (by decide) ?_
  obtain ⟨hp, h⟩ := h
  obtain ⟨hb, h⟩ := h
  obtain ⟨hrm, h⟩ := h
  refine j_callVi K (As := [.int x1, .int x2, .int (1 : Int32)]) (rest := []) (ctX0_slides hG hgc x1 x2 (1 : Int32) hp hh.tok) (lw_V q586 q588 qs20 q70 q589) (n := 3) (by decide +kernel) ⟨Nat.le_of_ble_eq_true rfl, Nat.le_of_ble_eq_true rfl⟩ 0 rfl rfl rfl rfl rfl (Nat.le_of_ble_eq_true rfl) dX0_slide_4 (hh.roomB hm hb hrm.1 hrm.2) (fun r_1 u_4 hq => ?_)
  obtain ⟨S_2, Tu4⟩ := u_4
  obtain ⟨hq, he⟩ := hq
  have hh1 := hh.callB (c' := (mvCl (slidesG x1 x2 S.1.2) (1 : Int32) S)) (s' := (mvSl (slidesG x1 x2 S.1.2) (1 : Int32) S)) he (fun z => (hb z).2)
  have hm1 : (mk || (in09 x1 && in09 x2)) = true → H.1 = true := or_made hm (fun z => (hb z).1)
  have hcl1 := hrm.1
  have hsl1 := hrm.2
  replace h := h r_1 S_2 hq
  show jJ p l e _ s m args below meth c _ A D _ (CW ct g.2.1 fx S_2 Tu4 tl) _ _ _ _ _
  exact m_iret K hr hh1 hm1 hcl1 hsl1 h dX0_slide_7
theorem ctX0_slide {l : Launch} {D : va_G} {ct : Nat → ClassId} {G : gE} {g : GP} {fx : Nat → Nat} {tl : va_W} {S : CS} {T : TB} (hG : gOK G) (hgc : gHasC G g) (x1 : Int32) (x2 : Int32) (hp : cOk S) (hT : tOK T) : mCi l D ct G g fx tl yX0_slide (ws_ yX0_slide cX0_slide 3 (some .int)) 12 279 [.ref (fx 0), .int x1, .int x2] S T (in09 x1 && in09 x2) (mvCl (slidesG x1 x2 S.1.2) 1 S) (mvSl (slidesG x1 x2 S.1.2) 1 S) (fun r S' => mvPo (slidesG x1 x2 S.1.2) 1 S r S') := fun sz =>
  j_met (Qc := fun A => va_Qi (fun (r : Int32) (u : CS × TB) => (fun (r : Int32) (S' : CS) => mvPo (slidesG x1 x2 S.1.2) 1 S r S') r u.1 ∧ extB (in09 x1 && in09 x2) (pS S) T u.2) (fun (u : CS × TB) => cB D ct A (CW ct g.2.1 fx u.1 u.2 tl)) A) (by decide) hG (Nat.le_of_ble_eq_true rfl) (fun p e s m args below meth c A K hr _ _ => kX0_slide_0 (H := ((in09 x1 && in09 x2), pS S, (mvCl (slidesG x1 x2 S.1.2) 1 S), (mvSl (slidesG x1 x2 S.1.2) 1 S))) (T0 := T) (post := fun r S' => mvPo (slidesG x1 x2 S.1.2) 1 S r S') K hr hgc x1 x2 S false 0 0 (vcX0_slide x1 x2 hp) T 0 0 (hid.start hT) (fun z => (by cases z)) (Nat.zero_le _) (Nat.zero_le _))
-- pass()I
theorem kX0_pass_0 {p : Program} {l : Launch} {e : Env} {s : State} {m : MethodId} {args : Array Value} {below : List Frame} {meth : Method} {c : Code} {A : Nat → Prop} {D : va_G} {ct : Nat → ClassId} {G : gE} {g : GP} {fx : Nat → Nat} {tl : va_W} {H : HB} {T0 : TB} {post : Int32 → CS → Prop} (K : CX p s m args meth c cX0_pass 1 RX0 A D ct G) (hr : meth.sig.returnType = (some .int)) (hgc : gHasC G g)    (S : CS) (mk : Bool) (cc : Nat) (sc : Nat) (h : wX0_pass_0 H post  S mk cc sc) : jM p l e s m args below meth c A D ct g fx tl 12 276 1 H T0 post S mk cc sc 0 [(0, .ref (fx 0))] [] := by
  unfold wX0_pass_0 at h
  intro T kc ks hh hm hcl hsl
  have hG := K.2.2.2.2.2.2.2.2.2
  refine j_aload_n K 0 dX0_pass_0 rfl rfl ?_
  refine j_iconst K (1 : Int32) dX0_pass_1 (by decide) ?_
  obtain ⟨hp, h⟩ := h
  obtain ⟨hb, h⟩ := h
  obtain ⟨hrm, h⟩ := h
  refine j_callVi K (As := [.int (1 : Int32)]) (rest := []) (ctX0_passes hG hgc (1 : Int32) hp hh.tok) (lw_V q594 q596 qs21 q70 q597) (n := 1) (by decide +kernel) ⟨Nat.le_of_ble_eq_true rfl, Nat.le_of_ble_eq_true rfl⟩ 0 rfl rfl rfl rfl rfl (Nat.le_of_ble_eq_true rfl) dX0_pass_2 (hh.roomB hm hb hrm.1 hrm.2) (fun r_1 u_2 hq => ?_)
  obtain ⟨S_2, Tu2⟩ := u_2
  obtain ⟨hq, he⟩ := hq
  have hh1 := hh.callB (c' := (mvCl (mvsG 90 false S.1.2) (1 : Int32) S)) (s' := (mvSl (mvsG 90 false S.1.2) (1 : Int32) S)) he (fun z => (hb z).2)
  have hm1 : (mk || true) = true → H.1 = true := or_made hm (fun z => (hb z).1)
  have hcl1 := hrm.1
  have hsl1 := hrm.2
  replace h := h r_1 S_2 hq
  show jJ p l e _ s m args below meth c _ A D _ (CW ct g.2.1 fx S_2 Tu2 tl) _ _ _ _ _
  exact m_iret K hr hh1 hm1 hcl1 hsl1 h dX0_pass_5
theorem ctX0_pass {l : Launch} {D : va_G} {ct : Nat → ClassId} {G : gE} {g : GP} {fx : Nat → Nat} {tl : va_W} {S : CS} {T : TB} (hG : gOK G) (hgc : gHasC G g)  (hp : cOk S) (hT : tOK T) : mCi l D ct G g fx tl yX0_pass (ws_ yX0_pass cX0_pass 1 (some .int)) 12 276 [.ref (fx 0)] S T true (mvCl (mvsG 90 false S.1.2) 1 S) (mvSl (mvsG 90 false S.1.2) 1 S) (fun r S' => mvPo (mvsG 90 false S.1.2) 1 S r S') := fun sz =>
  j_met (Qc := fun A => va_Qi (fun (r : Int32) (u : CS × TB) => (fun (r : Int32) (S' : CS) => mvPo (mvsG 90 false S.1.2) 1 S r S') r u.1 ∧ extB true (pS S) T u.2) (fun (u : CS × TB) => cB D ct A (CW ct g.2.1 fx u.1 u.2 tl)) A) (by decide) hG (Nat.le_of_ble_eq_true rfl) (fun p e s m args below meth c A K hr _ _ => kX0_pass_0 (H := (true, pS S, (mvCl (mvsG 90 false S.1.2) 1 S), (mvSl (mvsG 90 false S.1.2) 1 S))) (T0 := T) (post := fun r S' => mvPo (mvsG 90 false S.1.2) 1 S r S') K hr hgc  S false 0 0 (vcX0_pass  hp) T 0 0 (hid.start hT) (fun z => (by cases z)) (Nat.zero_le _) (Nat.zero_le _))
-- play(I)I
theorem kX0_play_0 {p : Program} {l : Launch} {e : Env} {s : State} {m : MethodId} {args : Array Value} {below : List Frame} {meth : Method} {c : Code} {A : Nat → Prop} {D : va_G} {ct : Nat → ClassId} {G : gE} {g : GP} {fx : Nat → Nat} {tl : va_W} {H : HB} {T0 : TB} {post : Int32 → CS → Prop} (K : CX p s m args meth c cX0_play 2 RX0 A D ct G) (hr : meth.sig.returnType = (some .int)) (hgc : gHasC G g)   (x1 : Int32) (S : CS) (mk : Bool) (cc : Nat) (sc : Nat) (h : wX0_play_0 H post  x1 S mk cc sc) : jM p l e s m args below meth c A D ct g fx tl 11 261 2 H T0 post S mk cc sc 0 [(0, .ref (fx 0)), (1, .int x1)] [] := by
  unfold wX0_play_0 at h
  intro T kc ks hh hm hcl hsl
  have hG := K.2.2.2.2.2.2.2.2.2
  refine j_aload_n K 0 dX0_play_0 rfl rfl ?_
  refine j_iload_n K 1 dX0_play_1 rfl rfl ?_
  refine j_iconst K (1 : Int32) dX0_play_2 (by decide) ?_
  obtain ⟨hp, h⟩ := h
  obtain ⟨hb, h⟩ := h
  obtain ⟨hrm, h⟩ := h
  refine j_callVi K (As := [.int x1, .int (1 : Int32)]) (rest := []) (ctX0_plays hG hgc x1 (1 : Int32) hp.1 hp.2 hh.tok) (lw_V q602 q604 qs22 q70 q605) (n := 2) (by decide +kernel) ⟨Nat.le_of_ble_eq_true rfl, Nat.le_of_ble_eq_true rfl⟩ 0 rfl rfl rfl rfl rfl (Nat.le_of_ble_eq_true rfl) dX0_play_3 (hh.roomB hm hb hrm.1 hrm.2) (fun r_1 u_3 hq => ?_)
  obtain ⟨S_2, Tu3⟩ := u_3
  obtain ⟨hq, he⟩ := hq
  have hh1 := hh.callB (c' := (plCl x1 (1 : Int32) S)) (s' := (plSl x1 (1 : Int32) S)) he (fun z => (hb z).2)
  have hm1 : (mk || (plB x1)) = true → H.1 = true := or_made hm (fun z => (hb z).1)
  have hcl1 := hrm.1
  have hsl1 := hrm.2
  replace h := h r_1 S_2 hq
  show jJ p l e _ s m args below meth c _ A D _ (CW ct g.2.1 fx S_2 Tu3 tl) _ _ _ _ _
  exact m_iret K hr hh1 hm1 hcl1 hsl1 h dX0_play_6
theorem ctX0_play {l : Launch} {D : va_G} {ct : Nat → ClassId} {G : gE} {g : GP} {fx : Nat → Nat} {tl : va_W} {S : CS} {T : TB} (hG : gOK G) (hgc : gHasC G g) (x1 : Int32) (hp : cOk S) (ho : S.1.2.2.2.length < 900000) (hT : tOK T) : mCi l D ct G g fx tl yX0_play (ws_ yX0_play cX0_play 2 (some .int)) 11 261 [.ref (fx 0), .int x1] S T (plB x1) (plCl x1 1 S) (plSl x1 1 S) (fun r S' => mvPo (playsG x1 S.1.2) 1 S r S') := fun sz =>
  j_met (Qc := fun A => va_Qi (fun (r : Int32) (u : CS × TB) => (fun (r : Int32) (S' : CS) => mvPo (playsG x1 S.1.2) 1 S r S') r u.1 ∧ extB (plB x1) (pS S) T u.2) (fun (u : CS × TB) => cB D ct A (CW ct g.2.1 fx u.1 u.2 tl)) A) (by decide) hG (Nat.le_of_ble_eq_true rfl) (fun p e s m args below meth c A K hr _ _ => kX0_play_0 (H := ((plB x1), pS S, (plCl x1 1 S), (plSl x1 1 S))) (T0 := T) (post := fun r S' => mvPo (playsG x1 S.1.2) 1 S r S') K hr hgc x1 S false 0 0 (vcX0_play x1 hp ho) T 0 0 (hid.start hT) (fun z => (by cases z)) (Nat.zero_le _) (Nat.zero_le _))
