/-! WALK of MorrisTables, E: printed by gen_mainE.py -/
-- begin()I
theorem kX0_begin_0 {p : Program} {l : Launch} {e : Env} {s : State} {m : MethodId} {args : Array Value} {below : List Frame} {meth : Method} {c : Code} {A : Nat → Prop} {D : va_G} {ct : Nat → ClassId} {G : gE} {g : GP} {fx : Nat → Nat} {tl : va_W} {H : HB} {T0 : TB} {post : Int32 → CS → Prop} (K : CX p s m args meth c cX0_begin 2 RX0 A D ct G) (hr : meth.sig.returnType = (some .int)) (hgc : gHasC G g)    (S : CS) (mk : Bool) (cc : Nat) (sc : Nat) (h : wX0_begin_0 H post  S mk cc sc) : jM p l e s m args below meth c A D ct g fx tl 8 183 2 H T0 post S mk cc sc 0 [(0, .ref (fx 0))] [] := by
  unfold wX0_begin_0 at h
  intro T kc ks hh hm hcl hsl
  have hG := K.2.2.2.2.2.2.2.2.2
  refine j_aload_n K 0 dX0_begin_0 rfl rfl ?_
  obtain ⟨hp, h⟩ := h
  obtain ⟨hrm, h⟩ := h
  refine j_callVv K (As := []) (rest := []) (ctX0_record hG hgc hp hh.tok) (lw_V q290 q292 qs4 q70 q293) (n := 0) (by decide +kernel) ⟨Nat.le_of_ble_eq_true rfl, Nat.le_of_ble_eq_true rfl⟩ 0 rfl rfl rfl rfl rfl (Nat.le_of_ble_eq_true rfl) dX0_begin_1 (hh.roomF hm hrm.1 hrm.2) (fun u_1 hq => ?_)
  obtain ⟨S_2, Tu1⟩ := u_1
  obtain ⟨hq, he⟩ := hq
  have hh1 := hh.callF (c' := (rcC S)) (s' := (rcS S)) he
  have hm1 := hm
  have hcl1 := hrm.1
  have hsl1 := hrm.2
  replace h := h S_2 hq
  show jJ p l e _ s m args below meth c _ A D _ (CW ct g.2.1 fx S_2 Tu1 tl) _ _ _ _ _
  refine j_aload_n K 0 dX0_begin_4 rfl rfl ?_
  refine j_get K in_X0 0 rfl rfl 1 (by decide) q263 rfl rfl dX0_begin_5 ?_
  refine j_getN K in_X2 7 rfl rfl 4 (by decide) (K.fn hgc 3 rfl) rfl rfl dX0_begin_8 ?_
  refine j_istore_n K [(1, .int (nI (nmv S_2.1.2))), (0, .ref (fx 0))] dX0_begin_11 rfl (by decide) rfl ?_
  refine j_aload_n K 1 dX0_begin_12 rfl rfl ?_
  refine j_get K in_X0 0 rfl rfl 1 (by decide) q263 rfl rfl dX0_begin_13 ?_
  obtain ⟨hp, h⟩ := h
  obtain ⟨hrm, h⟩ := h
  refine j_callVv K (As := []) (rest := []) (ctC_begin hG hh1.tok) (lw_V q338 q339 q340 q79 q341) (n := 0) (by decide +kernel) ⟨Nat.le_of_ble_eq_true rfl, Nat.le_of_ble_eq_true rfl⟩ 7 rfl rfl rfl rfl rfl (Nat.le_of_ble_eq_true rfl) dX0_begin_16 (hh1.roomF hm1 hrm.1 hrm.2) (fun u_16 hq => ?_)
  obtain ⟨S_4, Tu16⟩ := u_16
  obtain ⟨hq, he⟩ := hq
  have hh2 := hh1.callF (c' := 2) (s' := 3) he
  have hm2 := hm1
  have hcl2 := hrm.1
  have hsl2 := hrm.2
  replace h := h S_4 hq
  show jJ p l e _ s m args below meth c _ A D _ (CW ct g.2.1 fx S_4 Tu16 tl) _ _ _ _ _
  refine j_iload_n K 0 dX0_begin_19 rfl rfl ?_
  exact m_iret K hr hh2 hm2 hcl2 hsl2 h dX0_begin_20
theorem ctX0_begin {l : Launch} {D : va_G} {ct : Nat → ClassId} {G : gE} {g : GP} {fx : Nat → Nat} {tl : va_W} {S : CS} {T : TB} (hG : gOK G) (hgc : gHasC G g)  (hp : cOk S) (hT : tOK T) : mCi l D ct G g fx tl yX0_begin (ws_ yX0_begin cX0_begin 2 (some .int)) 8 183 [.ref (fx 0)] S T false (rcC S + 2) (rcS S + 3) (fun r S' => r = nI (nmv S.1.2) ∧ stT 1 S S' (gNew S.1.2.1 S.1.2.2.1)) := fun sz =>
  j_met (Qc := fun A => va_Qi (fun (r : Int32) (u : CS × TB) => (fun (r : Int32) (S' : CS) => r = nI (nmv S.1.2) ∧ stT 1 S S' (gNew S.1.2.1 S.1.2.2.1)) r u.1 ∧ extB false (pS S) T u.2) (fun (u : CS × TB) => cB D ct A (CW ct g.2.1 fx u.1 u.2 tl)) A) (by decide) hG (Nat.le_of_ble_eq_true rfl) (fun p e s m args below meth c A K hr _ _ => kX0_begin_0 (H := (false, pS S, (rcC S + 2), (rcS S + 3))) (T0 := T) (post := fun r S' => r = nI (nmv S.1.2) ∧ stT 1 S S' (gNew S.1.2.1 S.1.2.2.1)) K hr hgc  S false 0 0 (vcX0_begin  hp) T 0 0 (hid.start hT) (fun z => (by cases z)) (Nat.zero_le _) (Nat.zero_le _))
-- set(II)I
theorem kX0_set_36 {p : Program} {l : Launch} {e : Env} {s : State} {m : MethodId} {args : Array Value} {below : List Frame} {meth : Method} {c : Code} {A : Nat → Prop} {D : va_G} {ct : Nat → ClassId} {G : gE} {g : GP} {fx : Nat → Nat} {tl : va_W} {H : HB} {T0 : TB} {post : Int32 → CS → Prop} (K : CX p s m args meth c cX0_set 5 RX0 A D ct G) (hr : meth.sig.returnType = (some .int)) (hgc : gHasC G g)   (x1 : Int32) (x2 : Int32) (S : CS) (mk : Bool) (cc : Nat) (sc : Nat) (h : wX0_set_36 H post  x1 x2 S mk cc sc) : jM p l e s m args below meth c A D ct g fx tl 9 205 5 H T0 post S mk cc sc 36 [(0, .ref (fx 0)), (1, .int x1), (2, .int x2)] [] := by
  unfold wX0_set_36 at h
  intro T kc ks hh hm hcl hsl
  have hG := K.2.2.2.2.2.2.2.2.2
  refine j_aload_n K 0 dX0_set_36 rfl rfl ?_
  refine j_get K in_X0 0 rfl rfl 1 (by decide) q263 rfl rfl dX0_set_37 ?_
  refine j_getN K in_X2 7 rfl rfl 0 (by decide) (K.fn hgc 0 rfl) rfl rfl dX0_set_40 ?_
  refine j_iload_n K 1 dX0_set_43 rfl rfl ?_
  obtain ⟨hc, h⟩ := h
  refine j_iald K 8 0 rfl rfl hc dX0_set_44 ?_
  refine j_istore K [(4, .int (set2 S.1.2.1 S.1.2.2.1 x1.toNatClampNeg)), (0, .ref (fx 0)), (1, .int x1), (2, .int x2)] dX0_set_45 (by decide) rfl ?_
  refine j_aload_n K 1 dX0_set_47 rfl rfl ?_
  refine j_get K in_X0 0 rfl rfl 1 (by decide) q263 rfl rfl dX0_set_48 ?_
  refine j_getN K in_X2 7 rfl rfl 0 (by decide) (K.fn hgc 0 rfl) rfl rfl dX0_set_51 ?_
  refine j_iload_n K 2 dX0_set_54 rfl rfl ?_
  refine j_iload_n K 3 dX0_set_55 rfl rfl ?_
  obtain ⟨si_1, sv_2, hp, h⟩ := h
  refine m_sett K hp.1 hp.2.1 hp.2.2 dX0_set_56 ?_
  obtain ⟨S_3, hSn⟩ : ∃ X : CS, X = ((S.1.1, setG S.1.2 si_1 sv_2), S.2) := ⟨_, rfl⟩
  rw [← hSn]
  replace h := h S_3 hSn
  refine j_aload_n K 1 dX0_set_57 rfl rfl ?_
  refine j_get K in_X0 0 rfl rfl 1 (by decide) q263 rfl rfl dX0_set_58 ?_
  obtain ⟨hp, h⟩ := h
  obtain ⟨hrm, h⟩ := h
  refine j_callVv K (As := []) (rest := []) (ctC_begin hG hh.tok) (lw_V q338 q339 q340 q79 q341) (n := 0) (by decide +kernel) ⟨Nat.le_of_ble_eq_true rfl, Nat.le_of_ble_eq_true rfl⟩ 7 rfl rfl rfl rfl rfl (Nat.le_of_ble_eq_true rfl) dX0_set_61 (hh.roomF hm hrm.1 hrm.2) (fun u_61 hq => ?_)
  obtain ⟨S_5, Tu61⟩ := u_61
  obtain ⟨hq, he⟩ := hq
  have hh1 := hh.callF (c' := 2) (s' := 3) he
  have hm1 := hm
  have hcl1 := hrm.1
  have hsl1 := hrm.2
  replace h := h S_5 hq
  show jJ p l e _ s m args below meth c _ A D _ (CW ct g.2.1 fx S_5 Tu61 tl) _ _ _ _ _
  refine j_iload K 0 dX0_set_64 rfl ?_
  exact m_iret K hr hh1 hm1 hcl1 hsl1 h dX0_set_66
theorem kX0_set_34 {p : Program} {l : Launch} {e : Env} {s : State} {m : MethodId} {args : Array Value} {below : List Frame} {meth : Method} {c : Code} {A : Nat → Prop} {D : va_G} {ct : Nat → ClassId} {G : gE} {g : GP} {fx : Nat → Nat} {tl : va_W} {H : HB} {T0 : TB} {post : Int32 → CS → Prop} (K : CX p s m args meth c cX0_set 5 RX0 A D ct G) (hr : meth.sig.returnType = (some .int)) (hgc : gHasC G g)   (x3 : Int32) (S : CS) (mk : Bool) (cc : Nat) (sc : Nat) (h : wX0_set_34 H post  x3 S mk cc sc) : jM p l e s m args below meth c A D ct g fx tl 9 205 5 H T0 post S mk cc sc 34 [(3, .int x3)] [] := by
  unfold wX0_set_34 at h
  intro T kc ks hh hm hcl hsl
  have hG := K.2.2.2.2.2.2.2.2.2
  refine j_iload_n K 0 dX0_set_34 rfl rfl ?_
  exact m_iret K hr hh hm hcl hsl h dX0_set_35
theorem kX0_set_25 {p : Program} {l : Launch} {e : Env} {s : State} {m : MethodId} {args : Array Value} {below : List Frame} {meth : Method} {c : Code} {A : Nat → Prop} {D : va_G} {ct : Nat → ClassId} {G : gE} {g : GP} {fx : Nat → Nat} {tl : va_W} {H : HB} {T0 : TB} {post : Int32 → CS → Prop} (K : CX p s m args meth c cX0_set 5 RX0 A D ct G) (hr : meth.sig.returnType = (some .int)) (hgc : gHasC G g)   (x1 : Int32) (x2 : Int32) (s1 : Int32) (S : CS) (mk : Bool) (cc : Nat) (sc : Nat) (h : wX0_set_25 H post  x1 x2 s1 S mk cc sc) : jM p l e s m args below meth c A D ct g fx tl 9 205 5 H T0 post S mk cc sc 25 [(0, .ref (fx 0)), (1, .int x1), (2, .int x2)] [.int s1, .ref (fx 0)] := by
  unfold wX0_set_25 at h
  intro T kc ks hh hm hcl hsl
  have hG := K.2.2.2.2.2.2.2.2.2
  refine j_iconst K (1 : Int32) dX0_set_25 (by decide) ?_
  obtain ⟨hp, h⟩ := h
  obtain ⟨hrm, h⟩ := h
  refine j_callVi K (As := [.int s1, .int (1 : Int32)]) (rest := []) (ctX0_begun hG hgc s1 (1 : Int32) hp hh.tok) (lw_V q286 q288 qs3 q70 q289) (n := 2) (by decide +kernel) ⟨Nat.le_of_ble_eq_true rfl, Nat.le_of_ble_eq_true rfl⟩ 0 rfl rfl rfl rfl rfl (Nat.le_of_ble_eq_true rfl) dX0_set_26 (hh.roomF hm hrm.1 hrm.2) (fun r_1 u_26 hq => ?_)
  obtain ⟨S_2, Tu26⟩ := u_26
  obtain ⟨hq, he⟩ := hq
  have hh1 := hh.callF (c' := (bgC s1 (1 : Int32) S)) (s' := (bgS s1 (1 : Int32) S)) he
  have hm1 := hm
  have hcl1 := hrm.1
  have hsl1 := hrm.2
  replace h := h r_1 S_2 hq
  show jJ p l e _ s m args below meth c _ A D _ (CW ct g.2.1 fx S_2 Tu26 tl) _ _ _ _ _
  refine j_istore_n K [(3, .int r_1), (0, .ref (fx 0)), (1, .int x1), (2, .int x2)] dX0_set_29 rfl (by decide) rfl ?_
  refine j_iload_n K 0 dX0_set_30 rfl rfl ?_
  refine j_if_ge K 36 dX0_set_31 (by decide) (fun hc => ?_) (fun hc => ?_)
  · refine j_lv K [1, 2, 3] (lv' := [(0, .ref (fx 0)), (1, .int x1), (2, .int x2)]) rfl ?_
    exact kX0_set_36 K hr hgc  x1 x2 S_2 mk (cc + (bgC s1 (1 : Int32) S)) (sc + (bgS s1 (1 : Int32) S)) (h.1 hc) _ _ _ hh1 hm1 hcl1 hsl1
  · refine j_lv K [0] (lv' := [(3, .int r_1)]) rfl ?_
    exact kX0_set_34 K hr hgc  r_1 S_2 mk (cc + (bgC s1 (1 : Int32) S)) (sc + (bgS s1 (1 : Int32) S)) (h.2 hc) _ _ _ hh1 hm1 hcl1 hsl1
theorem kX0_set_23 {p : Program} {l : Launch} {e : Env} {s : State} {m : MethodId} {args : Array Value} {below : List Frame} {meth : Method} {c : Code} {A : Nat → Prop} {D : va_G} {ct : Nat → ClassId} {G : gE} {g : GP} {fx : Nat → Nat} {tl : va_W} {H : HB} {T0 : TB} {post : Int32 → CS → Prop} (K : CX p s m args meth c cX0_set 5 RX0 A D ct G) (hr : meth.sig.returnType = (some .int)) (hgc : gHasC G g)   (x1 : Int32) (x2 : Int32) (S : CS) (mk : Bool) (cc : Nat) (sc : Nat) (h : wX0_set_23 H post  x1 x2 S mk cc sc) : jM p l e s m args below meth c A D ct g fx tl 9 205 5 H T0 post S mk cc sc 23 [(0, .ref (fx 0)), (1, .int x1), (2, .int x2)] [.ref (fx 0)] := by
  unfold wX0_set_23 at h
  intro T kc ks hh hm hcl hsl
  have hG := K.2.2.2.2.2.2.2.2.2
  refine j_bipush K (-2 : Int32) dX0_set_23 (by decide) ?_
  exact kX0_set_25 K hr hgc  x1 x2 (-2 : Int32) S mk cc sc h _ _ _ hh hm hcl hsl
theorem kX0_set_19 {p : Program} {l : Launch} {e : Env} {s : State} {m : MethodId} {args : Array Value} {below : List Frame} {meth : Method} {c : Code} {A : Nat → Prop} {D : va_G} {ct : Nat → ClassId} {G : gE} {g : GP} {fx : Nat → Nat} {tl : va_W} {H : HB} {T0 : TB} {post : Int32 → CS → Prop} (K : CX p s m args meth c cX0_set 5 RX0 A D ct G) (hr : meth.sig.returnType = (some .int)) (hgc : gHasC G g)   (x1 : Int32) (x2 : Int32) (S : CS) (mk : Bool) (cc : Nat) (sc : Nat) (h : wX0_set_19 H post  x1 x2 S mk cc sc) : jM p l e s m args below meth c A D ct g fx tl 9 205 5 H T0 post S mk cc sc 19 [(0, .ref (fx 0)), (1, .int x1), (2, .int x2)] [.ref (fx 0)] := by
  unfold wX0_set_19 at h
  intro T kc ks hh hm hcl hsl
  have hG := K.2.2.2.2.2.2.2.2.2
  refine j_iconst K (0 : Int32) dX0_set_19 (by decide) ?_
  refine j_goto K 25 dX0_set_20 (by decide) ?_
  exact kX0_set_25 K hr hgc  x1 x2 (0 : Int32) S mk cc sc h _ _ _ hh hm hcl hsl
theorem kX0_set_10 {p : Program} {l : Launch} {e : Env} {s : State} {m : MethodId} {args : Array Value} {below : List Frame} {meth : Method} {c : Code} {A : Nat → Prop} {D : va_G} {ct : Nat → ClassId} {G : gE} {g : GP} {fx : Nat → Nat} {tl : va_W} {H : HB} {T0 : TB} {post : Int32 → CS → Prop} (K : CX p s m args meth c cX0_set 5 RX0 A D ct G) (hr : meth.sig.returnType = (some .int)) (hgc : gHasC G g)   (x1 : Int32) (x2 : Int32) (S : CS) (mk : Bool) (cc : Nat) (sc : Nat) (h : wX0_set_10 H post  x1 x2 S mk cc sc) : jM p l e s m args below meth c A D ct g fx tl 9 205 5 H T0 post S mk cc sc 10 [(0, .ref (fx 0)), (1, .int x1), (2, .int x2)] [.ref (fx 0)] := by
  unfold wX0_set_10 at h
  intro T kc ks hh hm hcl hsl
  have hG := K.2.2.2.2.2.2.2.2.2
  refine j_iload_n K 2 dX0_set_10 rfl rfl ?_
  refine j_iconst K (0 : Int32) dX0_set_11 (by decide) ?_
  refine j_iconst K (1 : Int32) dX0_set_12 (by decide) ?_
  refine j_callSi K (As := [.int x2, .int (0 : Int32), .int (1 : Int32)]) (rest := [.ref (fx 0)]) (ctX0_isIn (l := l) (D := D) (ct := ct) (G := G) (ws := (CW ct g.2.1 fx S T tl)) hG x2 (0 : Int32) (1 : Int32)) (lw_S q283 q284 q70 q285) (n := 3) (by decide +kernel) ⟨Nat.le_of_ble_eq_true rfl, Nat.le_of_ble_eq_true rfl⟩ rfl rfl (Nat.le_of_ble_eq_true rfl) dX0_set_13 (hh.room0 hm hcl hsl) (fun r_1 _ hq => ?_)
  replace h := h r_1 hq
  refine j_if_eq K 23 dX0_set_16 (by decide) (fun hc => ?_) (fun hc => ?_)
  · exact kX0_set_23 K hr hgc  x1 x2 S mk cc sc (h.1 hc) _ _ _ hh hm hcl hsl
  · exact kX0_set_19 K hr hgc  x1 x2 S mk cc sc (h.2 hc) _ _ _ hh hm hcl hsl
theorem kX0_set_0 {p : Program} {l : Launch} {e : Env} {s : State} {m : MethodId} {args : Array Value} {below : List Frame} {meth : Method} {c : Code} {A : Nat → Prop} {D : va_G} {ct : Nat → ClassId} {G : gE} {g : GP} {fx : Nat → Nat} {tl : va_W} {H : HB} {T0 : TB} {post : Int32 → CS → Prop} (K : CX p s m args meth c cX0_set 5 RX0 A D ct G) (hr : meth.sig.returnType = (some .int)) (hgc : gHasC G g)   (x1 : Int32) (x2 : Int32) (S : CS) (mk : Bool) (cc : Nat) (sc : Nat) (h : wX0_set_0 H post  x1 x2 S mk cc sc) : jM p l e s m args below meth c A D ct g fx tl 9 205 5 H T0 post S mk cc sc 0 [(0, .ref (fx 0)), (1, .int x1), (2, .int x2)] [] := by
  unfold wX0_set_0 at h
  intro T kc ks hh hm hcl hsl
  have hG := K.2.2.2.2.2.2.2.2.2
  refine j_aload_n K 0 dX0_set_0 rfl rfl ?_
  refine j_iload_n K 1 dX0_set_1 rfl rfl ?_
  refine j_iconst K (0 : Int32) dX0_set_2 (by decide) ?_
  refine j_iconst K (1 : Int32) dX0_set_3 (by decide) ?_
  refine j_callSi K (As := [.int x1, .int (0 : Int32), .int (1 : Int32)]) (rest := [.ref (fx 0)]) (ctX0_isIn (l := l) (D := D) (ct := ct) (G := G) (ws := (CW ct g.2.1 fx S T tl)) hG x1 (0 : Int32) (1 : Int32)) (lw_S q283 q284 q70 q285) (n := 3) (by decide +kernel) ⟨Nat.le_of_ble_eq_true rfl, Nat.le_of_ble_eq_true rfl⟩ rfl rfl (Nat.le_of_ble_eq_true rfl) dX0_set_4 (hh.room0 hm hcl hsl) (fun r_1 _ hq => ?_)
  replace h := h r_1 hq
  refine j_if_eq K 23 dX0_set_7 (by decide) (fun hc => ?_) (fun hc => ?_)
  · exact kX0_set_23 K hr hgc  x1 x2 S mk cc sc (h.1 hc) _ _ _ hh hm hcl hsl
  · exact kX0_set_10 K hr hgc  x1 x2 S mk cc sc (h.2 hc) _ _ _ hh hm hcl hsl
theorem ctX0_set {l : Launch} {D : va_G} {ct : Nat → ClassId} {G : gE} {g : GP} {fx : Nat → Nat} {tl : va_W} {S : CS} {T : TB} (hG : gOK G) (hgc : gHasC G g) (x1 : Int32) (x2 : Int32) (hp : cOk S) (hT : tOK T) : mCi l D ct G g fx tl yX0_set (ws_ yX0_set cX0_set 5 (some .int)) 9 205 [.ref (fx 0), .int x1, .int x2] S T false (seCl x1 x2 S) (seSl x1 x2 S) (fun r S' => sePo x1 x2 S r S') := fun sz =>
  j_met (Qc := fun A => va_Qi (fun (r : Int32) (u : CS × TB) => (fun (r : Int32) (S' : CS) => sePo x1 x2 S r S') r u.1 ∧ extB false (pS S) T u.2) (fun (u : CS × TB) => cB D ct A (CW ct g.2.1 fx u.1 u.2 tl)) A) (by decide) hG (Nat.le_of_ble_eq_true rfl) (fun p e s m args below meth c A K hr _ _ => kX0_set_0 (H := (false, pS S, (seCl x1 x2 S), (seSl x1 x2 S))) (T0 := T) (post := fun r S' => sePo x1 x2 S r S') K hr hgc x1 x2 S false 0 0 (vcX0_set x1 x2 hp) T 0 0 (hid.start hT) (fun z => (by cases z)) (Nat.zero_le _) (Nat.zero_le _))
-- wipe()I
theorem kX0_wipe_0 {p : Program} {l : Launch} {e : Env} {s : State} {m : MethodId} {args : Array Value} {below : List Frame} {meth : Method} {c : Code} {A : Nat → Prop} {D : va_G} {ct : Nat → ClassId} {G : gE} {g : GP} {fx : Nat → Nat} {tl : va_W} {H : HB} {T0 : TB} {post : Int32 → CS → Prop} (K : CX p s m args meth c cX0_wipe 2 RX0 A D ct G) (hr : meth.sig.returnType = (some .int)) (hgc : gHasC G g)    (S : CS) (mk : Bool) (cc : Nat) (sc : Nat) (h : wX0_wipe_0 H post  S mk cc sc) : jM p l e s m args below meth c A D ct g fx tl 3 64 2 H T0 post S mk cc sc 0 [(0, .ref (fx 0))] [] := by
  unfold wX0_wipe_0 at h
  intro T kc ks hh hm hcl hsl
  have hG := K.2.2.2.2.2.2.2.2.2
  refine j_aload_n K 0 dX0_wipe_0 rfl rfl ?_
  refine j_get K in_X0 0 rfl rfl 4 (by decide) q267 rfl rfl dX0_wipe_1 ?_
  refine j_callVi K (As := []) (rest := []) (pureM hG (ctC_len hG hh.tok)) (lw_V q632 q633 q634 q81 q635) (n := 0) (by decide +kernel) ⟨Nat.le_of_ble_eq_true rfl, Nat.le_of_ble_eq_true rfl⟩ 5 rfl rfl rfl rfl rfl (Nat.le_of_ble_eq_true rfl) dX0_wipe_4 (hh.room0 hm hcl hsl) (fun r_1 _ hq => ?_)
  have hq : r_1 = (nI S.2.2.2.1.2.2.2.length) := hq
  subst hq
  refine j_istore_n K [(1, .int (nI S.2.2.2.1.2.2.2.length)), (0, .ref (fx 0))] dX0_wipe_7 rfl (by decide) rfl ?_
  refine j_aload_n K 1 dX0_wipe_8 rfl rfl ?_
  refine j_get K in_X0 0 rfl rfl 4 (by decide) q267 rfl rfl dX0_wipe_9 ?_
  refine j_iconst K (0 : Int32) dX0_wipe_12 (by decide) ?_
  obtain ⟨hp, h⟩ := h
  obtain ⟨hrm, h⟩ := h
  refine j_callVv K (As := [.int (0 : Int32)]) (rest := []) (ctC_setLen hG hgc hh.tok hp.1 hp.2) (lw_V q788 q789 q790 q81 q791) (n := 1) (by decide +kernel) ⟨Nat.le_of_ble_eq_true rfl, Nat.le_of_ble_eq_true rfl⟩ 5 rfl rfl rfl rfl rfl (Nat.le_of_ble_eq_true rfl) dX0_wipe_13 (hh.roomF hm hrm.1 hrm.2) (fun u_13 hq => ?_)
  obtain ⟨S_3, Tu13⟩ := u_13
  obtain ⟨hq, he⟩ := hq
  have hh1 := hh.callF (c' := 0) (s' := 0) he
  have hm1 := hm
  have hcl1 := hrm.1
  have hsl1 := hrm.2
  replace h := h S_3 hq
  show jJ p l e _ s m args below meth c _ A D _ (CW ct g.2.1 fx S_3 Tu13 tl) _ _ _ _ _
  refine j_iload_n K 0 dX0_wipe_16 rfl rfl ?_
  exact m_iret K hr hh1 hm1 hcl1 hsl1 h dX0_wipe_17
theorem ctX0_wipe {l : Launch} {D : va_G} {ct : Nat → ClassId} {G : gE} {g : GP} {fx : Nat → Nat} {tl : va_W} {S : CS} {T : TB} (hG : gOK G) (hgc : gHasC G g)  (hp : cOk S) (hT : tOK T) : mCi l D ct G g fx tl yX0_wipe (ws_ yX0_wipe cX0_wipe 2 (some .int)) 3 64 [.ref (fx 0)] S T false 0 0 (fun r S' => r = nI S.2.2.2.1.2.2.2.length ∧ ∃ ml, S' = cPad S (S.2.2.2.1.1, S.2.2.2.1.2.1, S.2.2.2.1.2.2.1, []) ml) := fun sz =>
  j_met (Qc := fun A => va_Qi (fun (r : Int32) (u : CS × TB) => (fun (r : Int32) (S' : CS) => r = nI S.2.2.2.1.2.2.2.length ∧ ∃ ml, S' = cPad S (S.2.2.2.1.1, S.2.2.2.1.2.1, S.2.2.2.1.2.2.1, []) ml) r u.1 ∧ extB false (pS S) T u.2) (fun (u : CS × TB) => cB D ct A (CW ct g.2.1 fx u.1 u.2 tl)) A) (by decide) hG (Nat.le_of_ble_eq_true rfl) (fun p e s m args below meth c A K hr _ _ => kX0_wipe_0 (H := (false, pS S, 0, 0)) (T0 := T) (post := fun r S' => r = nI S.2.2.2.1.2.2.2.length ∧ ∃ ml, S' = cPad S (S.2.2.2.1.1, S.2.2.2.1.2.1, S.2.2.2.1.2.2.1, []) ml) K hr hgc  S false 0 0 (vcX0_wipe  hp) T 0 0 (hid.start hT) (fun z => (by cases z)) (Nat.zero_le _) (Nat.zero_le _))
