/-! WALK of MorrisTables, B: printed by gen_mainB.py -/
-- X0_isPoint
theorem kX0_isPoint_0 {p : Program} {l : Launch} {e : Env} {s : State} {m : MethodId} {args : Array Value} {below : List Frame} {meth : Method} {c : Code} {A : Nat → Prop} {D : va_G} {ct : Nat → ClassId} {G : gE} {ws : va_W} {post : Int32 → Unit → Prop} (K : CX p s m args meth c cX0_isPoint 1 RX0 A D ct G) (hr : meth.sig.returnType = (some .boolean))   (x0 : Int32)  (h : wX0_isPoint_0 post  x0) : jJ p l e { frames := 1, cells := 0, slots := 0, locals := 22 } s m args below meth c (MQ below (va_Qi post (fun _ => cB D ct A ws) A) args s 0 0 A) A D 1 ws 0 0 0 [(0, .int x0)] [] := by
  unfold wX0_isPoint_0 at h
  refine j_iload_n K 0 dX0_isPoint_0 rfl rfl ?_
  refine j_iconst K (0 : Int32) dX0_isPoint_1 (by decide) ?_
  refine j_bipush K (8 : Int32) dX0_isPoint_2 (by decide) ?_
  refine j_callSi K (As := [.int x0, .int (0 : Int32), .int (8 : Int32)]) (rest := []) (ctX0_isIn (l := l) (D := D) (ct := ct) (G := G) (ws := ws) K.2.2.2.2.2.2.2.2.2 x0 (0 : Int32) (8 : Int32)) (lw_S q283 q284 q70 q285) (n := 3) (by decide +kernel) ⟨Nat.le_of_ble_eq_true rfl, Nat.le_of_ble_eq_true rfl⟩ rfl rfl (Nat.le_of_ble_eq_true rfl) dX0_isPoint_4 ⟨Nat.le_of_ble_eq_true rfl, Nat.le_of_ble_eq_true rfl⟩ (fun r_1 _ hq => ?_)
  replace h := h r_1 hq
  exact j_zret () (wf := fun _ => ws) K hr rfl h.2 h.1 (Nat.le_of_ble_eq_true rfl) (Nat.le_of_ble_eq_true rfl) dX0_isPoint_7
theorem ctX0_isPoint {l : Launch} {D : va_G} {ct : Nat → ClassId} {G : gE} {ws : va_W} (hG : gOK G) (x0 : Int32) : ∀ sz, Met l yX0_isPoint (ws_ yX0_isPoint cX0_isPoint 1 (some .boolean)) { frames := 1, cells := 0, slots := 0, locals := 22 } (va_Pc [.int x0] (cPre G D ct ws sz)) (va_Qi (fun (r : Int32) (_ : Unit) => qX0_isPoint x0 r) (fun _ => cB D ct (va_A ws sz) ws) (va_A ws sz)) 0 0 (va_A ws sz) := fun sz =>
  j_met (Qc := fun A => va_Qi (fun (r : Int32) (_ : Unit) => qX0_isPoint x0 r) (fun _ => cB D ct A ws) A) (by decide +kernel) hG (Nat.le_of_ble_eq_true rfl) (fun p e s m args below meth c A K hr _ _ => kX0_isPoint_0 K hr x0 (vcX0_isPoint x0))
-- bestMove()I
theorem kX0_bestMove_57 {p : Program} {l : Launch} {e : Env} {s : State} {m : MethodId} {args : Array Value} {below : List Frame} {meth : Method} {c : Code} {A : Nat → Prop} {D : va_G} {ct : Nat → ClassId} {G : gE} {g : GP} {fx : Nat → Nat} {tl : va_W} {H : HB} {T0 : TB} {post : Int32 → CS → Prop} (K : CX p s m args meth c cX0_bestMove 4 RX0 A D ct G) (hr : meth.sig.returnType = (some .int)) (hgc : gHasC G g) (L29 : Int32 → Int32 → CS → Bool → Nat → Nat → Prop) (hL29 : ∀ (x2 : Int32) (x3 : Int32) (S : CS) (mk : Bool) (cc : Nat) (sc : Nat), L29 x2 x3 S mk cc sc → jM p l e s m args below meth c A D ct g fx tl 9 214 4 H T0 post S mk cc sc 29 [(0, .ref (fx 0)), (2, .int x2), (3, .int x3)] []) (x2 : Int32) (x3 : Int32) (S : CS) (mk : Bool) (cc : Nat) (sc : Nat) (h : wX0_bestMove_57 H post L29 x2 x3 S mk cc sc) : jM p l e s m args below meth c A D ct g fx tl 9 214 4 H T0 post S mk cc sc 57 [(0, .ref (fx 0)), (2, .int x2), (3, .int x3)] [] := by
  unfold wX0_bestMove_57 at h
  intro T kc ks hh hm hcl hsl
  have hG := K.2.2.2.2.2.2.2.2.2
  refine j_iinc K 2 (x3 + (1 : Int32)) [(3, .int (x3 + (1 : Int32))), (0, .ref (fx 0)), (2, .int x2)] dX0_bestMove_57 rfl rfl (by decide) rfl ?_
  refine j_goto K 29 dX0_bestMove_60 (by decide) ?_
  refine j_lv K [1, 2, 0] (lv' := [(0, .ref (fx 0)), (2, .int x2), (3, .int (x3 + (1 : Int32)))]) rfl ?_
  exact hL29 x2 (x3 + (1 : Int32)) S mk cc sc h _ _ _ hh hm hcl hsl
theorem kX0_bestMove_63 {p : Program} {l : Launch} {e : Env} {s : State} {m : MethodId} {args : Array Value} {below : List Frame} {meth : Method} {c : Code} {A : Nat → Prop} {D : va_G} {ct : Nat → ClassId} {G : gE} {g : GP} {fx : Nat → Nat} {tl : va_W} {H : HB} {T0 : TB} {post : Int32 → CS → Prop} (K : CX p s m args meth c cX0_bestMove 4 RX0 A D ct G) (hr : meth.sig.returnType = (some .int)) (hgc : gHasC G g)   (x3 : Int32) (S : CS) (mk : Bool) (cc : Nat) (sc : Nat) (h : wX0_bestMove_63 H post  x3 S mk cc sc) : jM p l e s m args below meth c A D ct g fx tl 9 214 4 H T0 post S mk cc sc 63 [(3, .int x3)] [] := by
  unfold wX0_bestMove_63 at h
  intro T kc ks hh hm hcl hsl
  have hG := K.2.2.2.2.2.2.2.2.2
  refine j_iload_n K 0 dX0_bestMove_63 rfl rfl ?_
  exact m_iret K hr hh hm hcl hsl h dX0_bestMove_64
theorem kX0_bestMove_48 {p : Program} {l : Launch} {e : Env} {s : State} {m : MethodId} {args : Array Value} {below : List Frame} {meth : Method} {c : Code} {A : Nat → Prop} {D : va_G} {ct : Nat → ClassId} {G : gE} {g : GP} {fx : Nat → Nat} {tl : va_W} {H : HB} {T0 : TB} {post : Int32 → CS → Prop} (K : CX p s m args meth c cX0_bestMove 4 RX0 A D ct G) (hr : meth.sig.returnType = (some .int)) (hgc : gHasC G g) (L29 : Int32 → Int32 → CS → Bool → Nat → Nat → Prop) (hL29 : ∀ (x2 : Int32) (x3 : Int32) (S : CS) (mk : Bool) (cc : Nat) (sc : Nat), L29 x2 x3 S mk cc sc → jM p l e s m args below meth c A D ct g fx tl 9 214 4 H T0 post S mk cc sc 29 [(0, .ref (fx 0)), (2, .int x2), (3, .int x3)] []) (x2 : Int32) (x3 : Int32) (S : CS) (mk : Bool) (cc : Nat) (sc : Nat) (h : wX0_bestMove_48 H post L29 x2 x3 S mk cc sc) : jM p l e s m args below meth c A D ct g fx tl 9 214 4 H T0 post S mk cc sc 48 [(0, .ref (fx 0)), (2, .int x2), (3, .int x3)] [] := by
  unfold wX0_bestMove_48 at h
  intro T kc ks hh hm hcl hsl
  have hG := K.2.2.2.2.2.2.2.2.2
  refine j_aload_n K 0 dX0_bestMove_48 rfl rfl ?_
  refine j_iload_n K 2 dX0_bestMove_49 rfl rfl ?_
  obtain ⟨hp, h⟩ := h
  obtain ⟨ho, h⟩ := h
  refine j_callVi K (As := [.int x3]) (rest := []) (ctX0_behindNow hG hgc x3 hp.1 ho hh.tok) (lw_V q615 q617 qs25 q70 q618) (n := 1) (by decide +kernel) ⟨Nat.le_of_ble_eq_true rfl, Nat.le_of_ble_eq_true rfl⟩ 0 rfl rfl rfl rfl rfl (Nat.le_of_ble_eq_true rfl) dX0_bestMove_50 (hh.roomT hm hp.2 hcl hsl) (fun r_50 u_50 hq => ?_)
  obtain ⟨Su50, Tu50⟩ := u_50
  obtain ⟨⟨hq, hq0⟩, he⟩ := hq
  have hq0 : S = Su50 := hq0.symm
  subst hq0
  have hq : r_50 = (iI (wB S.1.2 x3.toNatClampNeg)) := hq
  subst hq
  have hh1 := hh.callT hp.2.2 he
  have hm1 : true = true → H.1 = true := fun _ => hp.2.1
  show jJ p l e _ s m args below meth c _ A D _ (CW ct g.2.1 fx S Tu50 tl) _ _ _ _ _
  refine j_iload_n K 1 dX0_bestMove_53 rfl rfl ?_
  refine j_icmp_eq K 63 dX0_bestMove_54 (by decide) (fun hc => ?_) (fun hc => ?_)
  · refine j_lv K [2] (lv' := [(3, .int x3)]) rfl ?_
    exact kX0_bestMove_63 K hr hgc  x3 S true cc sc (h.1 hc) _ _ _ hh1 hm1 hcl hsl
  · exact kX0_bestMove_57 K hr hgc L29 hL29 x2 x3 S true cc sc (h.2 hc) _ _ _ hh1 hm1 hcl hsl
theorem kX0_bestMove_29_b {p : Program} {l : Launch} {e : Env} {s : State} {m : MethodId} {args : Array Value} {below : List Frame} {meth : Method} {c : Code} {A : Nat → Prop} {D : va_G} {ct : Nat → ClassId} {G : gE} {g : GP} {fx : Nat → Nat} {tl : va_W} {H : HB} {T0 : TB} {post : Int32 → CS → Prop} (K : CX p s m args meth c cX0_bestMove 4 RX0 A D ct G) (hr : meth.sig.returnType = (some .int)) (hgc : gHasC G g) (L29 : Int32 → Int32 → CS → Bool → Nat → Nat → Prop) (hL29 : ∀ (x2 : Int32) (x3 : Int32) (S : CS) (mk : Bool) (cc : Nat) (sc : Nat), L29 x2 x3 S mk cc sc → jM p l e s m args below meth c A D ct g fx tl 9 214 4 H T0 post S mk cc sc 29 [(0, .ref (fx 0)), (2, .int x2), (3, .int x3)] []) (x2 : Int32) (x3 : Int32) (S : CS) (mk : Bool) (cc : Nat) (sc : Nat) (h : wX0_bestMove_29_b H post L29 x2 x3 S mk cc sc) : jM p l e s m args below meth c A D ct g fx tl 9 214 4 H T0 post S mk cc sc 29 [(0, .ref (fx 0)), (2, .int x2), (3, .int x3)] [] := by
  unfold wX0_bestMove_29_b at h
  intro T kc ks hh hm hcl hsl
  have hG := K.2.2.2.2.2.2.2.2.2
  refine j_aload_n K 0 dX0_bestMove_29 rfl rfl ?_
  obtain ⟨hp, h⟩ := h
  refine j_callVq K (As := []) (rest := []) (ctX0_table hG hgc hp.1.1 hh.tok) (lw_V q369 q371 qs10 q70 q372) (n := 0) (by decide +kernel) ⟨Nat.le_of_ble_eq_true rfl, Nat.le_of_ble_eq_true rfl⟩ 0 rfl rfl rfl rfl rfl (Nat.le_of_ble_eq_true rfl) dX0_bestMove_30 (hh.roomT hm hp.2 hcl hsl) (fun r_30 u_30 hq => ?_)
  obtain ⟨Su30, Tu30⟩ := u_30
  obtain ⟨⟨hq0, tx_30, hx_30, hq⟩, he⟩ := hq
  have hq0 : S = Su30 := hq0.symm
  subst hq0
  have hx_30 : Tu30 (pS S) = some tx_30 := hx_30
  have hq : r_30 = some (tx_30.1 0) := hq
  subst hq
  have hh1 := hh.callT hp.2.2 he
  have hm1 : true = true → H.1 = true := fun _ => hp.2.1
  show jJ p l e _ s m args below meth c _ A D _ (CW ct g.2.1 fx S Tu30 tl) _ _ _ _ (.ref (tx_30.1 0) :: _)
  refine j_aload_n K 0 dX0_bestMove_33 rfl rfl ?_
  obtain ⟨hp, h⟩ := h
  refine j_callVi K (As := []) (rest := [.ref (tx_30.1 0)]) (pureM hG (ctX0_own hG hgc hp hh1.tok)) (lw_V q545 q547 qs18 q70 q548) (n := 0) (by decide +kernel) ⟨Nat.le_of_ble_eq_true rfl, Nat.le_of_ble_eq_true rfl⟩ 0 rfl rfl rfl rfl rfl (Nat.le_of_ble_eq_true rfl) dX0_bestMove_34 (hh1.room0 hm1 hcl hsl) (fun r_1 _ hq => ?_)
  have hq : r_1 = (nI (meB (cur S.1.2))) := hq
  subst hq
  refine j_aload_n K 0 dX0_bestMove_37 rfl rfl ?_
  obtain ⟨hp, h⟩ := h
  refine j_callVi K (As := []) (rest := [.int (nI (meB (cur S.1.2))), .ref (tx_30.1 0)]) (pureM hG (ctX0_others hG hgc hp hh1.tok)) (lw_V q549 q551 qs19 q70 q552) (n := 0) (by decide +kernel) ⟨Nat.le_of_ble_eq_true rfl, Nat.le_of_ble_eq_true rfl⟩ 0 rfl rfl rfl rfl rfl (Nat.le_of_ble_eq_true rfl) dX0_bestMove_38 (hh1.room0 hm1 hcl hsl) (fun r_2 _ hq => ?_)
  have hq : r_2 = (nI (otB (cur S.1.2))) := hq
  subst hq
  refine j_iload_n K 2 dX0_bestMove_41 rfl rfl ?_
  obtain ⟨hp, h⟩ := h
  have hpI := hp
  obtain ⟨i9, hi9⟩ := tab_in (ct := ct) (g := g) (fx := fx) (tl := tl) (pS_lt hpI) hx_30
  refine j_callUi K (As := [.int (nI (meB (cur S.1.2))), .int (nI (otB (cur S.1.2))), .int x3]) (rest := []) (pureM hG (ctT_isMove hG hgc hp hh1.tok hx_30)) (x := ⟨"MorrisTables$Table", "isMove", "(III)Z"⟩) (lw_U q562 q563 q565 q566 q87 q567) rfl (n := 3) (by decide +kernel) ⟨Nat.le_of_ble_eq_true rfl, Nat.le_of_ble_eq_true rfl⟩ i9 hi9 rfl rfl rfl rfl (Nat.le_of_ble_eq_true rfl) dX0_bestMove_42 (hh1.room0 hm1 hcl hsl) (fun r_3 _ hq => ?_)
  have hq : r_3 = (b2 (isMvX S.1.2 x3)) := hq
  subst hq
  refine j_if_eq K 57 dX0_bestMove_45 (by decide) (fun hc => ?_) (fun hc => ?_)
  · exact kX0_bestMove_57 K hr hgc L29 hL29 x2 x3 S true cc sc (h.1 hc) _ _ _ hh1 hm1 hcl hsl
  · exact kX0_bestMove_48 K hr hgc L29 hL29 x2 x3 S true cc sc (h.2 hc) _ _ _ hh1 hm1 hcl hsl
theorem kX0_bestMove_29 {p : Program} {l : Launch} {e : Env} {s : State} {m : MethodId} {args : Array Value} {below : List Frame} {meth : Method} {c : Code} {A : Nat → Prop} {D : va_G} {ct : Nat → ClassId} {G : gE} {g : GP} {fx : Nat → Nat} {tl : va_W} {H : HB} {T0 : TB} {post : Int32 → CS → Prop} (K : CX p s m args meth c cX0_bestMove 4 RX0 A D ct G) (hr : meth.sig.returnType = (some .int)) (hgc : gHasC G g)   (x2 : Int32) (x3 : Int32) (S : CS) (mk : Bool) (cc : Nat) (sc : Nat) (h : wX0_bestMove_29 H post  x2 x3 S mk cc sc) : jM p l e s m args below meth c A D ct g fx tl 9 214 4 H T0 post S mk cc sc 29 [(0, .ref (fx 0)), (2, .int x2), (3, .int x3)] [] :=
  wloop_sound (V := Int32 × Int32 × CS × Bool × Nat × Nat) (Wk := fun v => jM p l e s m args below meth c A D ct g fx tl 9 214 4 H T0 post v.2.2.1 v.2.2.2.1 v.2.2.2.2.1 v.2.2.2.2.2 29 [(0, .ref (fx 0)), (2, .int v.1), (3, .int v.2.1)] []) (fun L hL v hb => kX0_bestMove_29_b K hr hgc (fun x2 x3 S mk cc sc => L (x2, x3, S, mk, cc, sc)) (fun x2 x3 S mk cc sc hx => hL (x2, x3, S, mk, cc, sc) hx) v.1 v.2.1 v.2.2.1 v.2.2.2.1 v.2.2.2.2.1 v.2.2.2.2.2 hb) h
theorem kX0_bestMove_26 {p : Program} {l : Launch} {e : Env} {s : State} {m : MethodId} {args : Array Value} {below : List Frame} {meth : Method} {c : Code} {A : Nat → Prop} {D : va_G} {ct : Nat → ClassId} {G : gE} {g : GP} {fx : Nat → Nat} {tl : va_W} {H : HB} {T0 : TB} {post : Int32 → CS → Prop} (K : CX p s m args meth c cX0_bestMove 4 RX0 A D ct G) (hr : meth.sig.returnType = (some .int)) (hgc : gHasC G g)   (s0 : Int32) (S : CS) (mk : Bool) (cc : Nat) (sc : Nat) (h : wX0_bestMove_26 H post  s0 S mk cc sc) : jM p l e s m args below meth c A D ct g fx tl 9 214 4 H T0 post S mk cc sc 26 [(0, .ref (fx 0))] [.int s0] := by
  unfold wX0_bestMove_26 at h
  intro T kc ks hh hm hcl hsl
  have hG := K.2.2.2.2.2.2.2.2.2
  refine j_istore_n K [(2, .int s0), (0, .ref (fx 0))] dX0_bestMove_26 rfl (by decide) rfl ?_
  refine j_iconst K (0 : Int32) dX0_bestMove_27 (by decide) ?_
  refine j_istore_n K [(3, .int (0 : Int32)), (2, .int s0), (0, .ref (fx 0))] dX0_bestMove_28 rfl (by decide) rfl ?_
  refine j_lv K [2, 1, 0] (lv' := [(0, .ref (fx 0)), (2, .int s0), (3, .int (0 : Int32))]) rfl ?_
  exact kX0_bestMove_29 K hr hgc  s0 (0 : Int32) S mk cc sc h _ _ _ hh hm hcl hsl
theorem kX0_bestMove_25 {p : Program} {l : Launch} {e : Env} {s : State} {m : MethodId} {args : Array Value} {below : List Frame} {meth : Method} {c : Code} {A : Nat → Prop} {D : va_G} {ct : Nat → ClassId} {G : gE} {g : GP} {fx : Nat → Nat} {tl : va_W} {H : HB} {T0 : TB} {post : Int32 → CS → Prop} (K : CX p s m args meth c cX0_bestMove 4 RX0 A D ct G) (hr : meth.sig.returnType = (some .int)) (hgc : gHasC G g)    (S : CS) (mk : Bool) (cc : Nat) (sc : Nat) (h : wX0_bestMove_25 H post  S mk cc sc) : jM p l e s m args below meth c A D ct g fx tl 9 214 4 H T0 post S mk cc sc 25 [(0, .ref (fx 0))] [] := by
  unfold wX0_bestMove_25 at h
  intro T kc ks hh hm hcl hsl
  have hG := K.2.2.2.2.2.2.2.2.2
  refine j_iconst K (0 : Int32) dX0_bestMove_25 (by decide) ?_
  exact kX0_bestMove_26 K hr hgc  (0 : Int32) S mk cc sc h _ _ _ hh hm hcl hsl
theorem kX0_bestMove_18 {p : Program} {l : Launch} {e : Env} {s : State} {m : MethodId} {args : Array Value} {below : List Frame} {meth : Method} {c : Code} {A : Nat → Prop} {D : va_G} {ct : Nat → ClassId} {G : gE} {g : GP} {fx : Nat → Nat} {tl : va_W} {H : HB} {T0 : TB} {post : Int32 → CS → Prop} (K : CX p s m args meth c cX0_bestMove 4 RX0 A D ct G) (hr : meth.sig.returnType = (some .int)) (hgc : gHasC G g)   (x1 : Int32) (S : CS) (mk : Bool) (cc : Nat) (sc : Nat) (h : wX0_bestMove_18 H post  x1 S mk cc sc) : jM p l e s m args below meth c A D ct g fx tl 9 214 4 H T0 post S mk cc sc 18 [(0, .ref (fx 0)), (1, .int x1)] [] := by
  unfold wX0_bestMove_18 at h
  intro T kc ks hh hm hcl hsl
  have hG := K.2.2.2.2.2.2.2.2.2
  refine j_bipush K (-2 : Int32) dX0_bestMove_18 (by decide) ?_
  refine j_iload_n K 1 dX0_bestMove_20 rfl rfl ?_
  refine j_isub K dX0_bestMove_21 ?_
  refine j_goto K 26 dX0_bestMove_22 (by decide) ?_
  refine j_lv K [0] (lv' := [(0, .ref (fx 0))]) rfl ?_
  exact kX0_bestMove_26 K hr hgc  ((-2 : Int32) - x1) S mk cc sc h _ _ _ hh hm hcl hsl
theorem kX0_bestMove_14 {p : Program} {l : Launch} {e : Env} {s : State} {m : MethodId} {args : Array Value} {below : List Frame} {meth : Method} {c : Code} {A : Nat → Prop} {D : va_G} {ct : Nat → ClassId} {G : gE} {g : GP} {fx : Nat → Nat} {tl : va_W} {H : HB} {T0 : TB} {post : Int32 → CS → Prop} (K : CX p s m args meth c cX0_bestMove 4 RX0 A D ct G) (hr : meth.sig.returnType = (some .int)) (hgc : gHasC G g)   (x1 : Int32) (S : CS) (mk : Bool) (cc : Nat) (sc : Nat) (h : wX0_bestMove_14 H post  x1 S mk cc sc) : jM p l e s m args below meth c A D ct g fx tl 9 214 4 H T0 post S mk cc sc 14 [(0, .ref (fx 0)), (1, .int x1)] [] := by
  unfold wX0_bestMove_14 at h
  intro T kc ks hh hm hcl hsl
  have hG := K.2.2.2.2.2.2.2.2.2
  refine j_iload_n K 1 dX0_bestMove_14 rfl rfl ?_
  refine j_if_ge K 25 dX0_bestMove_15 (by decide) (fun hc => ?_) (fun hc => ?_)
  · refine j_lv K [0] (lv' := [(0, .ref (fx 0))]) rfl ?_
    exact kX0_bestMove_25 K hr hgc  S mk cc sc (h.1 hc) _ _ _ hh hm hcl hsl
  · exact kX0_bestMove_18 K hr hgc  x1 S mk cc sc (h.2 hc) _ _ _ hh hm hcl hsl
theorem kX0_bestMove_9 {p : Program} {l : Launch} {e : Env} {s : State} {m : MethodId} {args : Array Value} {below : List Frame} {meth : Method} {c : Code} {A : Nat → Prop} {D : va_G} {ct : Nat → ClassId} {G : gE} {g : GP} {fx : Nat → Nat} {tl : va_W} {H : HB} {T0 : TB} {post : Int32 → CS → Prop} (K : CX p s m args meth c cX0_bestMove 4 RX0 A D ct G) (hr : meth.sig.returnType = (some .int)) (hgc : gHasC G g)   (x1 : Int32) (S : CS) (mk : Bool) (cc : Nat) (sc : Nat) (h : wX0_bestMove_9 H post  x1 S mk cc sc) : jM p l e s m args below meth c A D ct g fx tl 9 214 4 H T0 post S mk cc sc 9 [(0, .ref (fx 0)), (1, .int x1)] [] := by
  unfold wX0_bestMove_9 at h
  intro T kc ks hh hm hcl hsl
  have hG := K.2.2.2.2.2.2.2.2.2
  refine j_iload_n K 1 dX0_bestMove_9 rfl rfl ?_
  refine j_ineg K dX0_bestMove_10 ?_
  refine j_goto K 26 dX0_bestMove_11 (by decide) ?_
  refine j_lv K [0] (lv' := [(0, .ref (fx 0))]) rfl ?_
  exact kX0_bestMove_26 K hr hgc  (-x1) S mk cc sc h _ _ _ hh hm hcl hsl
theorem kX0_bestMove_0 {p : Program} {l : Launch} {e : Env} {s : State} {m : MethodId} {args : Array Value} {below : List Frame} {meth : Method} {c : Code} {A : Nat → Prop} {D : va_G} {ct : Nat → ClassId} {G : gE} {g : GP} {fx : Nat → Nat} {tl : va_W} {H : HB} {T0 : TB} {post : Int32 → CS → Prop} (K : CX p s m args meth c cX0_bestMove 4 RX0 A D ct G) (hr : meth.sig.returnType = (some .int)) (hgc : gHasC G g)    (S : CS) (mk : Bool) (cc : Nat) (sc : Nat) (h : wX0_bestMove_0 H post  S mk cc sc) : jM p l e s m args below meth c A D ct g fx tl 9 214 4 H T0 post S mk cc sc 0 [(0, .ref (fx 0))] [] := by
  unfold wX0_bestMove_0 at h
  intro T kc ks hh hm hcl hsl
  have hG := K.2.2.2.2.2.2.2.2.2
  refine j_aload_n K 0 dX0_bestMove_0 rfl rfl ?_
  obtain ⟨hp, h⟩ := h
  refine j_callVi K (As := []) (rest := []) (ctX0_worthNow hG hgc hp.1 hh.tok) (lw_V q610 q612 qs24 q70 q613) (n := 0) (by decide +kernel) ⟨Nat.le_of_ble_eq_true rfl, Nat.le_of_ble_eq_true rfl⟩ 0 rfl rfl rfl rfl rfl (Nat.le_of_ble_eq_true rfl) dX0_bestMove_1 (hh.roomT hm hp.2 hcl hsl) (fun r_1 u_1 hq => ?_)
  obtain ⟨Su1, Tu1⟩ := u_1
  obtain ⟨⟨hq, hq0⟩, he⟩ := hq
  have hq0 : S = Su1 := hq0.symm
  subst hq0
  have hq : r_1 = (iI (wG S.1.2)) := hq
  subst hq
  have hh1 := hh.callT hp.2.2 he
  have hm1 : true = true → H.1 = true := fun _ => hp.2.1
  show jJ p l e _ s m args below meth c _ A D _ (CW ct g.2.1 fx S Tu1 tl) _ _ _ _ _
  refine j_istore_n K [(1, .int (iI (wG S.1.2))), (0, .ref (fx 0))] dX0_bestMove_4 rfl (by decide) rfl ?_
  refine j_iload_n K 0 dX0_bestMove_5 rfl rfl ?_
  refine j_if_le K 14 dX0_bestMove_6 (by decide) (fun hc => ?_) (fun hc => ?_)
  · refine j_lv K [1, 0] (lv' := [(0, .ref (fx 0)), (1, .int (iI (wG S.1.2)))]) rfl ?_
    exact kX0_bestMove_14 K hr hgc  (iI (wG S.1.2)) S true cc sc (h.1 hc) _ _ _ hh1 hm1 hcl hsl
  · refine j_lv K [1, 0] (lv' := [(0, .ref (fx 0)), (1, .int (iI (wG S.1.2)))]) rfl ?_
    exact kX0_bestMove_9 K hr hgc  (iI (wG S.1.2)) S true cc sc (h.2 hc) _ _ _ hh1 hm1 hcl hsl
theorem ctX0_bestMove {l : Launch} {D : va_G} {ct : Nat → ClassId} {G : gE} {g : GP} {fx : Nat → Nat} {tl : va_W} {S : CS} {T : TB} (hG : gOK G) (hgc : gHasC G g)  (hp : cOk S) (ho : overG S.1.2 = false) (hT : tOK T) : mCi l D ct G g fx tl yX0_bestMove (ws_ yX0_bestMove cX0_bestMove 4 (some .int)) 9 214 [.ref (fx 0)] S T true 0 0 (fun r S' => r = nI (bestG S.1.2) ∧ S' = S) := fun sz =>
  j_met (Qc := fun A => va_Qi (fun (r : Int32) (u : CS × TB) => (fun (r : Int32) (S' : CS) => r = nI (bestG S.1.2) ∧ S' = S) r u.1 ∧ extB true (pS S) T u.2) (fun (u : CS × TB) => cB D ct A (CW ct g.2.1 fx u.1 u.2 tl)) A) (by decide) hG (Nat.le_of_ble_eq_true rfl) (fun p e s m args below meth c A K hr _ _ => kX0_bestMove_0 (H := (true, pS S, 0, 0)) (T0 := T) (post := fun r S' => r = nI (bestG S.1.2) ∧ S' = S) K hr hgc  S false 0 0 (vcX0_bestMove  hp ho) T 0 0 (hid.start hT) (fun z => (by cases z)) (Nat.zero_le _) (Nat.zero_le _))
-- at(I)I
theorem kX0_at_53 {p : Program} {l : Launch} {e : Env} {s : State} {m : MethodId} {args : Array Value} {below : List Frame} {meth : Method} {c : Code} {A : Nat → Prop} {D : va_G} {ct : Nat → ClassId} {G : gE} {g : GP} {fx : Nat → Nat} {tl : va_W} {H : HB} {T0 : TB} {post : Int32 → CS → Prop} (K : CX p s m args meth c cX0_at 2 RX0 A D ct G) (hr : meth.sig.returnType = (some .int)) (hgc : gHasC G g)   (s0 : Int32) (S : CS) (mk : Bool) (cc : Nat) (sc : Nat) (h : wX0_at_53 H post  s0 S mk cc sc) : jM p l e s m args below meth c A D ct g fx tl 2 42 2 H T0 post S mk cc sc 53 [] [.int s0] := by
  unfold wX0_at_53 at h
  intro T kc ks hh hm hcl hsl
  have hG := K.2.2.2.2.2.2.2.2.2
  exact m_iret K hr hh hm hcl hsl h dX0_at_53
theorem kX0_at_51 {p : Program} {l : Launch} {e : Env} {s : State} {m : MethodId} {args : Array Value} {below : List Frame} {meth : Method} {c : Code} {A : Nat → Prop} {D : va_G} {ct : Nat → ClassId} {G : gE} {g : GP} {fx : Nat → Nat} {tl : va_W} {H : HB} {T0 : TB} {post : Int32 → CS → Prop} (K : CX p s m args meth c cX0_at 2 RX0 A D ct G) (hr : meth.sig.returnType = (some .int)) (hgc : gHasC G g)    (S : CS) (mk : Bool) (cc : Nat) (sc : Nat) (h : wX0_at_51 H post  S mk cc sc) : jM p l e s m args below meth c A D ct g fx tl 2 42 2 H T0 post S mk cc sc 51 [] [] := by
  unfold wX0_at_51 at h
  intro T kc ks hh hm hcl hsl
  have hG := K.2.2.2.2.2.2.2.2.2
  refine j_bipush K (-6 : Int32) dX0_at_51 (by decide) ?_
  exact kX0_at_53 K hr hgc  (-6 : Int32) S mk cc sc h _ _ _ hh hm hcl hsl
theorem kX0_at_47 {p : Program} {l : Launch} {e : Env} {s : State} {m : MethodId} {args : Array Value} {below : List Frame} {meth : Method} {c : Code} {A : Nat → Prop} {D : va_G} {ct : Nat → ClassId} {G : gE} {g : GP} {fx : Nat → Nat} {tl : va_W} {H : HB} {T0 : TB} {post : Int32 → CS → Prop} (K : CX p s m args meth c cX0_at 2 RX0 A D ct G) (hr : meth.sig.returnType = (some .int)) (hgc : gHasC G g)    (S : CS) (mk : Bool) (cc : Nat) (sc : Nat) (h : wX0_at_47 H post  S mk cc sc) : jM p l e s m args below meth c A D ct g fx tl 2 42 2 H T0 post S mk cc sc 47 [] [] := by
  unfold wX0_at_47 at h
  intro T kc ks hh hm hcl hsl
  have hG := K.2.2.2.2.2.2.2.2.2
  refine j_iconst K (1 : Int32) dX0_at_47 (by decide) ?_
  refine j_goto K 53 dX0_at_48 (by decide) ?_
  exact kX0_at_53 K hr hgc  (1 : Int32) S mk cc sc h _ _ _ hh hm hcl hsl
theorem kX0_at_30 {p : Program} {l : Launch} {e : Env} {s : State} {m : MethodId} {args : Array Value} {below : List Frame} {meth : Method} {c : Code} {A : Nat → Prop} {D : va_G} {ct : Nat → ClassId} {G : gE} {g : GP} {fx : Nat → Nat} {tl : va_W} {H : HB} {T0 : TB} {post : Int32 → CS → Prop} (K : CX p s m args meth c cX0_at 2 RX0 A D ct G) (hr : meth.sig.returnType = (some .int)) (hgc : gHasC G g)   (x1 : Int32) (S : CS) (mk : Bool) (cc : Nat) (sc : Nat) (h : wX0_at_30 H post  x1 S mk cc sc) : jM p l e s m args below meth c A D ct g fx tl 2 42 2 H T0 post S mk cc sc 30 [(0, .ref (fx 0)), (1, .int x1)] [] := by
  unfold wX0_at_30 at h
  intro T kc ks hh hm hcl hsl
  have hG := K.2.2.2.2.2.2.2.2.2
  refine j_aload_n K 0 dX0_at_30 rfl rfl ?_
  refine j_get K in_X0 0 rfl rfl 1 (by decide) q263 rfl rfl dX0_at_31 ?_
  refine j_getN K in_X2 7 rfl rfl 1 (by decide) (K.fn hgc 1 rfl) rfl rfl dX0_at_34 ?_
  refine j_iconst K (1 : Int32) dX0_at_37 (by decide) ?_
  refine j_iald K 9 0 rfl rfl (vin (n := 1) (by decide)) dX0_at_38 ?_
  refine j_iload_n K 1 dX0_at_39 rfl rfl ?_
  refine j_ishr K dX0_at_40 ?_
  refine j_iconst K (1 : Int32) dX0_at_41 (by decide) ?_
  refine j_iand K dX0_at_42 ?_
  refine j_iconst K (1 : Int32) dX0_at_43 (by decide) ?_
  refine j_icmp_ne K 51 dX0_at_44 (by decide) (fun hc => ?_) (fun hc => ?_)
  · refine j_lv K [] (lv' := []) rfl ?_
    exact kX0_at_51 K hr hgc  S mk cc sc (h.1 hc) _ _ _ hh hm hcl hsl
  · refine j_lv K [] (lv' := []) rfl ?_
    exact kX0_at_47 K hr hgc  S mk cc sc (h.2 hc) _ _ _ hh hm hcl hsl
theorem kX0_at_26 {p : Program} {l : Launch} {e : Env} {s : State} {m : MethodId} {args : Array Value} {below : List Frame} {meth : Method} {c : Code} {A : Nat → Prop} {D : va_G} {ct : Nat → ClassId} {G : gE} {g : GP} {fx : Nat → Nat} {tl : va_W} {H : HB} {T0 : TB} {post : Int32 → CS → Prop} (K : CX p s m args meth c cX0_at 2 RX0 A D ct G) (hr : meth.sig.returnType = (some .int)) (hgc : gHasC G g)    (S : CS) (mk : Bool) (cc : Nat) (sc : Nat) (h : wX0_at_26 H post  S mk cc sc) : jM p l e s m args below meth c A D ct g fx tl 2 42 2 H T0 post S mk cc sc 26 [] [] := by
  unfold wX0_at_26 at h
  intro T kc ks hh hm hcl hsl
  have hG := K.2.2.2.2.2.2.2.2.2
  refine j_iconst K (0 : Int32) dX0_at_26 (by decide) ?_
  refine j_goto K 53 dX0_at_27 (by decide) ?_
  exact kX0_at_53 K hr hgc  (0 : Int32) S mk cc sc h _ _ _ hh hm hcl hsl
theorem kX0_at_9 {p : Program} {l : Launch} {e : Env} {s : State} {m : MethodId} {args : Array Value} {below : List Frame} {meth : Method} {c : Code} {A : Nat → Prop} {D : va_G} {ct : Nat → ClassId} {G : gE} {g : GP} {fx : Nat → Nat} {tl : va_W} {H : HB} {T0 : TB} {post : Int32 → CS → Prop} (K : CX p s m args meth c cX0_at 2 RX0 A D ct G) (hr : meth.sig.returnType = (some .int)) (hgc : gHasC G g)   (x1 : Int32) (S : CS) (mk : Bool) (cc : Nat) (sc : Nat) (h : wX0_at_9 H post  x1 S mk cc sc) : jM p l e s m args below meth c A D ct g fx tl 2 42 2 H T0 post S mk cc sc 9 [(0, .ref (fx 0)), (1, .int x1)] [] := by
  unfold wX0_at_9 at h
  intro T kc ks hh hm hcl hsl
  have hG := K.2.2.2.2.2.2.2.2.2
  refine j_aload_n K 0 dX0_at_9 rfl rfl ?_
  refine j_get K in_X0 0 rfl rfl 1 (by decide) q263 rfl rfl dX0_at_10 ?_
  refine j_getN K in_X2 7 rfl rfl 1 (by decide) (K.fn hgc 1 rfl) rfl rfl dX0_at_13 ?_
  refine j_iconst K (0 : Int32) dX0_at_16 (by decide) ?_
  refine j_iald K 9 0 rfl rfl (vin (n := 0) (by decide)) dX0_at_17 ?_
  refine j_iload_n K 1 dX0_at_18 rfl rfl ?_
  refine j_ishr K dX0_at_19 ?_
  refine j_iconst K (1 : Int32) dX0_at_20 (by decide) ?_
  refine j_iand K dX0_at_21 ?_
  refine j_iconst K (1 : Int32) dX0_at_22 (by decide) ?_
  refine j_icmp_ne K 30 dX0_at_23 (by decide) (fun hc => ?_) (fun hc => ?_)
  · exact kX0_at_30 K hr hgc  x1 S mk cc sc (h.1 hc) _ _ _ hh hm hcl hsl
  · refine j_lv K [] (lv' := []) rfl ?_
    exact kX0_at_26 K hr hgc  S mk cc sc (h.2 hc) _ _ _ hh hm hcl hsl
theorem kX0_at_7 {p : Program} {l : Launch} {e : Env} {s : State} {m : MethodId} {args : Array Value} {below : List Frame} {meth : Method} {c : Code} {A : Nat → Prop} {D : va_G} {ct : Nat → ClassId} {G : gE} {g : GP} {fx : Nat → Nat} {tl : va_W} {H : HB} {T0 : TB} {post : Int32 → CS → Prop} (K : CX p s m args meth c cX0_at 2 RX0 A D ct G) (hr : meth.sig.returnType = (some .int)) (hgc : gHasC G g)    (S : CS) (mk : Bool) (cc : Nat) (sc : Nat) (h : wX0_at_7 H post  S mk cc sc) : jM p l e s m args below meth c A D ct g fx tl 2 42 2 H T0 post S mk cc sc 7 [] [] := by
  unfold wX0_at_7 at h
  intro T kc ks hh hm hcl hsl
  have hG := K.2.2.2.2.2.2.2.2.2
  refine j_iconst K (-1 : Int32) dX0_at_7 (by decide) ?_
  exact m_iret K hr hh hm hcl hsl h dX0_at_8
theorem kX0_at_0 {p : Program} {l : Launch} {e : Env} {s : State} {m : MethodId} {args : Array Value} {below : List Frame} {meth : Method} {c : Code} {A : Nat → Prop} {D : va_G} {ct : Nat → ClassId} {G : gE} {g : GP} {fx : Nat → Nat} {tl : va_W} {H : HB} {T0 : TB} {post : Int32 → CS → Prop} (K : CX p s m args meth c cX0_at 2 RX0 A D ct G) (hr : meth.sig.returnType = (some .int)) (hgc : gHasC G g)   (x1 : Int32) (S : CS) (mk : Bool) (cc : Nat) (sc : Nat) (h : wX0_at_0 H post  x1 S mk cc sc) : jM p l e s m args below meth c A D ct g fx tl 2 42 2 H T0 post S mk cc sc 0 [(0, .ref (fx 0)), (1, .int x1)] [] := by
  unfold wX0_at_0 at h
  intro T kc ks hh hm hcl hsl
  have hG := K.2.2.2.2.2.2.2.2.2
  refine j_iload_n K 1 dX0_at_0 rfl rfl ?_
  refine j_callSi K (As := [.int x1]) (rest := []) (ctX0_isPoint (l := l) (D := D) (ct := ct) (G := G) (ws := (CW ct g.2.1 fx S T tl)) hG x1) (lw_S q354 q355 q70 q356) (n := 1) (by decide +kernel) ⟨Nat.le_of_ble_eq_true rfl, Nat.le_of_ble_eq_true rfl⟩ rfl rfl (Nat.le_of_ble_eq_true rfl) dX0_at_1 (hh.room0 hm hcl hsl) (fun r_1 _ hq => ?_)
  replace h := h r_1 hq
  refine j_if_ne K 9 dX0_at_4 (by decide) (fun hc => ?_) (fun hc => ?_)
  · exact kX0_at_9 K hr hgc  x1 S mk cc sc (h.1 hc) _ _ _ hh hm hcl hsl
  · refine j_lv K [] (lv' := []) rfl ?_
    exact kX0_at_7 K hr hgc  S mk cc sc (h.2 hc) _ _ _ hh hm hcl hsl
theorem ctX0_at {l : Launch} {D : va_G} {ct : Nat → ClassId} {G : gE} {g : GP} {fx : Nat → Nat} {tl : va_W} {S : CS} {T : TB} (hG : gOK G) (hgc : gHasC G g) (x1 : Int32) (hp : cOk S) (hT : tOK T) : mCi l D ct G g fx tl yX0_at (ws_ yX0_at cX0_at 2 (some .int)) 2 42 [.ref (fx 0), .int x1] S T false 0 0 (fun r S' => r = sAt x1 (rep S) ∧ S' = S) := fun sz =>
  j_met (Qc := fun A => va_Qi (fun (r : Int32) (u : CS × TB) => (fun (r : Int32) (S' : CS) => r = sAt x1 (rep S) ∧ S' = S) r u.1 ∧ extB false (pS S) T u.2) (fun (u : CS × TB) => cB D ct A (CW ct g.2.1 fx u.1 u.2 tl)) A) (by decide) hG (Nat.le_of_ble_eq_true rfl) (fun p e s m args below meth c A K hr _ _ => kX0_at_0 (H := (false, pS S, 0, 0)) (T0 := T) (post := fun r S' => r = sAt x1 (rep S) ∧ S' = S) K hr hgc x1 S false 0 0 (vcX0_at x1 hp) T 0 0 (hid.start hT) (fun z => (by cases z)) (Nat.zero_le _) (Nat.zero_le _))
-- count(I)I
theorem kX0_count_64 {p : Program} {l : Launch} {e : Env} {s : State} {m : MethodId} {args : Array Value} {below : List Frame} {meth : Method} {c : Code} {A : Nat → Prop} {D : va_G} {ct : Nat → ClassId} {G : gE} {g : GP} {fx : Nat → Nat} {tl : va_W} {H : HB} {T0 : TB} {post : Int32 → CS → Prop} (K : CX p s m args meth c cX0_count 2 RX0 A D ct G) (hr : meth.sig.returnType = (some .int)) (hgc : gHasC G g)    (S : CS) (mk : Bool) (cc : Nat) (sc : Nat) (h : wX0_count_64 H post  S mk cc sc) : jM p l e s m args below meth c A D ct g fx tl 10 233 2 H T0 post S mk cc sc 64 [(0, .ref (fx 0))] [] := by
  unfold wX0_count_64 at h
  intro T kc ks hh hm hcl hsl
  have hG := K.2.2.2.2.2.2.2.2.2
  refine j_aload_n K 0 dX0_count_64 rfl rfl ?_
  refine j_get K in_X0 0 rfl rfl 1 (by decide) q263 rfl rfl dX0_count_65 ?_
  refine j_getN K in_X2 7 rfl rfl 2 (by decide) (K.fn hgc 2 rfl) rfl rfl dX0_count_68 ?_
  exact m_iret K hr hh hm hcl hsl h dX0_count_71
theorem kX0_count_72 {p : Program} {l : Launch} {e : Env} {s : State} {m : MethodId} {args : Array Value} {below : List Frame} {meth : Method} {c : Code} {A : Nat → Prop} {D : va_G} {ct : Nat → ClassId} {G : gE} {g : GP} {fx : Nat → Nat} {tl : va_W} {H : HB} {T0 : TB} {post : Int32 → CS → Prop} (K : CX p s m args meth c cX0_count 2 RX0 A D ct G) (hr : meth.sig.returnType = (some .int)) (hgc : gHasC G g)    (S : CS) (mk : Bool) (cc : Nat) (sc : Nat) (h : wX0_count_72 H post  S mk cc sc) : jM p l e s m args below meth c A D ct g fx tl 10 233 2 H T0 post S mk cc sc 72 [(0, .ref (fx 0))] [] := by
  unfold wX0_count_72 at h
  intro T kc ks hh hm hcl hsl
  have hG := K.2.2.2.2.2.2.2.2.2
  refine j_aload_n K 0 dX0_count_72 rfl rfl ?_
  refine j_get K in_X0 0 rfl rfl 1 (by decide) q263 rfl rfl dX0_count_73 ?_
  refine j_getN K in_X2 7 rfl rfl 4 (by decide) (K.fn hgc 3 rfl) rfl rfl dX0_count_76 ?_
  exact m_iret K hr hh hm hcl hsl h dX0_count_79
theorem kX0_count_80 {p : Program} {l : Launch} {e : Env} {s : State} {m : MethodId} {args : Array Value} {below : List Frame} {meth : Method} {c : Code} {A : Nat → Prop} {D : va_G} {ct : Nat → ClassId} {G : gE} {g : GP} {fx : Nat → Nat} {tl : va_W} {H : HB} {T0 : TB} {post : Int32 → CS → Prop} (K : CX p s m args meth c cX0_count 2 RX0 A D ct G) (hr : meth.sig.returnType = (some .int)) (hgc : gHasC G g)   (x1 : Int32) (S : CS) (mk : Bool) (cc : Nat) (sc : Nat) (h : wX0_count_80 H post  x1 S mk cc sc) : jM p l e s m args below meth c A D ct g fx tl 10 233 2 H T0 post S mk cc sc 80 [(0, .ref (fx 0)), (1, .int x1)] [] := by
  unfold wX0_count_80 at h
  intro T kc ks hh hm hcl hsl
  have hG := K.2.2.2.2.2.2.2.2.2
  refine j_aload_n K 0 dX0_count_80 rfl rfl ?_
  refine j_get K in_X0 0 rfl rfl 1 (by decide) q263 rfl rfl dX0_count_81 ?_
  refine j_getN K in_X2 7 rfl rfl 1 (by decide) (K.fn hgc 1 rfl) rfl rfl dX0_count_84 ?_
  refine j_iload_n K 1 dX0_count_87 rfl rfl ?_
  refine j_iconst K (2 : Int32) dX0_count_88 (by decide) ?_
  refine j_isub K dX0_count_89 ?_
  obtain ⟨hc, h⟩ := h
  refine j_iald K 9 0 rfl rfl hc dX0_count_90 ?_
  refine j_callSi K (As := [.int (set2 (cur S.1.2).1 (cur S.1.2).2.1 (x1 - (2 : Int32)).toNatClampNeg)]) (rest := []) (ctJ12_bitCount (l := l) (D := D) (ct := ct) (G := G) (ws := (CW ct g.2.1 fx S T tl)) hG (set2 (cur S.1.2).1 (cur S.1.2).2.1 (x1 - (2 : Int32)).toNatClampNeg)) (lw_S q581 q423 q90 q424) (n := 1) (by decide +kernel) ⟨Nat.le_of_ble_eq_true rfl, Nat.le_of_ble_eq_true rfl⟩ rfl rfl (Nat.le_of_ble_eq_true rfl) dX0_count_91 (hh.room0 hm hcl hsl) (fun r_1 _ hq => ?_)
  replace h := h r_1 hq
  exact m_iret K hr hh hm hcl hsl h dX0_count_94
theorem kX0_count_107 {p : Program} {l : Launch} {e : Env} {s : State} {m : MethodId} {args : Array Value} {below : List Frame} {meth : Method} {c : Code} {A : Nat → Prop} {D : va_G} {ct : Nat → ClassId} {G : gE} {g : GP} {fx : Nat → Nat} {tl : va_W} {H : HB} {T0 : TB} {post : Int32 → CS → Prop} (K : CX p s m args meth c cX0_count 2 RX0 A D ct G) (hr : meth.sig.returnType = (some .int)) (hgc : gHasC G g)   (s0 : Int32) (S : CS) (mk : Bool) (cc : Nat) (sc : Nat) (h : wX0_count_107 H post  s0 S mk cc sc) : jM p l e s m args below meth c A D ct g fx tl 10 233 2 H T0 post S mk cc sc 107 [] [.int s0] := by
  unfold wX0_count_107 at h
  intro T kc ks hh hm hcl hsl
  have hG := K.2.2.2.2.2.2.2.2.2
  exact m_iret K hr hh hm hcl hsl h dX0_count_107
theorem kX0_count_106 {p : Program} {l : Launch} {e : Env} {s : State} {m : MethodId} {args : Array Value} {below : List Frame} {meth : Method} {c : Code} {A : Nat → Prop} {D : va_G} {ct : Nat → ClassId} {G : gE} {g : GP} {fx : Nat → Nat} {tl : va_W} {H : HB} {T0 : TB} {post : Int32 → CS → Prop} (K : CX p s m args meth c cX0_count 2 RX0 A D ct G) (hr : meth.sig.returnType = (some .int)) (hgc : gHasC G g)    (S : CS) (mk : Bool) (cc : Nat) (sc : Nat) (h : wX0_count_106 H post  S mk cc sc) : jM p l e s m args below meth c A D ct g fx tl 10 233 2 H T0 post S mk cc sc 106 [] [] := by
  unfold wX0_count_106 at h
  intro T kc ks hh hm hcl hsl
  have hG := K.2.2.2.2.2.2.2.2.2
  refine j_iconst K (0 : Int32) dX0_count_106 (by decide) ?_
  exact kX0_count_107 K hr hgc  (0 : Int32) S mk cc sc h _ _ _ hh hm hcl hsl
theorem kX0_count_102 {p : Program} {l : Launch} {e : Env} {s : State} {m : MethodId} {args : Array Value} {below : List Frame} {meth : Method} {c : Code} {A : Nat → Prop} {D : va_G} {ct : Nat → ClassId} {G : gE} {g : GP} {fx : Nat → Nat} {tl : va_W} {H : HB} {T0 : TB} {post : Int32 → CS → Prop} (K : CX p s m args meth c cX0_count 2 RX0 A D ct G) (hr : meth.sig.returnType = (some .int)) (hgc : gHasC G g)    (S : CS) (mk : Bool) (cc : Nat) (sc : Nat) (h : wX0_count_102 H post  S mk cc sc) : jM p l e s m args below meth c A D ct g fx tl 10 233 2 H T0 post S mk cc sc 102 [] [] := by
  unfold wX0_count_102 at h
  intro T kc ks hh hm hcl hsl
  have hG := K.2.2.2.2.2.2.2.2.2
  refine j_iconst K (1 : Int32) dX0_count_102 (by decide) ?_
  refine j_goto K 107 dX0_count_103 (by decide) ?_
  exact kX0_count_107 K hr hgc  (1 : Int32) S mk cc sc h _ _ _ hh hm hcl hsl
theorem kX0_count_95 {p : Program} {l : Launch} {e : Env} {s : State} {m : MethodId} {args : Array Value} {below : List Frame} {meth : Method} {c : Code} {A : Nat → Prop} {D : va_G} {ct : Nat → ClassId} {G : gE} {g : GP} {fx : Nat → Nat} {tl : va_W} {H : HB} {T0 : TB} {post : Int32 → CS → Prop} (K : CX p s m args meth c cX0_count 2 RX0 A D ct G) (hr : meth.sig.returnType = (some .int)) (hgc : gHasC G g)    (S : CS) (mk : Bool) (cc : Nat) (sc : Nat) (h : wX0_count_95 H post  S mk cc sc) : jM p l e s m args below meth c A D ct g fx tl 10 233 2 H T0 post S mk cc sc 95 [(0, .ref (fx 0))] [] := by
  unfold wX0_count_95 at h
  intro T kc ks hh hm hcl hsl
  have hG := K.2.2.2.2.2.2.2.2.2
  refine j_aload_n K 0 dX0_count_95 rfl rfl ?_
  obtain ⟨hp, h⟩ := h
  refine j_callVi K (As := []) (rest := []) (ctX0_isOver hG hgc hp.1 hh.tok) (lw_V q361 q363 qs8 q70 q364) (n := 0) (by decide +kernel) ⟨Nat.le_of_ble_eq_true rfl, Nat.le_of_ble_eq_true rfl⟩ 0 rfl rfl rfl rfl rfl (Nat.le_of_ble_eq_true rfl) dX0_count_96 (hh.roomT hm hp.2 hcl hsl) (fun r_96 u_96 hq => ?_)
  obtain ⟨Su96, Tu96⟩ := u_96
  obtain ⟨⟨hq, hq0⟩, he⟩ := hq
  have hq0 : S = Su96 := hq0.symm
  subst hq0
  have hq : r_96 = (b2 (overG S.1.2)) := hq
  subst hq
  have hh1 := hh.callT hp.2.2 he
  have hm1 : true = true → H.1 = true := fun _ => hp.2.1
  show jJ p l e _ s m args below meth c _ A D _ (CW ct g.2.1 fx S Tu96 tl) _ _ _ _ _
  refine j_if_eq K 106 dX0_count_99 (by decide) (fun hc => ?_) (fun hc => ?_)
  · refine j_lv K [] (lv' := []) rfl ?_
    exact kX0_count_106 K hr hgc  S true cc sc (h.1 hc) _ _ _ hh1 hm1 hcl hsl
  · refine j_lv K [] (lv' := []) rfl ?_
    exact kX0_count_102 K hr hgc  S true cc sc (h.2 hc) _ _ _ hh1 hm1 hcl hsl
theorem kX0_count_129 {p : Program} {l : Launch} {e : Env} {s : State} {m : MethodId} {args : Array Value} {below : List Frame} {meth : Method} {c : Code} {A : Nat → Prop} {D : va_G} {ct : Nat → ClassId} {G : gE} {g : GP} {fx : Nat → Nat} {tl : va_W} {H : HB} {T0 : TB} {post : Int32 → CS → Prop} (K : CX p s m args meth c cX0_count 2 RX0 A D ct G) (hr : meth.sig.returnType = (some .int)) (hgc : gHasC G g)   (s0 : Int32) (S : CS) (mk : Bool) (cc : Nat) (sc : Nat) (h : wX0_count_129 H post  s0 S mk cc sc) : jM p l e s m args below meth c A D ct g fx tl 10 233 2 H T0 post S mk cc sc 129 [] [.int s0] := by
  unfold wX0_count_129 at h
  intro T kc ks hh hm hcl hsl
  have hG := K.2.2.2.2.2.2.2.2.2
  exact m_iret K hr hh hm hcl hsl h dX0_count_129
theorem kX0_count_127 {p : Program} {l : Launch} {e : Env} {s : State} {m : MethodId} {args : Array Value} {below : List Frame} {meth : Method} {c : Code} {A : Nat → Prop} {D : va_G} {ct : Nat → ClassId} {G : gE} {g : GP} {fx : Nat → Nat} {tl : va_W} {H : HB} {T0 : TB} {post : Int32 → CS → Prop} (K : CX p s m args meth c cX0_count 2 RX0 A D ct G) (hr : meth.sig.returnType = (some .int)) (hgc : gHasC G g)    (S : CS) (mk : Bool) (cc : Nat) (sc : Nat) (h : wX0_count_127 H post  S mk cc sc) : jM p l e s m args below meth c A D ct g fx tl 10 233 2 H T0 post S mk cc sc 127 [] [] := by
  unfold wX0_count_127 at h
  intro T kc ks hh hm hcl hsl
  have hG := K.2.2.2.2.2.2.2.2.2
  refine j_bipush K (-6 : Int32) dX0_count_127 (by decide) ?_
  exact kX0_count_129 K hr hgc  (-6 : Int32) S mk cc sc h _ _ _ hh hm hcl hsl
theorem kX0_count_115 {p : Program} {l : Launch} {e : Env} {s : State} {m : MethodId} {args : Array Value} {below : List Frame} {meth : Method} {c : Code} {A : Nat → Prop} {D : va_G} {ct : Nat → ClassId} {G : gE} {g : GP} {fx : Nat → Nat} {tl : va_W} {H : HB} {T0 : TB} {post : Int32 → CS → Prop} (K : CX p s m args meth c cX0_count 2 RX0 A D ct G) (hr : meth.sig.returnType = (some .int)) (hgc : gHasC G g)    (S : CS) (mk : Bool) (cc : Nat) (sc : Nat) (h : wX0_count_115 H post  S mk cc sc) : jM p l e s m args below meth c A D ct g fx tl 10 233 2 H T0 post S mk cc sc 115 [(0, .ref (fx 0))] [] := by
  unfold wX0_count_115 at h
  intro T kc ks hh hm hcl hsl
  have hG := K.2.2.2.2.2.2.2.2.2
  refine j_iconst K (1 : Int32) dX0_count_115 (by decide) ?_
  refine j_aload_n K 0 dX0_count_116 rfl rfl ?_
  refine j_get K in_X0 0 rfl rfl 1 (by decide) q263 rfl rfl dX0_count_117 ?_
  refine j_getN K in_X2 7 rfl rfl 2 (by decide) (K.fn hgc 2 rfl) rfl rfl dX0_count_120 ?_
  refine j_isub K dX0_count_123 ?_
  refine j_goto K 129 dX0_count_124 (by decide) ?_
  refine j_lv K [] (lv' := []) rfl ?_
  exact kX0_count_129 K hr hgc  ((1 : Int32) - (nI (cur S.1.2).2.2)) S mk cc sc h _ _ _ hh hm hcl hsl
theorem kX0_count_108 {p : Program} {l : Launch} {e : Env} {s : State} {m : MethodId} {args : Array Value} {below : List Frame} {meth : Method} {c : Code} {A : Nat → Prop} {D : va_G} {ct : Nat → ClassId} {G : gE} {g : GP} {fx : Nat → Nat} {tl : va_W} {H : HB} {T0 : TB} {post : Int32 → CS → Prop} (K : CX p s m args meth c cX0_count 2 RX0 A D ct G) (hr : meth.sig.returnType = (some .int)) (hgc : gHasC G g)    (S : CS) (mk : Bool) (cc : Nat) (sc : Nat) (h : wX0_count_108 H post  S mk cc sc) : jM p l e s m args below meth c A D ct g fx tl 10 233 2 H T0 post S mk cc sc 108 [(0, .ref (fx 0))] [] := by
  unfold wX0_count_108 at h
  intro T kc ks hh hm hcl hsl
  have hG := K.2.2.2.2.2.2.2.2.2
  refine j_aload_n K 0 dX0_count_108 rfl rfl ?_
  obtain ⟨hp, h⟩ := h
  refine j_callVi K (As := []) (rest := []) (ctX0_hasLost hG hgc hp.1 hh.tok) (lw_V q365 q367 qs9 q70 q368) (n := 0) (by decide +kernel) ⟨Nat.le_of_ble_eq_true rfl, Nat.le_of_ble_eq_true rfl⟩ 0 rfl rfl rfl rfl rfl (Nat.le_of_ble_eq_true rfl) dX0_count_109 (hh.roomT hm hp.2 hcl hsl) (fun r_109 u_109 hq => ?_)
  obtain ⟨Su109, Tu109⟩ := u_109
  obtain ⟨⟨hq, hq0⟩, he⟩ := hq
  have hq0 : S = Su109 := hq0.symm
  subst hq0
  have hq : r_109 = (b2 (lostG S.1.2)) := hq
  subst hq
  have hh1 := hh.callT hp.2.2 he
  have hm1 : true = true → H.1 = true := fun _ => hp.2.1
  show jJ p l e _ s m args below meth c _ A D _ (CW ct g.2.1 fx S Tu109 tl) _ _ _ _ _
  refine j_if_eq K 127 dX0_count_112 (by decide) (fun hc => ?_) (fun hc => ?_)
  · refine j_lv K [] (lv' := []) rfl ?_
    exact kX0_count_127 K hr hgc  S true cc sc (h.1 hc) _ _ _ hh1 hm1 hcl hsl
  · exact kX0_count_115 K hr hgc  S true cc sc (h.2 hc) _ _ _ hh1 hm1 hcl hsl
theorem kX0_count_142 {p : Program} {l : Launch} {e : Env} {s : State} {m : MethodId} {args : Array Value} {below : List Frame} {meth : Method} {c : Code} {A : Nat → Prop} {D : va_G} {ct : Nat → ClassId} {G : gE} {g : GP} {fx : Nat → Nat} {tl : va_W} {H : HB} {T0 : TB} {post : Int32 → CS → Prop} (K : CX p s m args meth c cX0_count 2 RX0 A D ct G) (hr : meth.sig.returnType = (some .int)) (hgc : gHasC G g)   (s0 : Int32) (S : CS) (mk : Bool) (cc : Nat) (sc : Nat) (h : wX0_count_142 H post  s0 S mk cc sc) : jM p l e s m args below meth c A D ct g fx tl 10 233 2 H T0 post S mk cc sc 142 [] [.int s0] := by
  unfold wX0_count_142 at h
  intro T kc ks hh hm hcl hsl
  have hG := K.2.2.2.2.2.2.2.2.2
  exact m_iret K hr hh hm hcl hsl h dX0_count_142
theorem kX0_count_141 {p : Program} {l : Launch} {e : Env} {s : State} {m : MethodId} {args : Array Value} {below : List Frame} {meth : Method} {c : Code} {A : Nat → Prop} {D : va_G} {ct : Nat → ClassId} {G : gE} {g : GP} {fx : Nat → Nat} {tl : va_W} {H : HB} {T0 : TB} {post : Int32 → CS → Prop} (K : CX p s m args meth c cX0_count 2 RX0 A D ct G) (hr : meth.sig.returnType = (some .int)) (hgc : gHasC G g)    (S : CS) (mk : Bool) (cc : Nat) (sc : Nat) (h : wX0_count_141 H post  S mk cc sc) : jM p l e s m args below meth c A D ct g fx tl 10 233 2 H T0 post S mk cc sc 141 [] [] := by
  unfold wX0_count_141 at h
  intro T kc ks hh hm hcl hsl
  have hG := K.2.2.2.2.2.2.2.2.2
  refine j_iconst K (0 : Int32) dX0_count_141 (by decide) ?_
  exact kX0_count_142 K hr hgc  (0 : Int32) S mk cc sc h _ _ _ hh hm hcl hsl
theorem kX0_count_137 {p : Program} {l : Launch} {e : Env} {s : State} {m : MethodId} {args : Array Value} {below : List Frame} {meth : Method} {c : Code} {A : Nat → Prop} {D : va_G} {ct : Nat → ClassId} {G : gE} {g : GP} {fx : Nat → Nat} {tl : va_W} {H : HB} {T0 : TB} {post : Int32 → CS → Prop} (K : CX p s m args meth c cX0_count 2 RX0 A D ct G) (hr : meth.sig.returnType = (some .int)) (hgc : gHasC G g)    (S : CS) (mk : Bool) (cc : Nat) (sc : Nat) (h : wX0_count_137 H post  S mk cc sc) : jM p l e s m args below meth c A D ct g fx tl 10 233 2 H T0 post S mk cc sc 137 [] [] := by
  unfold wX0_count_137 at h
  intro T kc ks hh hm hcl hsl
  have hG := K.2.2.2.2.2.2.2.2.2
  refine j_iconst K (1 : Int32) dX0_count_137 (by decide) ?_
  refine j_goto K 142 dX0_count_138 (by decide) ?_
  exact kX0_count_142 K hr hgc  (1 : Int32) S mk cc sc h _ _ _ hh hm hcl hsl
theorem kX0_count_130 {p : Program} {l : Launch} {e : Env} {s : State} {m : MethodId} {args : Array Value} {below : List Frame} {meth : Method} {c : Code} {A : Nat → Prop} {D : va_G} {ct : Nat → ClassId} {G : gE} {g : GP} {fx : Nat → Nat} {tl : va_W} {H : HB} {T0 : TB} {post : Int32 → CS → Prop} (K : CX p s m args meth c cX0_count 2 RX0 A D ct G) (hr : meth.sig.returnType = (some .int)) (hgc : gHasC G g)    (S : CS) (mk : Bool) (cc : Nat) (sc : Nat) (h : wX0_count_130 H post  S mk cc sc) : jM p l e s m args below meth c A D ct g fx tl 10 233 2 H T0 post S mk cc sc 130 [(0, .ref (fx 0))] [] := by
  unfold wX0_count_130 at h
  intro T kc ks hh hm hcl hsl
  have hG := K.2.2.2.2.2.2.2.2.2
  refine j_aload_n K 0 dX0_count_130 rfl rfl ?_
  obtain ⟨hp, h⟩ := h
  refine j_callVi K (As := []) (rest := []) (ctX0_isDrawn hG hgc hp.1 hh.tok) (lw_V q628 q630 qs26 q70 q631) (n := 0) (by decide +kernel) ⟨Nat.le_of_ble_eq_true rfl, Nat.le_of_ble_eq_true rfl⟩ 0 rfl rfl rfl rfl rfl (Nat.le_of_ble_eq_true rfl) dX0_count_131 (hh.roomT hm hp.2 hcl hsl) (fun r_131 u_131 hq => ?_)
  obtain ⟨Su131, Tu131⟩ := u_131
  obtain ⟨⟨hq, hq0⟩, he⟩ := hq
  have hq0 : S = Su131 := hq0.symm
  subst hq0
  have hq : r_131 = (b2 (decide (3 ≤ oftG S.1.2) && !lostG S.1.2)) := hq
  subst hq
  have hh1 := hh.callT hp.2.2 he
  have hm1 : true = true → H.1 = true := fun _ => hp.2.1
  show jJ p l e _ s m args below meth c _ A D _ (CW ct g.2.1 fx S Tu131 tl) _ _ _ _ _
  refine j_if_eq K 141 dX0_count_134 (by decide) (fun hc => ?_) (fun hc => ?_)
  · refine j_lv K [] (lv' := []) rfl ?_
    exact kX0_count_141 K hr hgc  S true cc sc (h.1 hc) _ _ _ hh1 hm1 hcl hsl
  · refine j_lv K [] (lv' := []) rfl ?_
    exact kX0_count_137 K hr hgc  S true cc sc (h.2 hc) _ _ _ hh1 hm1 hcl hsl
theorem kX0_count_143 {p : Program} {l : Launch} {e : Env} {s : State} {m : MethodId} {args : Array Value} {below : List Frame} {meth : Method} {c : Code} {A : Nat → Prop} {D : va_G} {ct : Nat → ClassId} {G : gE} {g : GP} {fx : Nat → Nat} {tl : va_W} {H : HB} {T0 : TB} {post : Int32 → CS → Prop} (K : CX p s m args meth c cX0_count 2 RX0 A D ct G) (hr : meth.sig.returnType = (some .int)) (hgc : gHasC G g)    (S : CS) (mk : Bool) (cc : Nat) (sc : Nat) (h : wX0_count_143 H post  S mk cc sc) : jM p l e s m args below meth c A D ct g fx tl 10 233 2 H T0 post S mk cc sc 143 [(0, .ref (fx 0))] [] := by
  unfold wX0_count_143 at h
  intro T kc ks hh hm hcl hsl
  have hG := K.2.2.2.2.2.2.2.2.2
  refine j_aload_n K 0 dX0_count_143 rfl rfl ?_
  refine j_get K in_X0 0 rfl rfl 1 (by decide) q263 rfl rfl dX0_count_144 ?_
  obtain ⟨hp, h⟩ := h
  refine j_callVi K (As := []) (rest := []) (pureM hG (ctC_times hG hh.tok hp)) (lw_V q554 q555 q556 q79 q557) (n := 0) (by decide +kernel) ⟨Nat.le_of_ble_eq_true rfl, Nat.le_of_ble_eq_true rfl⟩ 7 rfl rfl rfl rfl rfl (Nat.le_of_ble_eq_true rfl) dX0_count_147 (hh.room0 hm hcl hsl) (fun r_1 _ hq => ?_)
  have hq : r_1 = (nI (oftG S.1.2)) := hq
  subst hq
  exact m_iret K hr hh hm hcl hsl h dX0_count_150
theorem kX0_count_151 {p : Program} {l : Launch} {e : Env} {s : State} {m : MethodId} {args : Array Value} {below : List Frame} {meth : Method} {c : Code} {A : Nat → Prop} {D : va_G} {ct : Nat → ClassId} {G : gE} {g : GP} {fx : Nat → Nat} {tl : va_W} {H : HB} {T0 : TB} {post : Int32 → CS → Prop} (K : CX p s m args meth c cX0_count 2 RX0 A D ct G) (hr : meth.sig.returnType = (some .int)) (hgc : gHasC G g)   (x1 : Int32) (S : CS) (mk : Bool) (cc : Nat) (sc : Nat) (h : wX0_count_151 H post  x1 S mk cc sc) : jM p l e s m args below meth c A D ct g fx tl 10 233 2 H T0 post S mk cc sc 151 [(0, .ref (fx 0)), (1, .int x1)] [] := by
  unfold wX0_count_151 at h
  intro T kc ks hh hm hcl hsl
  have hG := K.2.2.2.2.2.2.2.2.2
  refine j_aload_n K 0 dX0_count_151 rfl rfl ?_
  refine j_get K in_X0 0 rfl rfl 1 (by decide) q263 rfl rfl dX0_count_152 ?_
  refine j_getN K in_X2 7 rfl rfl 0 (by decide) (K.fn hgc 0 rfl) rfl rfl dX0_count_155 ?_
  refine j_iload_n K 1 dX0_count_158 rfl rfl ?_
  refine j_bipush K (8 : Int32) dX0_count_159 (by decide) ?_
  refine j_isub K dX0_count_161 ?_
  obtain ⟨hc, h⟩ := h
  refine j_iald K 8 0 rfl rfl hc dX0_count_162 ?_
  exact m_iret K hr hh hm hcl hsl h dX0_count_163
theorem kX0_count_164 {p : Program} {l : Launch} {e : Env} {s : State} {m : MethodId} {args : Array Value} {below : List Frame} {meth : Method} {c : Code} {A : Nat → Prop} {D : va_G} {ct : Nat → ClassId} {G : gE} {g : GP} {fx : Nat → Nat} {tl : va_W} {H : HB} {T0 : TB} {post : Int32 → CS → Prop} (K : CX p s m args meth c cX0_count 2 RX0 A D ct G) (hr : meth.sig.returnType = (some .int)) (hgc : gHasC G g)    (S : CS) (mk : Bool) (cc : Nat) (sc : Nat) (h : wX0_count_164 H post  S mk cc sc) : jM p l e s m args below meth c A D ct g fx tl 10 233 2 H T0 post S mk cc sc 164 [(0, .ref (fx 0))] [] := by
  unfold wX0_count_164 at h
  intro T kc ks hh hm hcl hsl
  have hG := K.2.2.2.2.2.2.2.2.2
  refine j_aload_n K 0 dX0_count_164 rfl rfl ?_
  refine j_get K in_X0 0 rfl rfl 4 (by decide) q267 rfl rfl dX0_count_165 ?_
  refine j_callVi K (As := []) (rest := []) (pureM hG (ctC_len hG hh.tok)) (lw_V q632 q633 q634 q81 q635) (n := 0) (by decide +kernel) ⟨Nat.le_of_ble_eq_true rfl, Nat.le_of_ble_eq_true rfl⟩ 5 rfl rfl rfl rfl rfl (Nat.le_of_ble_eq_true rfl) dX0_count_168 (hh.room0 hm hcl hsl) (fun r_1 _ hq => ?_)
  have hq : r_1 = (nI S.2.2.2.1.2.2.2.length) := hq
  subst hq
  exact m_iret K hr hh hm hcl hsl h dX0_count_171
theorem kX0_count_172 {p : Program} {l : Launch} {e : Env} {s : State} {m : MethodId} {args : Array Value} {below : List Frame} {meth : Method} {c : Code} {A : Nat → Prop} {D : va_G} {ct : Nat → ClassId} {G : gE} {g : GP} {fx : Nat → Nat} {tl : va_W} {H : HB} {T0 : TB} {post : Int32 → CS → Prop} (K : CX p s m args meth c cX0_count 2 RX0 A D ct G) (hr : meth.sig.returnType = (some .int)) (hgc : gHasC G g)    (S : CS) (mk : Bool) (cc : Nat) (sc : Nat) (h : wX0_count_172 H post  S mk cc sc) : jM p l e s m args below meth c A D ct g fx tl 10 233 2 H T0 post S mk cc sc 172 [(0, .ref (fx 0))] [] := by
  unfold wX0_count_172 at h
  intro T kc ks hh hm hcl hsl
  have hG := K.2.2.2.2.2.2.2.2.2
  refine j_aload_n K 0 dX0_count_172 rfl rfl ?_
  refine j_get K in_X0 0 rfl rfl 2 (by decide) q264 rfl rfl dX0_count_173 ?_
  obtain ⟨hp, h⟩ := h
  obtain ⟨i9, fs9, hi9⟩ := past_in (ct := ct) (g := g) (fx := fx) (tl := tl) (S := S) (T := T)
  refine j_callFi K (As := []) (rest := []) (pureM hG (ctC_size hG hh.tok hp)) (lw_F q295 q298 q300 q74 q302) (K.fw hgc 1 rfl) (n := 0) (by decide +kernel) ⟨Nat.le_of_ble_eq_true rfl, Nat.le_of_ble_eq_true rfl⟩ i9 hi9 rfl rfl rfl rfl (Nat.le_of_ble_eq_true rfl) dX0_count_176 (hh.room0 hm hcl hsl) (fun r_1 _ hq => ?_)
  have hq : r_1 = (nI S.2.1.2.length) := hq
  subst hq
  exact m_iret K hr hh hm hcl hsl h dX0_count_181
theorem kX0_count_182 {p : Program} {l : Launch} {e : Env} {s : State} {m : MethodId} {args : Array Value} {below : List Frame} {meth : Method} {c : Code} {A : Nat → Prop} {D : va_G} {ct : Nat → ClassId} {G : gE} {g : GP} {fx : Nat → Nat} {tl : va_W} {H : HB} {T0 : TB} {post : Int32 → CS → Prop} (K : CX p s m args meth c cX0_count 2 RX0 A D ct G) (hr : meth.sig.returnType = (some .int)) (hgc : gHasC G g)    (S : CS) (mk : Bool) (cc : Nat) (sc : Nat) (h : wX0_count_182 H post  S mk cc sc) : jM p l e s m args below meth c A D ct g fx tl 10 233 2 H T0 post S mk cc sc 182 [] [] := by
  unfold wX0_count_182 at h
  intro T kc ks hh hm hcl hsl
  have hG := K.2.2.2.2.2.2.2.2.2
  refine j_bipush K (-2 : Int32) dX0_count_182 (by decide) ?_
  exact m_iret K hr hh hm hcl hsl h dX0_count_184
theorem kX0_count_0 {p : Program} {l : Launch} {e : Env} {s : State} {m : MethodId} {args : Array Value} {below : List Frame} {meth : Method} {c : Code} {A : Nat → Prop} {D : va_G} {ct : Nat → ClassId} {G : gE} {g : GP} {fx : Nat → Nat} {tl : va_W} {H : HB} {T0 : TB} {post : Int32 → CS → Prop} (K : CX p s m args meth c cX0_count 2 RX0 A D ct G) (hr : meth.sig.returnType = (some .int)) (hgc : gHasC G g)   (x1 : Int32) (S : CS) (mk : Bool) (cc : Nat) (sc : Nat) (h : wX0_count_0 H post  x1 S mk cc sc) : jM p l e s m args below meth c A D ct g fx tl 10 233 2 H T0 post S mk cc sc 0 [(0, .ref (fx 0)), (1, .int x1)] [] := by
  unfold wX0_count_0 at h
  intro T kc ks hh hm hcl hsl
  have hG := K.2.2.2.2.2.2.2.2.2
  refine j_iload_n K 1 dX0_count_0 rfl rfl ?_
  rcases Classical.em (x1 = (0 : Int32)) with hc | hc0
  · refine j_tableIn K (off := 63) 64 dX0_count_1 (by rw [hc]; decide) (by rw [hc]; decide) (by rw [hc]; rfl) (by decide) ?_
    refine j_lv K [0] (lv' := [(0, .ref (fx 0))]) rfl ?_
    exact kX0_count_64 K hr hgc  S mk cc sc (h.1 hc) _ _ _ hh hm hcl hsl
  rcases Classical.em (x1 = (1 : Int32)) with hc | hc1
  · refine j_tableIn K (off := 71) 72 dX0_count_1 (by rw [hc]; decide) (by rw [hc]; decide) (by rw [hc]; rfl) (by decide) ?_
    refine j_lv K [0] (lv' := [(0, .ref (fx 0))]) rfl ?_
    exact kX0_count_72 K hr hgc  S mk cc sc (h.2.1 hc) _ _ _ hh hm hcl hsl
  rcases Classical.em (x1 = (2 : Int32)) with hc | hc2
  · refine j_tableIn K (off := 79) 80 dX0_count_1 (by rw [hc]; decide) (by rw [hc]; decide) (by rw [hc]; rfl) (by decide) ?_
    exact kX0_count_80 K hr hgc  x1 S mk cc sc (h.2.2.1 hc) _ _ _ hh hm hcl hsl
  rcases Classical.em (x1 = (3 : Int32)) with hc | hc3
  · refine j_tableIn K (off := 79) 80 dX0_count_1 (by rw [hc]; decide) (by rw [hc]; decide) (by rw [hc]; rfl) (by decide) ?_
    exact kX0_count_80 K hr hgc  x1 S mk cc sc (h.2.2.2.1 hc) _ _ _ hh hm hcl hsl
  rcases Classical.em (x1 = (4 : Int32)) with hc | hc4
  · refine j_tableIn K (off := 94) 95 dX0_count_1 (by rw [hc]; decide) (by rw [hc]; decide) (by rw [hc]; rfl) (by decide) ?_
    refine j_lv K [0] (lv' := [(0, .ref (fx 0))]) rfl ?_
    exact kX0_count_95 K hr hgc  S mk cc sc (h.2.2.2.2.1 hc) _ _ _ hh hm hcl hsl
  rcases Classical.em (x1 = (5 : Int32)) with hc | hc5
  · refine j_tableIn K (off := 107) 108 dX0_count_1 (by rw [hc]; decide) (by rw [hc]; decide) (by rw [hc]; rfl) (by decide) ?_
    refine j_lv K [0] (lv' := [(0, .ref (fx 0))]) rfl ?_
    exact kX0_count_108 K hr hgc  S mk cc sc (h.2.2.2.2.2.1 hc) _ _ _ hh hm hcl hsl
  rcases Classical.em (x1 = (6 : Int32)) with hc | hc6
  · refine j_tableIn K (off := 129) 130 dX0_count_1 (by rw [hc]; decide) (by rw [hc]; decide) (by rw [hc]; rfl) (by decide) ?_
    refine j_lv K [0] (lv' := [(0, .ref (fx 0))]) rfl ?_
    exact kX0_count_130 K hr hgc  S mk cc sc (h.2.2.2.2.2.2.1 hc) _ _ _ hh hm hcl hsl
  rcases Classical.em (x1 = (7 : Int32)) with hc | hc7
  · refine j_tableIn K (off := 142) 143 dX0_count_1 (by rw [hc]; decide) (by rw [hc]; decide) (by rw [hc]; rfl) (by decide) ?_
    refine j_lv K [0] (lv' := [(0, .ref (fx 0))]) rfl ?_
    exact kX0_count_143 K hr hgc  S mk cc sc (h.2.2.2.2.2.2.2.1 hc) _ _ _ hh hm hcl hsl
  rcases Classical.em (x1 = (8 : Int32)) with hc | hc8
  · refine j_tableIn K (off := 150) 151 dX0_count_1 (by rw [hc]; decide) (by rw [hc]; decide) (by rw [hc]; rfl) (by decide) ?_
    exact kX0_count_151 K hr hgc  x1 S mk cc sc (h.2.2.2.2.2.2.2.2.1 hc) _ _ _ hh hm hcl hsl
  rcases Classical.em (x1 = (9 : Int32)) with hc | hc9
  · refine j_tableIn K (off := 150) 151 dX0_count_1 (by rw [hc]; decide) (by rw [hc]; decide) (by rw [hc]; rfl) (by decide) ?_
    exact kX0_count_151 K hr hgc  x1 S mk cc sc (h.2.2.2.2.2.2.2.2.2.1 hc) _ _ _ hh hm hcl hsl
  rcases Classical.em (x1 = (10 : Int32)) with hc | hc10
  · refine j_tableIn K (off := 163) 164 dX0_count_1 (by rw [hc]; decide) (by rw [hc]; decide) (by rw [hc]; rfl) (by decide) ?_
    refine j_lv K [0] (lv' := [(0, .ref (fx 0))]) rfl ?_
    exact kX0_count_164 K hr hgc  S mk cc sc (h.2.2.2.2.2.2.2.2.2.2.1 hc) _ _ _ hh hm hcl hsl
  rcases Classical.em (x1 = (11 : Int32)) with hc | hc11
  · refine j_tableIn K (off := 171) 172 dX0_count_1 (by rw [hc]; decide) (by rw [hc]; decide) (by rw [hc]; rfl) (by decide) ?_
    refine j_lv K [0] (lv' := [(0, .ref (fx 0))]) rfl ?_
    exact kX0_count_172 K hr hgc  S mk cc sc (h.2.2.2.2.2.2.2.2.2.2.2.1 hc) _ _ _ hh hm hcl hsl
  refine j_tableOut K 182 dX0_count_1 (by have hh := sw_out_12 hc0 hc1 hc2 hc3 hc4 hc5 hc6 hc7 hc8 hc9 hc10 hc11; exact hh) (by decide) ?_
  refine j_lv K [] (lv' := []) rfl ?_
  exact kX0_count_182 K hr hgc  S mk cc sc (h.2.2.2.2.2.2.2.2.2.2.2.2 hc0 hc1 hc2 hc3 hc4 hc5 hc6 hc7 hc8 hc9 hc10 hc11) _ _ _ hh hm hcl hsl
theorem ctX0_count {l : Launch} {D : va_G} {ct : Nat → ClassId} {G : gE} {g : GP} {fx : Nat → Nat} {tl : va_W} {S : CS} {T : TB} (hG : gOK G) (hgc : gHasC G g) (x1 : Int32) (hp : cOk S) (hT : tOK T) : mCi l D ct G g fx tl yX0_count (ws_ yX0_count cX0_count 2 (some .int)) 10 233 [.ref (fx 0), .int x1] S T (cntB x1) 0 0 (fun r S' => r = sCount x1 (rep S) ∧ S' = S) := fun sz =>
  j_met (Qc := fun A => va_Qi (fun (r : Int32) (u : CS × TB) => (fun (r : Int32) (S' : CS) => r = sCount x1 (rep S) ∧ S' = S) r u.1 ∧ extB (cntB x1) (pS S) T u.2) (fun (u : CS × TB) => cB D ct A (CW ct g.2.1 fx u.1 u.2 tl)) A) (by decide) hG (Nat.le_of_ble_eq_true rfl) (fun p e s m args below meth c A K hr _ _ => kX0_count_0 (H := ((cntB x1), pS S, 0, 0)) (T0 := T) (post := fun r S' => r = sCount x1 (rep S) ∧ S' = S) K hr hgc x1 S false 0 0 (vcX0_count x1 hp) T 0 0 (hid.start hT) (fun z => (by cases z)) (Nat.zero_le _) (Nat.zero_le _))
-- neighbours(I)I
theorem kX0_neighbours_19 {p : Program} {l : Launch} {e : Env} {s : State} {m : MethodId} {args : Array Value} {below : List Frame} {meth : Method} {c : Code} {A : Nat → Prop} {D : va_G} {ct : Nat → ClassId} {G : gE} {g : GP} {fx : Nat → Nat} {tl : va_W} {H : HB} {T0 : TB} {post : Int32 → CS → Prop} (K : CX p s m args meth c cX0_neighbours 2 RX0 A D ct G) (hr : meth.sig.returnType = (some .int)) (hgc : gHasC G g)   (s0 : Int32) (S : CS) (mk : Bool) (cc : Nat) (sc : Nat) (h : wX0_neighbours_19 H post  s0 S mk cc sc) : jM p l e s m args below meth c A D ct g fx tl 8 193 2 H T0 post S mk cc sc 19 [] [.int s0] := by
  unfold wX0_neighbours_19 at h
  intro T kc ks hh hm hcl hsl
  have hG := K.2.2.2.2.2.2.2.2.2
  exact m_iret K hr hh hm hcl hsl h dX0_neighbours_19
theorem kX0_neighbours_18 {p : Program} {l : Launch} {e : Env} {s : State} {m : MethodId} {args : Array Value} {below : List Frame} {meth : Method} {c : Code} {A : Nat → Prop} {D : va_G} {ct : Nat → ClassId} {G : gE} {g : GP} {fx : Nat → Nat} {tl : va_W} {H : HB} {T0 : TB} {post : Int32 → CS → Prop} (K : CX p s m args meth c cX0_neighbours 2 RX0 A D ct G) (hr : meth.sig.returnType = (some .int)) (hgc : gHasC G g)    (S : CS) (mk : Bool) (cc : Nat) (sc : Nat) (h : wX0_neighbours_18 H post  S mk cc sc) : jM p l e s m args below meth c A D ct g fx tl 8 193 2 H T0 post S mk cc sc 18 [] [] := by
  unfold wX0_neighbours_18 at h
  intro T kc ks hh hm hcl hsl
  have hG := K.2.2.2.2.2.2.2.2.2
  refine j_iconst K (-1 : Int32) dX0_neighbours_18 (by decide) ?_
  exact kX0_neighbours_19 K hr hgc  (-1 : Int32) S mk cc sc h _ _ _ hh hm hcl hsl
theorem kX0_neighbours_7 {p : Program} {l : Launch} {e : Env} {s : State} {m : MethodId} {args : Array Value} {below : List Frame} {meth : Method} {c : Code} {A : Nat → Prop} {D : va_G} {ct : Nat → ClassId} {G : gE} {g : GP} {fx : Nat → Nat} {tl : va_W} {H : HB} {T0 : TB} {post : Int32 → CS → Prop} (K : CX p s m args meth c cX0_neighbours 2 RX0 A D ct G) (hr : meth.sig.returnType = (some .int)) (hgc : gHasC G g)   (x1 : Int32) (S : CS) (mk : Bool) (cc : Nat) (sc : Nat) (h : wX0_neighbours_7 H post  x1 S mk cc sc) : jM p l e s m args below meth c A D ct g fx tl 8 193 2 H T0 post S mk cc sc 7 [(0, .ref (fx 0)), (1, .int x1)] [] := by
  unfold wX0_neighbours_7 at h
  intro T kc ks hh hm hcl hsl
  have hG := K.2.2.2.2.2.2.2.2.2
  refine j_aload_n K 0 dX0_neighbours_7 rfl rfl ?_
  obtain ⟨hp, h⟩ := h
  refine j_callVq K (As := []) (rest := []) (ctX0_table hG hgc hp.1.1 hh.tok) (lw_V q369 q371 qs10 q70 q372) (n := 0) (by decide +kernel) ⟨Nat.le_of_ble_eq_true rfl, Nat.le_of_ble_eq_true rfl⟩ 0 rfl rfl rfl rfl rfl (Nat.le_of_ble_eq_true rfl) dX0_neighbours_8 (hh.roomT hm hp.2 hcl hsl) (fun r_8 u_8 hq => ?_)
  obtain ⟨Su8, Tu8⟩ := u_8
  obtain ⟨⟨hq0, tx_8, hx_8, hq⟩, he⟩ := hq
  have hq0 : S = Su8 := hq0.symm
  subst hq0
  have hx_8 : Tu8 (pS S) = some tx_8 := hx_8
  have hq : r_8 = some (tx_8.1 0) := hq
  subst hq
  have hh1 := hh.callT hp.2.2 he
  have hm1 : true = true → H.1 = true := fun _ => hp.2.1
  show jJ p l e _ s m args below meth c _ A D _ (CW ct g.2.1 fx S Tu8 tl) _ _ _ _ (.ref (tx_8.1 0) :: _)
  refine j_iload_n K 1 dX0_neighbours_11 rfl rfl ?_
  obtain ⟨bq_1, hp, h⟩ := h
  have hpI := hp.1
  obtain ⟨i9, hi9⟩ := tab_in (ct := ct) (g := g) (fx := fx) (tl := tl) (pS_lt hpI) hx_8
  refine j_callUi K (As := [.int x1]) (rest := []) (pureM hG (ctT_next hG hgc hp.1 hh1.tok hx_8 hp.2.1 hp.2.2)) (x := ⟨"MorrisTables$Table", "next", "(I)I"⟩) (lw_U q643 q488 q490 q491 q87 q492) rfl (n := 1) (by decide +kernel) ⟨Nat.le_of_ble_eq_true rfl, Nat.le_of_ble_eq_true rfl⟩ i9 hi9 rfl rfl rfl rfl (Nat.le_of_ble_eq_true rfl) dX0_neighbours_12 (hh1.room0 hm1 hcl hsl) (fun r_2 _ hq => ?_)
  have hq : r_2 = (nI (nxM S.1.2.1 bq_1)) := hq
  subst hq
  refine j_goto K 19 dX0_neighbours_15 (by decide) ?_
  refine j_lv K [] (lv' := []) rfl ?_
  exact kX0_neighbours_19 K hr hgc  (nI (nxM S.1.2.1 bq_1)) S true cc sc h _ _ _ hh1 hm1 hcl hsl
theorem kX0_neighbours_0 {p : Program} {l : Launch} {e : Env} {s : State} {m : MethodId} {args : Array Value} {below : List Frame} {meth : Method} {c : Code} {A : Nat → Prop} {D : va_G} {ct : Nat → ClassId} {G : gE} {g : GP} {fx : Nat → Nat} {tl : va_W} {H : HB} {T0 : TB} {post : Int32 → CS → Prop} (K : CX p s m args meth c cX0_neighbours 2 RX0 A D ct G) (hr : meth.sig.returnType = (some .int)) (hgc : gHasC G g)   (x1 : Int32) (S : CS) (mk : Bool) (cc : Nat) (sc : Nat) (h : wX0_neighbours_0 H post  x1 S mk cc sc) : jM p l e s m args below meth c A D ct g fx tl 8 193 2 H T0 post S mk cc sc 0 [(0, .ref (fx 0)), (1, .int x1)] [] := by
  unfold wX0_neighbours_0 at h
  intro T kc ks hh hm hcl hsl
  have hG := K.2.2.2.2.2.2.2.2.2
  refine j_iload_n K 1 dX0_neighbours_0 rfl rfl ?_
  refine j_callSi K (As := [.int x1]) (rest := []) (ctX0_isPoint (l := l) (D := D) (ct := ct) (G := G) (ws := (CW ct g.2.1 fx S T tl)) hG x1) (lw_S q354 q355 q70 q356) (n := 1) (by decide +kernel) ⟨Nat.le_of_ble_eq_true rfl, Nat.le_of_ble_eq_true rfl⟩ rfl rfl (Nat.le_of_ble_eq_true rfl) dX0_neighbours_1 (hh.room0 hm hcl hsl) (fun r_1 _ hq => ?_)
  replace h := h r_1 hq
  refine j_if_eq K 18 dX0_neighbours_4 (by decide) (fun hc => ?_) (fun hc => ?_)
  · refine j_lv K [] (lv' := []) rfl ?_
    exact kX0_neighbours_18 K hr hgc  S mk cc sc (h.1 hc) _ _ _ hh hm hcl hsl
  · exact kX0_neighbours_7 K hr hgc  x1 S mk cc sc (h.2 hc) _ _ _ hh hm hcl hsl
theorem ctX0_neighbours {l : Launch} {D : va_G} {ct : Nat → ClassId} {G : gE} {g : GP} {fx : Nat → Nat} {tl : va_W} {S : CS} {T : TB} (hG : gOK G) (hgc : gHasC G g) (x1 : Int32) (hp : cOk S) (hT : tOK T) : mCi l D ct G g fx tl yX0_neighbours (ws_ yX0_neighbours cX0_neighbours 2 (some .int)) 8 193 [.ref (fx 0), .int x1] S T (in09 x1) 0 0 (fun r S' => r = sNb x1 (rep S) ∧ S' = S) := fun sz =>
  j_met (Qc := fun A => va_Qi (fun (r : Int32) (u : CS × TB) => (fun (r : Int32) (S' : CS) => r = sNb x1 (rep S) ∧ S' = S) r u.1 ∧ extB (in09 x1) (pS S) T u.2) (fun (u : CS × TB) => cB D ct A (CW ct g.2.1 fx u.1 u.2 tl)) A) (by decide) hG (Nat.le_of_ble_eq_true rfl) (fun p e s m args below meth c A K hr _ _ => kX0_neighbours_0 (H := ((in09 x1), pS S, 0, 0)) (T0 := T) (post := fun r S' => r = sNb x1 (rep S) ∧ S' = S) K hr hgc x1 S false 0 0 (vcX0_neighbours x1 hp) T 0 0 (hid.start hT) (fun z => (by cases z)) (Nat.zero_le _) (Nat.zero_le _))
-- move(I)I
theorem kX0_move_11 {p : Program} {l : Launch} {e : Env} {s : State} {m : MethodId} {args : Array Value} {below : List Frame} {meth : Method} {c : Code} {A : Nat → Prop} {D : va_G} {ct : Nat → ClassId} {G : gE} {g : GP} {fx : Nat → Nat} {tl : va_W} {H : HB} {T0 : TB} {post : Int32 → CS → Prop} (K : CX p s m args meth c cX0_move 5 RX0 A D ct G) (hr : meth.sig.returnType = (some .int)) (hgc : gHasC G g)    (S : CS) (mk : Bool) (cc : Nat) (sc : Nat) (h : wX0_move_11 H post  S mk cc sc) : jM p l e s m args below meth c A D ct g fx tl 10 233 5 H T0 post S mk cc sc 11 [] [] := by
  unfold wX0_move_11 at h
  intro T kc ks hh hm hcl hsl
  have hG := K.2.2.2.2.2.2.2.2.2
  refine j_iconst K (-1 : Int32) dX0_move_11 (by decide) ?_
  exact m_iret K hr hh hm hcl hsl h dX0_move_12
theorem kX0_move_71 {p : Program} {l : Launch} {e : Env} {s : State} {m : MethodId} {args : Array Value} {below : List Frame} {meth : Method} {c : Code} {A : Nat → Prop} {D : va_G} {ct : Nat → ClassId} {G : gE} {g : GP} {fx : Nat → Nat} {tl : va_W} {H : HB} {T0 : TB} {post : Int32 → CS → Prop} (K : CX p s m args meth c cX0_move 5 RX0 A D ct G) (hr : meth.sig.returnType = (some .int)) (hgc : gHasC G g)    (S : CS) (mk : Bool) (cc : Nat) (sc : Nat) (h : wX0_move_71 H post  S mk cc sc) : jM p l e s m args below meth c A D ct g fx tl 10 233 5 H T0 post S mk cc sc 71 [] [] := by
  unfold wX0_move_71 at h
  intro T kc ks hh hm hcl hsl
  have hG := K.2.2.2.2.2.2.2.2.2
  refine j_iconst K (-1 : Int32) dX0_move_71 (by decide) ?_
  exact m_iret K hr hh hm hcl hsl h dX0_move_72
theorem kX0_move_63 {p : Program} {l : Launch} {e : Env} {s : State} {m : MethodId} {args : Array Value} {below : List Frame} {meth : Method} {c : Code} {A : Nat → Prop} {D : va_G} {ct : Nat → ClassId} {G : gE} {g : GP} {fx : Nat → Nat} {tl : va_W} {H : HB} {T0 : TB} {post : Int32 → CS → Prop} (K : CX p s m args meth c cX0_move 5 RX0 A D ct G) (hr : meth.sig.returnType = (some .int)) (hgc : gHasC G g) (L17 : Int32 → Int32 → CS → Bool → Nat → Nat → Prop) (hL17 : ∀ (x2 : Int32) (x3 : Int32) (S : CS) (mk : Bool) (cc : Nat) (sc : Nat), L17 x2 x3 S mk cc sc → jM p l e s m args below meth c A D ct g fx tl 10 233 5 H T0 post S mk cc sc 17 [(0, .ref (fx 0)), (2, .int x2), (3, .int x3)] []) (x3 : Int32) (s0 : Int32) (s1 : Int32) (S : CS) (mk : Bool) (cc : Nat) (sc : Nat) (h : wX0_move_63 H post L17 x3 s0 s1 S mk cc sc) : jM p l e s m args below meth c A D ct g fx tl 10 233 5 H T0 post S mk cc sc 63 [(0, .ref (fx 0)), (3, .int x3)] [.int s1, .int s0] := by
  unfold wX0_move_63 at h
  intro T kc ks hh hm hcl hsl
  have hG := K.2.2.2.2.2.2.2.2.2
  refine j_isub K dX0_move_63 ?_
  refine j_istore_n K [(2, .int (s0 - s1)), (0, .ref (fx 0)), (3, .int x3)] dX0_move_64 rfl (by decide) rfl ?_
  refine j_iinc K 2 (x3 + (1 : Int32)) [(3, .int (x3 + (1 : Int32))), (2, .int (s0 - s1)), (0, .ref (fx 0))] dX0_move_65 rfl rfl (by decide) rfl ?_
  refine j_goto K 17 dX0_move_68 (by decide) ?_
  refine j_lv K [2, 1, 0] (lv' := [(0, .ref (fx 0)), (2, .int (s0 - s1)), (3, .int (x3 + (1 : Int32)))]) rfl ?_
  exact hL17 (s0 - s1) (x3 + (1 : Int32)) S mk cc sc h _ _ _ hh hm hcl hsl
theorem kX0_move_62 {p : Program} {l : Launch} {e : Env} {s : State} {m : MethodId} {args : Array Value} {below : List Frame} {meth : Method} {c : Code} {A : Nat → Prop} {D : va_G} {ct : Nat → ClassId} {G : gE} {g : GP} {fx : Nat → Nat} {tl : va_W} {H : HB} {T0 : TB} {post : Int32 → CS → Prop} (K : CX p s m args meth c cX0_move 5 RX0 A D ct G) (hr : meth.sig.returnType = (some .int)) (hgc : gHasC G g) (L17 : Int32 → Int32 → CS → Bool → Nat → Nat → Prop) (hL17 : ∀ (x2 : Int32) (x3 : Int32) (S : CS) (mk : Bool) (cc : Nat) (sc : Nat), L17 x2 x3 S mk cc sc → jM p l e s m args below meth c A D ct g fx tl 10 233 5 H T0 post S mk cc sc 17 [(0, .ref (fx 0)), (2, .int x2), (3, .int x3)] []) (x3 : Int32) (s0 : Int32) (S : CS) (mk : Bool) (cc : Nat) (sc : Nat) (h : wX0_move_62 H post L17 x3 s0 S mk cc sc) : jM p l e s m args below meth c A D ct g fx tl 10 233 5 H T0 post S mk cc sc 62 [(0, .ref (fx 0)), (3, .int x3)] [.int s0] := by
  unfold wX0_move_62 at h
  intro T kc ks hh hm hcl hsl
  have hG := K.2.2.2.2.2.2.2.2.2
  refine j_iconst K (0 : Int32) dX0_move_62 (by decide) ?_
  exact kX0_move_63 K hr hgc L17 hL17 x3 s0 (0 : Int32) S mk cc sc h _ _ _ hh hm hcl hsl
theorem kX0_move_58 {p : Program} {l : Launch} {e : Env} {s : State} {m : MethodId} {args : Array Value} {below : List Frame} {meth : Method} {c : Code} {A : Nat → Prop} {D : va_G} {ct : Nat → ClassId} {G : gE} {g : GP} {fx : Nat → Nat} {tl : va_W} {H : HB} {T0 : TB} {post : Int32 → CS → Prop} (K : CX p s m args meth c cX0_move 5 RX0 A D ct G) (hr : meth.sig.returnType = (some .int)) (hgc : gHasC G g) (L17 : Int32 → Int32 → CS → Bool → Nat → Nat → Prop) (hL17 : ∀ (x2 : Int32) (x3 : Int32) (S : CS) (mk : Bool) (cc : Nat) (sc : Nat), L17 x2 x3 S mk cc sc → jM p l e s m args below meth c A D ct g fx tl 10 233 5 H T0 post S mk cc sc 17 [(0, .ref (fx 0)), (2, .int x2), (3, .int x3)] []) (x3 : Int32) (s0 : Int32) (S : CS) (mk : Bool) (cc : Nat) (sc : Nat) (h : wX0_move_58 H post L17 x3 s0 S mk cc sc) : jM p l e s m args below meth c A D ct g fx tl 10 233 5 H T0 post S mk cc sc 58 [(0, .ref (fx 0)), (3, .int x3)] [.int s0] := by
  unfold wX0_move_58 at h
  intro T kc ks hh hm hcl hsl
  have hG := K.2.2.2.2.2.2.2.2.2
  refine j_iconst K (1 : Int32) dX0_move_58 (by decide) ?_
  refine j_goto K 63 dX0_move_59 (by decide) ?_
  exact kX0_move_63 K hr hgc L17 hL17 x3 s0 (1 : Int32) S mk cc sc h _ _ _ hh hm hcl hsl
theorem kX0_move_52 {p : Program} {l : Launch} {e : Env} {s : State} {m : MethodId} {args : Array Value} {below : List Frame} {meth : Method} {c : Code} {A : Nat → Prop} {D : va_G} {ct : Nat → ClassId} {G : gE} {g : GP} {fx : Nat → Nat} {tl : va_W} {H : HB} {T0 : TB} {post : Int32 → CS → Prop} (K : CX p s m args meth c cX0_move 5 RX0 A D ct G) (hr : meth.sig.returnType = (some .int)) (hgc : gHasC G g) (L17 : Int32 → Int32 → CS → Bool → Nat → Nat → Prop) (hL17 : ∀ (x2 : Int32) (x3 : Int32) (S : CS) (mk : Bool) (cc : Nat) (sc : Nat), L17 x2 x3 S mk cc sc → jM p l e s m args below meth c A D ct g fx tl 10 233 5 H T0 post S mk cc sc 17 [(0, .ref (fx 0)), (2, .int x2), (3, .int x3)] []) (x2 : Int32) (x3 : Int32) (x4 : Int32) (S : CS) (mk : Bool) (cc : Nat) (sc : Nat) (h : wX0_move_52 H post L17 x2 x3 x4 S mk cc sc) : jM p l e s m args below meth c A D ct g fx tl 10 233 5 H T0 post S mk cc sc 52 [(0, .ref (fx 0)), (2, .int x2), (3, .int x3), (4, .int x4)] [] := by
  unfold wX0_move_52 at h
  intro T kc ks hh hm hcl hsl
  have hG := K.2.2.2.2.2.2.2.2.2
  refine j_iload_n K 1 dX0_move_52 rfl rfl ?_
  refine j_iload K 3 dX0_move_53 rfl ?_
  refine j_if_eq K 62 dX0_move_55 (by decide) (fun hc => ?_) (fun hc => ?_)
  · refine j_lv K [0, 2] (lv' := [(0, .ref (fx 0)), (3, .int x3)]) rfl ?_
    exact kX0_move_62 K hr hgc L17 hL17 x3 x2 S mk cc sc (h.1 hc) _ _ _ hh hm hcl hsl
  · refine j_lv K [0, 2] (lv' := [(0, .ref (fx 0)), (3, .int x3)]) rfl ?_
    exact kX0_move_58 K hr hgc L17 hL17 x3 x2 S mk cc sc (h.2 hc) _ _ _ hh hm hcl hsl
theorem kX0_move_50 {p : Program} {l : Launch} {e : Env} {s : State} {m : MethodId} {args : Array Value} {below : List Frame} {meth : Method} {c : Code} {A : Nat → Prop} {D : va_G} {ct : Nat → ClassId} {G : gE} {g : GP} {fx : Nat → Nat} {tl : va_W} {H : HB} {T0 : TB} {post : Int32 → CS → Prop} (K : CX p s m args meth c cX0_move 5 RX0 A D ct G) (hr : meth.sig.returnType = (some .int)) (hgc : gHasC G g)   (x3 : Int32) (S : CS) (mk : Bool) (cc : Nat) (sc : Nat) (h : wX0_move_50 H post  x3 S mk cc sc) : jM p l e s m args below meth c A D ct g fx tl 10 233 5 H T0 post S mk cc sc 50 [(3, .int x3)] [] := by
  unfold wX0_move_50 at h
  intro T kc ks hh hm hcl hsl
  have hG := K.2.2.2.2.2.2.2.2.2
  refine j_iload_n K 0 dX0_move_50 rfl rfl ?_
  exact m_iret K hr hh hm hcl hsl h dX0_move_51
theorem kX0_move_46 {p : Program} {l : Launch} {e : Env} {s : State} {m : MethodId} {args : Array Value} {below : List Frame} {meth : Method} {c : Code} {A : Nat → Prop} {D : va_G} {ct : Nat → ClassId} {G : gE} {g : GP} {fx : Nat → Nat} {tl : va_W} {H : HB} {T0 : TB} {post : Int32 → CS → Prop} (K : CX p s m args meth c cX0_move 5 RX0 A D ct G) (hr : meth.sig.returnType = (some .int)) (hgc : gHasC G g) (L17 : Int32 → Int32 → CS → Bool → Nat → Nat → Prop) (hL17 : ∀ (x2 : Int32) (x3 : Int32) (S : CS) (mk : Bool) (cc : Nat) (sc : Nat), L17 x2 x3 S mk cc sc → jM p l e s m args below meth c A D ct g fx tl 10 233 5 H T0 post S mk cc sc 17 [(0, .ref (fx 0)), (2, .int x2), (3, .int x3)] []) (x2 : Int32) (x3 : Int32) (x4 : Int32) (S : CS) (mk : Bool) (cc : Nat) (sc : Nat) (h : wX0_move_46 H post L17 x2 x3 x4 S mk cc sc) : jM p l e s m args below meth c A D ct g fx tl 10 233 5 H T0 post S mk cc sc 46 [(0, .ref (fx 0)), (2, .int x2), (3, .int x3), (4, .int x4)] [] := by
  unfold wX0_move_46 at h
  intro T kc ks hh hm hcl hsl
  have hG := K.2.2.2.2.2.2.2.2.2
  refine j_iload_n K 1 dX0_move_46 rfl rfl ?_
  refine j_if_ne K 52 dX0_move_47 (by decide) (fun hc => ?_) (fun hc => ?_)
  · exact kX0_move_52 K hr hgc L17 hL17 x2 x3 x4 S mk cc sc (h.1 hc) _ _ _ hh hm hcl hsl
  · refine j_lv K [2] (lv' := [(3, .int x3)]) rfl ?_
    exact kX0_move_50 K hr hgc  x3 S mk cc sc (h.2 hc) _ _ _ hh hm hcl hsl
theorem kX0_move_23 {p : Program} {l : Launch} {e : Env} {s : State} {m : MethodId} {args : Array Value} {below : List Frame} {meth : Method} {c : Code} {A : Nat → Prop} {D : va_G} {ct : Nat → ClassId} {G : gE} {g : GP} {fx : Nat → Nat} {tl : va_W} {H : HB} {T0 : TB} {post : Int32 → CS → Prop} (K : CX p s m args meth c cX0_move 5 RX0 A D ct G) (hr : meth.sig.returnType = (some .int)) (hgc : gHasC G g) (L17 : Int32 → Int32 → CS → Bool → Nat → Nat → Prop) (hL17 : ∀ (x2 : Int32) (x3 : Int32) (S : CS) (mk : Bool) (cc : Nat) (sc : Nat), L17 x2 x3 S mk cc sc → jM p l e s m args below meth c A D ct g fx tl 10 233 5 H T0 post S mk cc sc 17 [(0, .ref (fx 0)), (2, .int x2), (3, .int x3)] []) (x2 : Int32) (x3 : Int32) (S : CS) (mk : Bool) (cc : Nat) (sc : Nat) (h : wX0_move_23 H post L17 x2 x3 S mk cc sc) : jM p l e s m args below meth c A D ct g fx tl 10 233 5 H T0 post S mk cc sc 23 [(0, .ref (fx 0)), (2, .int x2), (3, .int x3)] [] := by
  unfold wX0_move_23 at h
  intro T kc ks hh hm hcl hsl
  have hG := K.2.2.2.2.2.2.2.2.2
  refine j_aload_n K 0 dX0_move_23 rfl rfl ?_
  obtain ⟨hp, h⟩ := h
  refine j_callVq K (As := []) (rest := []) (ctX0_table hG hgc hp.1.1 hh.tok) (lw_V q369 q371 qs10 q70 q372) (n := 0) (by decide +kernel) ⟨Nat.le_of_ble_eq_true rfl, Nat.le_of_ble_eq_true rfl⟩ 0 rfl rfl rfl rfl rfl (Nat.le_of_ble_eq_true rfl) dX0_move_24 (hh.roomT hm hp.2 hcl hsl) (fun r_24 u_24 hq => ?_)
  obtain ⟨Su24, Tu24⟩ := u_24
  obtain ⟨⟨hq0, tx_24, hx_24, hq⟩, he⟩ := hq
  have hq0 : S = Su24 := hq0.symm
  subst hq0
  have hx_24 : Tu24 (pS S) = some tx_24 := hx_24
  have hq : r_24 = some (tx_24.1 0) := hq
  subst hq
  have hh1 := hh.callT hp.2.2 he
  have hm1 : true = true → H.1 = true := fun _ => hp.2.1
  show jJ p l e _ s m args below meth c _ A D _ (CW ct g.2.1 fx S Tu24 tl) _ _ _ _ (.ref (tx_24.1 0) :: _)
  refine j_aload_n K 0 dX0_move_27 rfl rfl ?_
  obtain ⟨hp, h⟩ := h
  refine j_callVi K (As := []) (rest := [.ref (tx_24.1 0)]) (pureM hG (ctX0_own hG hgc hp hh1.tok)) (lw_V q545 q547 qs18 q70 q548) (n := 0) (by decide +kernel) ⟨Nat.le_of_ble_eq_true rfl, Nat.le_of_ble_eq_true rfl⟩ 0 rfl rfl rfl rfl rfl (Nat.le_of_ble_eq_true rfl) dX0_move_28 (hh1.room0 hm1 hcl hsl) (fun r_1 _ hq => ?_)
  have hq : r_1 = (nI (meB (cur S.1.2))) := hq
  subst hq
  refine j_aload_n K 0 dX0_move_31 rfl rfl ?_
  obtain ⟨hp, h⟩ := h
  refine j_callVi K (As := []) (rest := [.int (nI (meB (cur S.1.2))), .ref (tx_24.1 0)]) (pureM hG (ctX0_others hG hgc hp hh1.tok)) (lw_V q549 q551 qs19 q70 q552) (n := 0) (by decide +kernel) ⟨Nat.le_of_ble_eq_true rfl, Nat.le_of_ble_eq_true rfl⟩ 0 rfl rfl rfl rfl rfl (Nat.le_of_ble_eq_true rfl) dX0_move_32 (hh1.room0 hm1 hcl hsl) (fun r_2 _ hq => ?_)
  have hq : r_2 = (nI (otB (cur S.1.2))) := hq
  subst hq
  refine j_iload_n K 2 dX0_move_35 rfl rfl ?_
  obtain ⟨hp, h⟩ := h
  have hpI := hp
  obtain ⟨i9, hi9⟩ := tab_in (ct := ct) (g := g) (fx := fx) (tl := tl) (pS_lt hpI) hx_24
  refine j_callUi K (As := [.int (nI (meB (cur S.1.2))), .int (nI (otB (cur S.1.2))), .int x3]) (rest := []) (pureM hG (ctT_isMove hG hgc hp hh1.tok hx_24)) (x := ⟨"MorrisTables$Table", "isMove", "(III)Z"⟩) (lw_U q562 q563 q565 q566 q87 q567) rfl (n := 3) (by decide +kernel) ⟨Nat.le_of_ble_eq_true rfl, Nat.le_of_ble_eq_true rfl⟩ i9 hi9 rfl rfl rfl rfl (Nat.le_of_ble_eq_true rfl) dX0_move_36 (hh1.room0 hm1 hcl hsl) (fun r_3 _ hq => ?_)
  have hq : r_3 = (b2 (isMvX S.1.2 x3)) := hq
  subst hq
  refine j_istore K [(4, .int (b2 (isMvX S.1.2 x3))), (0, .ref (fx 0)), (2, .int x2), (3, .int x3)] dX0_move_39 (by decide) rfl ?_
  refine j_iload K 0 dX0_move_41 rfl ?_
  refine j_if_eq K 52 dX0_move_43 (by decide) (fun hc => ?_) (fun hc => ?_)
  · refine j_lv K [1, 2, 3, 0] (lv' := [(0, .ref (fx 0)), (2, .int x2), (3, .int x3), (4, .int (b2 (isMvX S.1.2 x3)))]) rfl ?_
    exact kX0_move_52 K hr hgc L17 hL17 x2 x3 (b2 (isMvX S.1.2 x3)) S true cc sc (h.1 hc) _ _ _ hh1 hm1 hcl hsl
  · refine j_lv K [1, 2, 3, 0] (lv' := [(0, .ref (fx 0)), (2, .int x2), (3, .int x3), (4, .int (b2 (isMvX S.1.2 x3)))]) rfl ?_
    exact kX0_move_46 K hr hgc L17 hL17 x2 x3 (b2 (isMvX S.1.2 x3)) S true cc sc (h.2 hc) _ _ _ hh1 hm1 hcl hsl
theorem kX0_move_17_b {p : Program} {l : Launch} {e : Env} {s : State} {m : MethodId} {args : Array Value} {below : List Frame} {meth : Method} {c : Code} {A : Nat → Prop} {D : va_G} {ct : Nat → ClassId} {G : gE} {g : GP} {fx : Nat → Nat} {tl : va_W} {H : HB} {T0 : TB} {post : Int32 → CS → Prop} (K : CX p s m args meth c cX0_move 5 RX0 A D ct G) (hr : meth.sig.returnType = (some .int)) (hgc : gHasC G g) (L17 : Int32 → Int32 → CS → Bool → Nat → Nat → Prop) (hL17 : ∀ (x2 : Int32) (x3 : Int32) (S : CS) (mk : Bool) (cc : Nat) (sc : Nat), L17 x2 x3 S mk cc sc → jM p l e s m args below meth c A D ct g fx tl 10 233 5 H T0 post S mk cc sc 17 [(0, .ref (fx 0)), (2, .int x2), (3, .int x3)] []) (x2 : Int32) (x3 : Int32) (S : CS) (mk : Bool) (cc : Nat) (sc : Nat) (h : wX0_move_17_b H post L17 x2 x3 S mk cc sc) : jM p l e s m args below meth c A D ct g fx tl 10 233 5 H T0 post S mk cc sc 17 [(0, .ref (fx 0)), (2, .int x2), (3, .int x3)] [] := by
  unfold wX0_move_17_b at h
  intro T kc ks hh hm hcl hsl
  have hG := K.2.2.2.2.2.2.2.2.2
  refine j_iload_n K 2 dX0_move_17 rfl rfl ?_
  refine j_bipush K (91 : Int32) dX0_move_18 (by decide) ?_
  refine j_icmp_ge K 71 dX0_move_20 (by decide) (fun hc => ?_) (fun hc => ?_)
  · refine j_lv K [] (lv' := []) rfl ?_
    exact kX0_move_71 K hr hgc  S mk cc sc (h.1 hc) _ _ _ hh hm hcl hsl
  · exact kX0_move_23 K hr hgc L17 hL17 x2 x3 S mk cc sc (h.2 hc) _ _ _ hh hm hcl hsl
theorem kX0_move_17 {p : Program} {l : Launch} {e : Env} {s : State} {m : MethodId} {args : Array Value} {below : List Frame} {meth : Method} {c : Code} {A : Nat → Prop} {D : va_G} {ct : Nat → ClassId} {G : gE} {g : GP} {fx : Nat → Nat} {tl : va_W} {H : HB} {T0 : TB} {post : Int32 → CS → Prop} (K : CX p s m args meth c cX0_move 5 RX0 A D ct G) (hr : meth.sig.returnType = (some .int)) (hgc : gHasC G g)   (x2 : Int32) (x3 : Int32) (S : CS) (mk : Bool) (cc : Nat) (sc : Nat) (h : wX0_move_17 H post  x2 x3 S mk cc sc) : jM p l e s m args below meth c A D ct g fx tl 10 233 5 H T0 post S mk cc sc 17 [(0, .ref (fx 0)), (2, .int x2), (3, .int x3)] [] :=
  wloop_sound (V := Int32 × Int32 × CS × Bool × Nat × Nat) (Wk := fun v => jM p l e s m args below meth c A D ct g fx tl 10 233 5 H T0 post v.2.2.1 v.2.2.2.1 v.2.2.2.2.1 v.2.2.2.2.2 17 [(0, .ref (fx 0)), (2, .int v.1), (3, .int v.2.1)] []) (fun L hL v hb => kX0_move_17_b K hr hgc (fun x2 x3 S mk cc sc => L (x2, x3, S, mk, cc, sc)) (fun x2 x3 S mk cc sc hx => hL (x2, x3, S, mk, cc, sc) hx) v.1 v.2.1 v.2.2.1 v.2.2.2.1 v.2.2.2.2.1 v.2.2.2.2.2 hb) h
theorem kX0_move_13 {p : Program} {l : Launch} {e : Env} {s : State} {m : MethodId} {args : Array Value} {below : List Frame} {meth : Method} {c : Code} {A : Nat → Prop} {D : va_G} {ct : Nat → ClassId} {G : gE} {g : GP} {fx : Nat → Nat} {tl : va_W} {H : HB} {T0 : TB} {post : Int32 → CS → Prop} (K : CX p s m args meth c cX0_move 5 RX0 A D ct G) (hr : meth.sig.returnType = (some .int)) (hgc : gHasC G g)   (x1 : Int32) (S : CS) (mk : Bool) (cc : Nat) (sc : Nat) (h : wX0_move_13 H post  x1 S mk cc sc) : jM p l e s m args below meth c A D ct g fx tl 10 233 5 H T0 post S mk cc sc 13 [(0, .ref (fx 0)), (1, .int x1)] [] := by
  unfold wX0_move_13 at h
  intro T kc ks hh hm hcl hsl
  have hG := K.2.2.2.2.2.2.2.2.2
  refine j_iload_n K 1 dX0_move_13 rfl rfl ?_
  refine j_istore_n K [(2, .int x1), (0, .ref (fx 0)), (1, .int x1)] dX0_move_14 rfl (by decide) rfl ?_
  refine j_iconst K (0 : Int32) dX0_move_15 (by decide) ?_
  refine j_istore_n K [(3, .int (0 : Int32)), (2, .int x1), (0, .ref (fx 0)), (1, .int x1)] dX0_move_16 rfl (by decide) rfl ?_
  refine j_lv K [2, 1, 0] (lv' := [(0, .ref (fx 0)), (2, .int x1), (3, .int (0 : Int32))]) rfl ?_
  exact kX0_move_17 K hr hgc  x1 (0 : Int32) S mk cc sc h _ _ _ hh hm hcl hsl
theorem kX0_move_7 {p : Program} {l : Launch} {e : Env} {s : State} {m : MethodId} {args : Array Value} {below : List Frame} {meth : Method} {c : Code} {A : Nat → Prop} {D : va_G} {ct : Nat → ClassId} {G : gE} {g : GP} {fx : Nat → Nat} {tl : va_W} {H : HB} {T0 : TB} {post : Int32 → CS → Prop} (K : CX p s m args meth c cX0_move 5 RX0 A D ct G) (hr : meth.sig.returnType = (some .int)) (hgc : gHasC G g)   (x1 : Int32) (S : CS) (mk : Bool) (cc : Nat) (sc : Nat) (h : wX0_move_7 H post  x1 S mk cc sc) : jM p l e s m args below meth c A D ct g fx tl 10 233 5 H T0 post S mk cc sc 7 [(0, .ref (fx 0)), (1, .int x1)] [] := by
  unfold wX0_move_7 at h
  intro T kc ks hh hm hcl hsl
  have hG := K.2.2.2.2.2.2.2.2.2
  refine j_iload_n K 1 dX0_move_7 rfl rfl ?_
  refine j_if_ge K 13 dX0_move_8 (by decide) (fun hc => ?_) (fun hc => ?_)
  · exact kX0_move_13 K hr hgc  x1 S mk cc sc (h.1 hc) _ _ _ hh hm hcl hsl
  · refine j_lv K [] (lv' := []) rfl ?_
    exact kX0_move_11 K hr hgc  S mk cc sc (h.2 hc) _ _ _ hh hm hcl hsl
theorem kX0_move_0 {p : Program} {l : Launch} {e : Env} {s : State} {m : MethodId} {args : Array Value} {below : List Frame} {meth : Method} {c : Code} {A : Nat → Prop} {D : va_G} {ct : Nat → ClassId} {G : gE} {g : GP} {fx : Nat → Nat} {tl : va_W} {H : HB} {T0 : TB} {post : Int32 → CS → Prop} (K : CX p s m args meth c cX0_move 5 RX0 A D ct G) (hr : meth.sig.returnType = (some .int)) (hgc : gHasC G g)   (x1 : Int32) (S : CS) (mk : Bool) (cc : Nat) (sc : Nat) (h : wX0_move_0 H post  x1 S mk cc sc) : jM p l e s m args below meth c A D ct g fx tl 10 233 5 H T0 post S mk cc sc 0 [(0, .ref (fx 0)), (1, .int x1)] [] := by
  unfold wX0_move_0 at h
  intro T kc ks hh hm hcl hsl
  have hG := K.2.2.2.2.2.2.2.2.2
  refine j_aload_n K 0 dX0_move_0 rfl rfl ?_
  obtain ⟨hp, h⟩ := h
  refine j_callVi K (As := []) (rest := []) (ctX0_isOver hG hgc hp.1 hh.tok) (lw_V q361 q363 qs8 q70 q364) (n := 0) (by decide +kernel) ⟨Nat.le_of_ble_eq_true rfl, Nat.le_of_ble_eq_true rfl⟩ 0 rfl rfl rfl rfl rfl (Nat.le_of_ble_eq_true rfl) dX0_move_1 (hh.roomT hm hp.2 hcl hsl) (fun r_1 u_1 hq => ?_)
  obtain ⟨Su1, Tu1⟩ := u_1
  obtain ⟨⟨hq, hq0⟩, he⟩ := hq
  have hq0 : S = Su1 := hq0.symm
  subst hq0
  have hq : r_1 = (b2 (overG S.1.2)) := hq
  subst hq
  have hh1 := hh.callT hp.2.2 he
  have hm1 : true = true → H.1 = true := fun _ => hp.2.1
  show jJ p l e _ s m args below meth c _ A D _ (CW ct g.2.1 fx S Tu1 tl) _ _ _ _ _
  refine j_if_ne K 11 dX0_move_4 (by decide) (fun hc => ?_) (fun hc => ?_)
  · refine j_lv K [] (lv' := []) rfl ?_
    exact kX0_move_11 K hr hgc  S true cc sc (h.1 hc) _ _ _ hh1 hm1 hcl hsl
  · exact kX0_move_7 K hr hgc  x1 S true cc sc (h.2 hc) _ _ _ hh1 hm1 hcl hsl
theorem ctX0_move {l : Launch} {D : va_G} {ct : Nat → ClassId} {G : gE} {g : GP} {fx : Nat → Nat} {tl : va_W} {S : CS} {T : TB} (hG : gOK G) (hgc : gHasC G g) (x1 : Int32) (hp : cOk S) (hT : tOK T) : mCi l D ct G g fx tl yX0_move (ws_ yX0_move cX0_move 5 (some .int)) 10 233 [.ref (fx 0), .int x1] S T true 0 0 (fun r S' => r = sMove x1 (rep S) ∧ S' = S) := fun sz =>
  j_met (Qc := fun A => va_Qi (fun (r : Int32) (u : CS × TB) => (fun (r : Int32) (S' : CS) => r = sMove x1 (rep S) ∧ S' = S) r u.1 ∧ extB true (pS S) T u.2) (fun (u : CS × TB) => cB D ct A (CW ct g.2.1 fx u.1 u.2 tl)) A) (by decide) hG (Nat.le_of_ble_eq_true rfl) (fun p e s m args below meth c A K hr _ _ => kX0_move_0 (H := (true, pS S, 0, 0)) (T0 := T) (post := fun r S' => r = sMove x1 (rep S) ∧ S' = S) K hr hgc x1 S false 0 0 (vcX0_move x1 hp) T 0 0 (hid.start hT) (fun z => (by cases z)) (Nat.zero_le _) (Nat.zero_le _))
-- worth()I
theorem kX0_worth_0 {p : Program} {l : Launch} {e : Env} {s : State} {m : MethodId} {args : Array Value} {below : List Frame} {meth : Method} {c : Code} {A : Nat → Prop} {D : va_G} {ct : Nat → ClassId} {G : gE} {g : GP} {fx : Nat → Nat} {tl : va_W} {H : HB} {T0 : TB} {post : Int32 → CS → Prop} (K : CX p s m args meth c cX0_worth 1 RX0 A D ct G) (hr : meth.sig.returnType = (some .int)) (hgc : gHasC G g)    (S : CS) (mk : Bool) (cc : Nat) (sc : Nat) (h : wX0_worth_0 H post  S mk cc sc) : jM p l e s m args below meth c A D ct g fx tl 9 213 1 H T0 post S mk cc sc 0 [(0, .ref (fx 0))] [] := by
  unfold wX0_worth_0 at h
  intro T kc ks hh hm hcl hsl
  have hG := K.2.2.2.2.2.2.2.2.2
  refine j_bipush K (100 : Int32) dX0_worth_0 (by decide) ?_
  refine j_aload_n K 0 dX0_worth_2 rfl rfl ?_
  obtain ⟨hp, h⟩ := h
  refine j_callVi K (As := []) (rest := [.int (100 : Int32)]) (ctX0_worthNow hG hgc hp.1 hh.tok) (lw_V q610 q612 qs24 q70 q613) (n := 0) (by decide +kernel) ⟨Nat.le_of_ble_eq_true rfl, Nat.le_of_ble_eq_true rfl⟩ 0 rfl rfl rfl rfl rfl (Nat.le_of_ble_eq_true rfl) dX0_worth_3 (hh.roomT hm hp.2 hcl hsl) (fun r_3 u_3 hq => ?_)
  obtain ⟨Su3, Tu3⟩ := u_3
  obtain ⟨⟨hq, hq0⟩, he⟩ := hq
  have hq0 : S = Su3 := hq0.symm
  subst hq0
  have hq : r_3 = (iI (wG S.1.2)) := hq
  subst hq
  have hh1 := hh.callT hp.2.2 he
  have hm1 : true = true → H.1 = true := fun _ => hp.2.1
  show jJ p l e _ s m args below meth c _ A D _ (CW ct g.2.1 fx S Tu3 tl) _ _ _ _ _
  refine j_iadd K dX0_worth_6 ?_
  exact m_iret K hr hh1 hm1 hcl hsl h dX0_worth_7
theorem ctX0_worth {l : Launch} {D : va_G} {ct : Nat → ClassId} {G : gE} {g : GP} {fx : Nat → Nat} {tl : va_W} {S : CS} {T : TB} (hG : gOK G) (hgc : gHasC G g)  (hp : cOk S) (hT : tOK T) : mCi l D ct G g fx tl yX0_worth (ws_ yX0_worth cX0_worth 1 (some .int)) 9 213 [.ref (fx 0)] S T true 0 0 (fun r S' => r = sWorth (rep S) ∧ S' = S) := fun sz =>
  j_met (Qc := fun A => va_Qi (fun (r : Int32) (u : CS × TB) => (fun (r : Int32) (S' : CS) => r = sWorth (rep S) ∧ S' = S) r u.1 ∧ extB true (pS S) T u.2) (fun (u : CS × TB) => cB D ct A (CW ct g.2.1 fx u.1 u.2 tl)) A) (by decide) hG (Nat.le_of_ble_eq_true rfl) (fun p e s m args below meth c A K hr _ _ => kX0_worth_0 (H := (true, pS S, 0, 0)) (T0 := T) (post := fun r S' => r = sWorth (rep S) ∧ S' = S) K hr hgc  S false 0 0 (vcX0_worth  hp) T 0 0 (hid.start hT) (fun z => (by cases z)) (Nat.zero_le _) (Nat.zero_le _))
-- behind(I)I
theorem kX0_behind_20 {p : Program} {l : Launch} {e : Env} {s : State} {m : MethodId} {args : Array Value} {below : List Frame} {meth : Method} {c : Code} {A : Nat → Prop} {D : va_G} {ct : Nat → ClassId} {G : gE} {g : GP} {fx : Nat → Nat} {tl : va_W} {H : HB} {T0 : TB} {post : Int32 → CS → Prop} (K : CX p s m args meth c cX0_behind 2 RX0 A D ct G) (hr : meth.sig.returnType = (some .int)) (hgc : gHasC G g)   (s0 : Int32) (S : CS) (mk : Bool) (cc : Nat) (sc : Nat) (h : wX0_behind_20 H post  s0 S mk cc sc) : jM p l e s m args below meth c A D ct g fx tl 11 254 2 H T0 post S mk cc sc 20 [] [.int s0] := by
  unfold wX0_behind_20 at h
  intro T kc ks hh hm hcl hsl
  have hG := K.2.2.2.2.2.2.2.2.2
  exact m_iret K hr hh hm hcl hsl h dX0_behind_20
theorem kX0_behind_19 {p : Program} {l : Launch} {e : Env} {s : State} {m : MethodId} {args : Array Value} {below : List Frame} {meth : Method} {c : Code} {A : Nat → Prop} {D : va_G} {ct : Nat → ClassId} {G : gE} {g : GP} {fx : Nat → Nat} {tl : va_W} {H : HB} {T0 : TB} {post : Int32 → CS → Prop} (K : CX p s m args meth c cX0_behind 2 RX0 A D ct G) (hr : meth.sig.returnType = (some .int)) (hgc : gHasC G g)    (S : CS) (mk : Bool) (cc : Nat) (sc : Nat) (h : wX0_behind_19 H post  S mk cc sc) : jM p l e s m args below meth c A D ct g fx tl 11 254 2 H T0 post S mk cc sc 19 [] [] := by
  unfold wX0_behind_19 at h
  intro T kc ks hh hm hcl hsl
  have hG := K.2.2.2.2.2.2.2.2.2
  refine j_iconst K (-1 : Int32) dX0_behind_19 (by decide) ?_
  exact kX0_behind_20 K hr hgc  (-1 : Int32) S mk cc sc h _ _ _ hh hm hcl hsl
theorem kX0_behind_8 {p : Program} {l : Launch} {e : Env} {s : State} {m : MethodId} {args : Array Value} {below : List Frame} {meth : Method} {c : Code} {A : Nat → Prop} {D : va_G} {ct : Nat → ClassId} {G : gE} {g : GP} {fx : Nat → Nat} {tl : va_W} {H : HB} {T0 : TB} {post : Int32 → CS → Prop} (K : CX p s m args meth c cX0_behind 2 RX0 A D ct G) (hr : meth.sig.returnType = (some .int)) (hgc : gHasC G g)   (x1 : Int32) (S : CS) (mk : Bool) (cc : Nat) (sc : Nat) (h : wX0_behind_8 H post  x1 S mk cc sc) : jM p l e s m args below meth c A D ct g fx tl 11 254 2 H T0 post S mk cc sc 8 [(0, .ref (fx 0)), (1, .int x1)] [] := by
  unfold wX0_behind_8 at h
  intro T kc ks hh hm hcl hsl
  have hG := K.2.2.2.2.2.2.2.2.2
  refine j_bipush K (100 : Int32) dX0_behind_8 (by decide) ?_
  refine j_aload_n K 0 dX0_behind_10 rfl rfl ?_
  refine j_iload_n K 1 dX0_behind_11 rfl rfl ?_
  obtain ⟨hp, h⟩ := h
  obtain ⟨ho, h⟩ := h
  refine j_callVi K (As := [.int x1]) (rest := [.int (100 : Int32)]) (ctX0_behindNow hG hgc x1 hp.1 ho hh.tok) (lw_V q615 q617 qs25 q70 q618) (n := 1) (by decide +kernel) ⟨Nat.le_of_ble_eq_true rfl, Nat.le_of_ble_eq_true rfl⟩ 0 rfl rfl rfl rfl rfl (Nat.le_of_ble_eq_true rfl) dX0_behind_12 (hh.roomT hm hp.2 hcl hsl) (fun r_12 u_12 hq => ?_)
  obtain ⟨Su12, Tu12⟩ := u_12
  obtain ⟨⟨hq, hq0⟩, he⟩ := hq
  have hq0 : S = Su12 := hq0.symm
  subst hq0
  have hq : r_12 = (iI (wB S.1.2 x1.toNatClampNeg)) := hq
  subst hq
  have hh1 := hh.callT hp.2.2 he
  have hm1 : true = true → H.1 = true := fun _ => hp.2.1
  show jJ p l e _ s m args below meth c _ A D _ (CW ct g.2.1 fx S Tu12 tl) _ _ _ _ _
  refine j_iadd K dX0_behind_15 ?_
  refine j_goto K 20 dX0_behind_16 (by decide) ?_
  refine j_lv K [] (lv' := []) rfl ?_
  exact kX0_behind_20 K hr hgc  ((100 : Int32) + (iI (wB S.1.2 x1.toNatClampNeg))) S true cc sc h _ _ _ hh1 hm1 hcl hsl
theorem kX0_behind_0 {p : Program} {l : Launch} {e : Env} {s : State} {m : MethodId} {args : Array Value} {below : List Frame} {meth : Method} {c : Code} {A : Nat → Prop} {D : va_G} {ct : Nat → ClassId} {G : gE} {g : GP} {fx : Nat → Nat} {tl : va_W} {H : HB} {T0 : TB} {post : Int32 → CS → Prop} (K : CX p s m args meth c cX0_behind 2 RX0 A D ct G) (hr : meth.sig.returnType = (some .int)) (hgc : gHasC G g)   (x1 : Int32) (S : CS) (mk : Bool) (cc : Nat) (sc : Nat) (h : wX0_behind_0 H post  x1 S mk cc sc) : jM p l e s m args below meth c A D ct g fx tl 11 254 2 H T0 post S mk cc sc 0 [(0, .ref (fx 0)), (1, .int x1)] [] := by
  unfold wX0_behind_0 at h
  intro T kc ks hh hm hcl hsl
  have hG := K.2.2.2.2.2.2.2.2.2
  refine j_aload_n K 0 dX0_behind_0 rfl rfl ?_
  refine j_iload_n K 1 dX0_behind_1 rfl rfl ?_
  obtain ⟨hp, h⟩ := h
  refine j_callVi K (As := [.int x1]) (rest := []) (ctX0_isMove hG hgc x1 hp.1 hh.tok) (lw_V q357 q359 qs7 q70 q360) (n := 1) (by decide +kernel) ⟨Nat.le_of_ble_eq_true rfl, Nat.le_of_ble_eq_true rfl⟩ 0 rfl rfl rfl rfl rfl (Nat.le_of_ble_eq_true rfl) dX0_behind_2 (hh.roomT hm hp.2 hcl hsl) (fun r_2 u_2 hq => ?_)
  obtain ⟨Su2, Tu2⟩ := u_2
  obtain ⟨⟨hq, hq0⟩, he⟩ := hq
  have hq0 : S = Su2 := hq0.symm
  subst hq0
  have hq : r_2 = (b2 (!overG S.1.2 && isMvX S.1.2 x1)) := hq
  subst hq
  have hh1 := hh.callT hp.2.2 he
  have hm1 : true = true → H.1 = true := fun _ => hp.2.1
  show jJ p l e _ s m args below meth c _ A D _ (CW ct g.2.1 fx S Tu2 tl) _ _ _ _ _
  refine j_if_eq K 19 dX0_behind_5 (by decide) (fun hc => ?_) (fun hc => ?_)
  · refine j_lv K [] (lv' := []) rfl ?_
    exact kX0_behind_19 K hr hgc  S true cc sc (h.1 hc) _ _ _ hh1 hm1 hcl hsl
  · exact kX0_behind_8 K hr hgc  x1 S true cc sc (h.2 hc) _ _ _ hh1 hm1 hcl hsl
theorem ctX0_behind {l : Launch} {D : va_G} {ct : Nat → ClassId} {G : gE} {g : GP} {fx : Nat → Nat} {tl : va_W} {S : CS} {T : TB} (hG : gOK G) (hgc : gHasC G g) (x1 : Int32) (hp : cOk S) (hT : tOK T) : mCi l D ct G g fx tl yX0_behind (ws_ yX0_behind cX0_behind 2 (some .int)) 11 254 [.ref (fx 0), .int x1] S T true 0 0 (fun r S' => r = sBehind x1 (rep S) ∧ S' = S) := fun sz =>
  j_met (Qc := fun A => va_Qi (fun (r : Int32) (u : CS × TB) => (fun (r : Int32) (S' : CS) => r = sBehind x1 (rep S) ∧ S' = S) r u.1 ∧ extB true (pS S) T u.2) (fun (u : CS × TB) => cB D ct A (CW ct g.2.1 fx u.1 u.2 tl)) A) (by decide) hG (Nat.le_of_ble_eq_true rfl) (fun p e s m args below meth c A K hr _ _ => kX0_behind_0 (H := (true, pS S, 0, 0)) (T0 := T) (post := fun r S' => r = sBehind x1 (rep S) ∧ S' = S) K hr hgc x1 S false 0 0 (vcX0_behind x1 hp) T 0 0 (hid.start hT) (fun z => (by cases z)) (Nat.zero_le _) (Nat.zero_le _))
-- best()I
theorem kX0_best_16 {p : Program} {l : Launch} {e : Env} {s : State} {m : MethodId} {args : Array Value} {below : List Frame} {meth : Method} {c : Code} {A : Nat → Prop} {D : va_G} {ct : Nat → ClassId} {G : gE} {g : GP} {fx : Nat → Nat} {tl : va_W} {H : HB} {T0 : TB} {post : Int32 → CS → Prop} (K : CX p s m args meth c cX0_best 1 RX0 A D ct G) (hr : meth.sig.returnType = (some .int)) (hgc : gHasC G g)   (s0 : Int32) (S : CS) (mk : Bool) (cc : Nat) (sc : Nat) (h : wX0_best_16 H post  s0 S mk cc sc) : jM p l e s m args below meth c A D ct g fx tl 10 237 1 H T0 post S mk cc sc 16 [] [.int s0] := by
  unfold wX0_best_16 at h
  intro T kc ks hh hm hcl hsl
  have hG := K.2.2.2.2.2.2.2.2.2
  exact m_iret K hr hh hm hcl hsl h dX0_best_16
theorem kX0_best_12 {p : Program} {l : Launch} {e : Env} {s : State} {m : MethodId} {args : Array Value} {below : List Frame} {meth : Method} {c : Code} {A : Nat → Prop} {D : va_G} {ct : Nat → ClassId} {G : gE} {g : GP} {fx : Nat → Nat} {tl : va_W} {H : HB} {T0 : TB} {post : Int32 → CS → Prop} (K : CX p s m args meth c cX0_best 1 RX0 A D ct G) (hr : meth.sig.returnType = (some .int)) (hgc : gHasC G g)    (S : CS) (mk : Bool) (cc : Nat) (sc : Nat) (h : wX0_best_12 H post  S mk cc sc) : jM p l e s m args below meth c A D ct g fx tl 10 237 1 H T0 post S mk cc sc 12 [(0, .ref (fx 0))] [] := by
  unfold wX0_best_12 at h
  intro T kc ks hh hm hcl hsl
  have hG := K.2.2.2.2.2.2.2.2.2
  refine j_aload_n K 0 dX0_best_12 rfl rfl ?_
  obtain ⟨hp, h⟩ := h
  obtain ⟨ho, h⟩ := h
  refine j_callVi K (As := []) (rest := []) (ctX0_bestMove hG hgc hp.1 ho hh.tok) (lw_V q606 q608 qs23 q70 q609) (n := 0) (by decide +kernel) ⟨Nat.le_of_ble_eq_true rfl, Nat.le_of_ble_eq_true rfl⟩ 0 rfl rfl rfl rfl rfl (Nat.le_of_ble_eq_true rfl) dX0_best_13 (hh.roomT hm hp.2 hcl hsl) (fun r_13 u_13 hq => ?_)
  obtain ⟨Su13, Tu13⟩ := u_13
  obtain ⟨⟨hq, hq0⟩, he⟩ := hq
  have hq0 : S = Su13 := hq0.symm
  subst hq0
  have hq : r_13 = (nI (bestG S.1.2)) := hq
  subst hq
  have hh1 := hh.callT hp.2.2 he
  have hm1 : true = true → H.1 = true := fun _ => hp.2.1
  show jJ p l e _ s m args below meth c _ A D _ (CW ct g.2.1 fx S Tu13 tl) _ _ _ _ _
  refine j_lv K [] (lv' := []) rfl ?_
  exact kX0_best_16 K hr hgc  (nI (bestG S.1.2)) S true cc sc h _ _ _ hh1 hm1 hcl hsl
theorem kX0_best_7 {p : Program} {l : Launch} {e : Env} {s : State} {m : MethodId} {args : Array Value} {below : List Frame} {meth : Method} {c : Code} {A : Nat → Prop} {D : va_G} {ct : Nat → ClassId} {G : gE} {g : GP} {fx : Nat → Nat} {tl : va_W} {H : HB} {T0 : TB} {post : Int32 → CS → Prop} (K : CX p s m args meth c cX0_best 1 RX0 A D ct G) (hr : meth.sig.returnType = (some .int)) (hgc : gHasC G g)    (S : CS) (mk : Bool) (cc : Nat) (sc : Nat) (h : wX0_best_7 H post  S mk cc sc) : jM p l e s m args below meth c A D ct g fx tl 10 237 1 H T0 post S mk cc sc 7 [] [] := by
  unfold wX0_best_7 at h
  intro T kc ks hh hm hcl hsl
  have hG := K.2.2.2.2.2.2.2.2.2
  refine j_bipush K (-5 : Int32) dX0_best_7 (by decide) ?_
  refine j_goto K 16 dX0_best_9 (by decide) ?_
  exact kX0_best_16 K hr hgc  (-5 : Int32) S mk cc sc h _ _ _ hh hm hcl hsl
theorem kX0_best_0 {p : Program} {l : Launch} {e : Env} {s : State} {m : MethodId} {args : Array Value} {below : List Frame} {meth : Method} {c : Code} {A : Nat → Prop} {D : va_G} {ct : Nat → ClassId} {G : gE} {g : GP} {fx : Nat → Nat} {tl : va_W} {H : HB} {T0 : TB} {post : Int32 → CS → Prop} (K : CX p s m args meth c cX0_best 1 RX0 A D ct G) (hr : meth.sig.returnType = (some .int)) (hgc : gHasC G g)    (S : CS) (mk : Bool) (cc : Nat) (sc : Nat) (h : wX0_best_0 H post  S mk cc sc) : jM p l e s m args below meth c A D ct g fx tl 10 237 1 H T0 post S mk cc sc 0 [(0, .ref (fx 0))] [] := by
  unfold wX0_best_0 at h
  intro T kc ks hh hm hcl hsl
  have hG := K.2.2.2.2.2.2.2.2.2
  refine j_aload_n K 0 dX0_best_0 rfl rfl ?_
  obtain ⟨hp, h⟩ := h
  refine j_callVi K (As := []) (rest := []) (ctX0_isOver hG hgc hp.1 hh.tok) (lw_V q361 q363 qs8 q70 q364) (n := 0) (by decide +kernel) ⟨Nat.le_of_ble_eq_true rfl, Nat.le_of_ble_eq_true rfl⟩ 0 rfl rfl rfl rfl rfl (Nat.le_of_ble_eq_true rfl) dX0_best_1 (hh.roomT hm hp.2 hcl hsl) (fun r_1 u_1 hq => ?_)
  obtain ⟨Su1, Tu1⟩ := u_1
  obtain ⟨⟨hq, hq0⟩, he⟩ := hq
  have hq0 : S = Su1 := hq0.symm
  subst hq0
  have hq : r_1 = (b2 (overG S.1.2)) := hq
  subst hq
  have hh1 := hh.callT hp.2.2 he
  have hm1 : true = true → H.1 = true := fun _ => hp.2.1
  show jJ p l e _ s m args below meth c _ A D _ (CW ct g.2.1 fx S Tu1 tl) _ _ _ _ _
  refine j_if_eq K 12 dX0_best_4 (by decide) (fun hc => ?_) (fun hc => ?_)
  · exact kX0_best_12 K hr hgc  S true cc sc (h.1 hc) _ _ _ hh1 hm1 hcl hsl
  · refine j_lv K [] (lv' := []) rfl ?_
    exact kX0_best_7 K hr hgc  S true cc sc (h.2 hc) _ _ _ hh1 hm1 hcl hsl
theorem ctX0_best {l : Launch} {D : va_G} {ct : Nat → ClassId} {G : gE} {g : GP} {fx : Nat → Nat} {tl : va_W} {S : CS} {T : TB} (hG : gOK G) (hgc : gHasC G g)  (hp : cOk S) (hT : tOK T) : mCi l D ct G g fx tl yX0_best (ws_ yX0_best cX0_best 1 (some .int)) 10 237 [.ref (fx 0)] S T true 0 0 (fun r S' => r = sBest (rep S) ∧ S' = S) := fun sz =>
  j_met (Qc := fun A => va_Qi (fun (r : Int32) (u : CS × TB) => (fun (r : Int32) (S' : CS) => r = sBest (rep S) ∧ S' = S) r u.1 ∧ extB true (pS S) T u.2) (fun (u : CS × TB) => cB D ct A (CW ct g.2.1 fx u.1 u.2 tl)) A) (by decide) hG (Nat.le_of_ble_eq_true rfl) (fun p e s m args below meth c A K hr _ _ => kX0_best_0 (H := (true, pS S, 0, 0)) (T0 := T) (post := fun r S' => r = sBest (rep S) ∧ S' = S) K hr hgc  S false 0 0 (vcX0_best  hp) T 0 0 (hid.start hT) (fun z => (by cases z)) (Nat.zero_le _) (Nat.zero_le _))
-- worthOf(III)I
theorem kX0_worthOf_74 {p : Program} {l : Launch} {e : Env} {s : State} {m : MethodId} {args : Array Value} {below : List Frame} {meth : Method} {c : Code} {A : Nat → Prop} {D : va_G} {ct : Nat → ClassId} {G : gE} {g : GP} {fx : Nat → Nat} {tl : va_W} {H : HB} {T0 : TB} {post : Int32 → CS → Prop} (K : CX p s m args meth c cX0_worthOf 5 RX0 A D ct G) (hr : meth.sig.returnType = (some .int)) (hgc : gHasC G g)   (s0 : Int32) (S : CS) (mk : Bool) (cc : Nat) (sc : Nat) (h : wX0_worthOf_74 H post  s0 S mk cc sc) : jM p l e s m args below meth c A D ct g fx tl 8 193 5 H T0 post S mk cc sc 74 [] [.int s0] := by
  unfold wX0_worthOf_74 at h
  intro T kc ks hh hm hcl hsl
  have hG := K.2.2.2.2.2.2.2.2.2
  exact m_iret K hr hh hm hcl hsl h dX0_worthOf_74
theorem kX0_worthOf_72 {p : Program} {l : Launch} {e : Env} {s : State} {m : MethodId} {args : Array Value} {below : List Frame} {meth : Method} {c : Code} {A : Nat → Prop} {D : va_G} {ct : Nat → ClassId} {G : gE} {g : GP} {fx : Nat → Nat} {tl : va_W} {H : HB} {T0 : TB} {post : Int32 → CS → Prop} (K : CX p s m args meth c cX0_worthOf 5 RX0 A D ct G) (hr : meth.sig.returnType = (some .int)) (hgc : gHasC G g)    (S : CS) (mk : Bool) (cc : Nat) (sc : Nat) (h : wX0_worthOf_72 H post  S mk cc sc) : jM p l e s m args below meth c A D ct g fx tl 8 193 5 H T0 post S mk cc sc 72 [] [] := by
  unfold wX0_worthOf_72 at h
  intro T kc ks hh hm hcl hsl
  have hG := K.2.2.2.2.2.2.2.2.2
  refine j_bipush K (-2 : Int32) dX0_worthOf_72 (by decide) ?_
  exact kX0_worthOf_74 K hr hgc  (-2 : Int32) S mk cc sc h _ _ _ hh hm hcl hsl
theorem kX0_worthOf_56 {p : Program} {l : Launch} {e : Env} {s : State} {m : MethodId} {args : Array Value} {below : List Frame} {meth : Method} {c : Code} {A : Nat → Prop} {D : va_G} {ct : Nat → ClassId} {G : gE} {g : GP} {fx : Nat → Nat} {tl : va_W} {H : HB} {T0 : TB} {post : Int32 → CS → Prop} (K : CX p s m args meth c cX0_worthOf 5 RX0 A D ct G) (hr : meth.sig.returnType = (some .int)) (hgc : gHasC G g)   (x1 : Int32) (x2 : Int32) (x3 : Int32) (S : CS) (mk : Bool) (cc : Nat) (sc : Nat) (h : wX0_worthOf_56 H post  x1 x2 x3 S mk cc sc) : jM p l e s m args below meth c A D ct g fx tl 8 193 5 H T0 post S mk cc sc 56 [(0, .ref (fx 0)), (1, .int x1), (2, .int x2), (3, .int x3)] [] := by
  unfold wX0_worthOf_56 at h
  intro T kc ks hh hm hcl hsl
  have hG := K.2.2.2.2.2.2.2.2.2
  refine j_bipush K (100 : Int32) dX0_worthOf_56 (by decide) ?_
  refine j_aload_n K 0 dX0_worthOf_58 rfl rfl ?_
  obtain ⟨hp, h⟩ := h
  refine j_callVq K (As := []) (rest := [.int (100 : Int32)]) (ctX0_table hG hgc hp.1.1 hh.tok) (lw_V q369 q371 qs10 q70 q372) (n := 0) (by decide +kernel) ⟨Nat.le_of_ble_eq_true rfl, Nat.le_of_ble_eq_true rfl⟩ 0 rfl rfl rfl rfl rfl (Nat.le_of_ble_eq_true rfl) dX0_worthOf_59 (hh.roomT hm hp.2 hcl hsl) (fun r_59 u_59 hq => ?_)
  obtain ⟨Su59, Tu59⟩ := u_59
  obtain ⟨⟨hq0, tx_59, hx_59, hq⟩, he⟩ := hq
  have hq0 : S = Su59 := hq0.symm
  subst hq0
  have hx_59 : Tu59 (pS S) = some tx_59 := hx_59
  have hq : r_59 = some (tx_59.1 0) := hq
  subst hq
  have hh1 := hh.callT hp.2.2 he
  have hm1 : true = true → H.1 = true := fun _ => hp.2.1
  show jJ p l e _ s m args below meth c _ A D _ (CW ct g.2.1 fx S Tu59 tl) _ _ _ _ (.ref (tx_59.1 0) :: _)
  refine j_iload_n K 1 dX0_worthOf_62 rfl rfl ?_
  refine j_iload_n K 2 dX0_worthOf_63 rfl rfl ?_
  refine j_iload_n K 3 dX0_worthOf_64 rfl rfl ?_
  obtain ⟨bd_1, hp, h⟩ := h
  have hpI := hp.1
  obtain ⟨i9, hi9⟩ := tab_in (ct := ct) (g := g) (fx := fx) (tl := tl) (pS_lt hpI) hx_59
  refine j_callVi K (As := [.int x1, .int x2, .int x3]) (rest := [.int (100 : Int32)]) (pureM hG (ctT_worth hG hgc hp.1 hh1.tok hx_59 hp.2.1 hp.2.2.1 hp.2.2.2.1 hp.2.2.2.2)) (lw_V q614 q476 q477 q88 q478) (n := 3) (by decide +kernel) ⟨Nat.le_of_ble_eq_true rfl, Nat.le_of_ble_eq_true rfl⟩ i9 hi9 rfl rfl rfl rfl (Nat.le_of_ble_eq_true rfl) dX0_worthOf_65 (hh1.room0 hm1 hcl hsl) (fun r_2 _ hq => ?_)
  have hq : r_2 = (iI (wrb S.1.2.1 S.1.2.2.1 bd_1)) := hq
  subst hq
  refine j_iadd K dX0_worthOf_68 ?_
  refine j_goto K 74 dX0_worthOf_69 (by decide) ?_
  refine j_lv K [] (lv' := []) rfl ?_
  exact kX0_worthOf_74 K hr hgc  ((100 : Int32) + (iI (wrb S.1.2.1 S.1.2.2.1 bd_1))) S true cc sc h _ _ _ hh1 hm1 hcl hsl
theorem kX0_worthOf_43 {p : Program} {l : Launch} {e : Env} {s : State} {m : MethodId} {args : Array Value} {below : List Frame} {meth : Method} {c : Code} {A : Nat → Prop} {D : va_G} {ct : Nat → ClassId} {G : gE} {g : GP} {fx : Nat → Nat} {tl : va_W} {H : HB} {T0 : TB} {post : Int32 → CS → Prop} (K : CX p s m args meth c cX0_worthOf 5 RX0 A D ct G) (hr : meth.sig.returnType = (some .int)) (hgc : gHasC G g)   (x1 : Int32) (x2 : Int32) (x3 : Int32) (S : CS) (mk : Bool) (cc : Nat) (sc : Nat) (h : wX0_worthOf_43 H post  x1 x2 x3 S mk cc sc) : jM p l e s m args below meth c A D ct g fx tl 8 193 5 H T0 post S mk cc sc 43 [(0, .ref (fx 0)), (1, .int x1), (2, .int x2), (3, .int x3)] [] := by
  unfold wX0_worthOf_43 at h
  intro T kc ks hh hm hcl hsl
  have hG := K.2.2.2.2.2.2.2.2.2
  refine j_aload_n K 0 dX0_worthOf_43 rfl rfl ?_
  obtain ⟨hp, h⟩ := h
  refine j_callVq K (As := []) (rest := []) (ctX0_table hG hgc hp.1.1 hh.tok) (lw_V q369 q371 qs10 q70 q372) (n := 0) (by decide +kernel) ⟨Nat.le_of_ble_eq_true rfl, Nat.le_of_ble_eq_true rfl⟩ 0 rfl rfl rfl rfl rfl (Nat.le_of_ble_eq_true rfl) dX0_worthOf_44 (hh.roomT hm hp.2 hcl hsl) (fun r_44 u_44 hq => ?_)
  obtain ⟨Su44, Tu44⟩ := u_44
  obtain ⟨⟨hq0, tx_44, hx_44, hq⟩, he⟩ := hq
  have hq0 : S = Su44 := hq0.symm
  subst hq0
  have hx_44 : Tu44 (pS S) = some tx_44 := hx_44
  have hq : r_44 = some (tx_44.1 0) := hq
  subst hq
  have hh1 := hh.callT hp.2.2 he
  have hm1 : true = true → H.1 = true := fun _ => hp.2.1
  show jJ p l e _ s m args below meth c _ A D _ (CW ct g.2.1 fx S Tu44 tl) _ _ _ _ (.ref (tx_44.1 0) :: _)
  refine j_iload_n K 1 dX0_worthOf_47 rfl rfl ?_
  refine j_iload_n K 2 dX0_worthOf_48 rfl rfl ?_
  refine j_iload_n K 3 dX0_worthOf_49 rfl rfl ?_
  obtain ⟨bf_1, bs_2, bm_3, hp, h⟩ := h
  have hpI := hp.1
  obtain ⟨i9, hi9⟩ := tab_in (ct := ct) (g := g) (fx := fx) (tl := tl) (pS_lt hpI) hx_44
  refine j_callUi K (As := [.int x1, .int x2, .int x3]) (rest := []) (pureM hG (ctT_isLegal hG hgc hp.1 hh1.tok hx_44 hp.2.1 hp.2.2.1 hp.2.2.2.1 hp.2.2.2.2.1 hp.2.2.2.2.2.1 hp.2.2.2.2.2.2)) (x := ⟨"MorrisTables$Table", "isLegal", "(III)Z"⟩) (lw_U q664 q433 q435 q436 q87 q437) rfl (n := 3) (by decide +kernel) ⟨Nat.le_of_ble_eq_true rfl, Nat.le_of_ble_eq_true rfl⟩ i9 hi9 rfl rfl rfl rfl (Nat.le_of_ble_eq_true rfl) dX0_worthOf_50 (hh1.room0 hm1 hcl hsl) (fun r_4 _ hq => ?_)
  have hq : r_4 = (b2 (decide (bf_1 &&& bs_2 = 0) && legal S.1.2.1 bf_1 bs_2 bm_3)) := hq
  subst hq
  refine j_if_eq K 72 dX0_worthOf_53 (by decide) (fun hc => ?_) (fun hc => ?_)
  · refine j_lv K [] (lv' := []) rfl ?_
    exact kX0_worthOf_72 K hr hgc  S true cc sc (h.1 hc) _ _ _ hh1 hm1 hcl hsl
  · exact kX0_worthOf_56 K hr hgc  x1 x2 x3 S true cc sc (h.2 hc) _ _ _ hh1 hm1 hcl hsl
theorem kX0_worthOf_36 {p : Program} {l : Launch} {e : Env} {s : State} {m : MethodId} {args : Array Value} {below : List Frame} {meth : Method} {c : Code} {A : Nat → Prop} {D : va_G} {ct : Nat → ClassId} {G : gE} {g : GP} {fx : Nat → Nat} {tl : va_W} {H : HB} {T0 : TB} {post : Int32 → CS → Prop} (K : CX p s m args meth c cX0_worthOf 5 RX0 A D ct G) (hr : meth.sig.returnType = (some .int)) (hgc : gHasC G g)   (x1 : Int32) (x2 : Int32) (x3 : Int32) (s0 : Int32) (S : CS) (mk : Bool) (cc : Nat) (sc : Nat) (h : wX0_worthOf_36 H post  x1 x2 x3 s0 S mk cc sc) : jM p l e s m args below meth c A D ct g fx tl 8 193 5 H T0 post S mk cc sc 36 [(0, .ref (fx 0)), (1, .int x1), (2, .int x2), (3, .int x3)] [.int s0] := by
  unfold wX0_worthOf_36 at h
  intro T kc ks hh hm hcl hsl
  have hG := K.2.2.2.2.2.2.2.2.2
  refine j_istore K [(4, .int s0), (0, .ref (fx 0)), (1, .int x1), (2, .int x2), (3, .int x3)] dX0_worthOf_36 (by decide) rfl ?_
  refine j_iload K 0 dX0_worthOf_38 rfl ?_
  refine j_if_eq K 72 dX0_worthOf_40 (by decide) (fun hc => ?_) (fun hc => ?_)
  · refine j_lv K [] (lv' := []) rfl ?_
    exact kX0_worthOf_72 K hr hgc  S mk cc sc (h.1 hc) _ _ _ hh hm hcl hsl
  · refine j_lv K [1, 2, 3, 4] (lv' := [(0, .ref (fx 0)), (1, .int x1), (2, .int x2), (3, .int x3)]) rfl ?_
    exact kX0_worthOf_43 K hr hgc  x1 x2 x3 S mk cc sc (h.2 hc) _ _ _ hh hm hcl hsl
theorem kX0_worthOf_35 {p : Program} {l : Launch} {e : Env} {s : State} {m : MethodId} {args : Array Value} {below : List Frame} {meth : Method} {c : Code} {A : Nat → Prop} {D : va_G} {ct : Nat → ClassId} {G : gE} {g : GP} {fx : Nat → Nat} {tl : va_W} {H : HB} {T0 : TB} {post : Int32 → CS → Prop} (K : CX p s m args meth c cX0_worthOf 5 RX0 A D ct G) (hr : meth.sig.returnType = (some .int)) (hgc : gHasC G g)   (x1 : Int32) (x2 : Int32) (x3 : Int32) (S : CS) (mk : Bool) (cc : Nat) (sc : Nat) (h : wX0_worthOf_35 H post  x1 x2 x3 S mk cc sc) : jM p l e s m args below meth c A D ct g fx tl 8 193 5 H T0 post S mk cc sc 35 [(0, .ref (fx 0)), (1, .int x1), (2, .int x2), (3, .int x3)] [] := by
  unfold wX0_worthOf_35 at h
  intro T kc ks hh hm hcl hsl
  have hG := K.2.2.2.2.2.2.2.2.2
  refine j_iconst K (0 : Int32) dX0_worthOf_35 (by decide) ?_
  exact kX0_worthOf_36 K hr hgc  x1 x2 x3 (0 : Int32) S mk cc sc h _ _ _ hh hm hcl hsl
theorem kX0_worthOf_31 {p : Program} {l : Launch} {e : Env} {s : State} {m : MethodId} {args : Array Value} {below : List Frame} {meth : Method} {c : Code} {A : Nat → Prop} {D : va_G} {ct : Nat → ClassId} {G : gE} {g : GP} {fx : Nat → Nat} {tl : va_W} {H : HB} {T0 : TB} {post : Int32 → CS → Prop} (K : CX p s m args meth c cX0_worthOf 5 RX0 A D ct G) (hr : meth.sig.returnType = (some .int)) (hgc : gHasC G g)   (x1 : Int32) (x2 : Int32) (x3 : Int32) (S : CS) (mk : Bool) (cc : Nat) (sc : Nat) (h : wX0_worthOf_31 H post  x1 x2 x3 S mk cc sc) : jM p l e s m args below meth c A D ct g fx tl 8 193 5 H T0 post S mk cc sc 31 [(0, .ref (fx 0)), (1, .int x1), (2, .int x2), (3, .int x3)] [] := by
  unfold wX0_worthOf_31 at h
  intro T kc ks hh hm hcl hsl
  have hG := K.2.2.2.2.2.2.2.2.2
  refine j_iconst K (1 : Int32) dX0_worthOf_31 (by decide) ?_
  refine j_goto K 36 dX0_worthOf_32 (by decide) ?_
  exact kX0_worthOf_36 K hr hgc  x1 x2 x3 (1 : Int32) S mk cc sc h _ _ _ hh hm hcl hsl
theorem kX0_worthOf_22 {p : Program} {l : Launch} {e : Env} {s : State} {m : MethodId} {args : Array Value} {below : List Frame} {meth : Method} {c : Code} {A : Nat → Prop} {D : va_G} {ct : Nat → ClassId} {G : gE} {g : GP} {fx : Nat → Nat} {tl : va_W} {H : HB} {T0 : TB} {post : Int32 → CS → Prop} (K : CX p s m args meth c cX0_worthOf 5 RX0 A D ct G) (hr : meth.sig.returnType = (some .int)) (hgc : gHasC G g)   (x1 : Int32) (x2 : Int32) (x3 : Int32) (S : CS) (mk : Bool) (cc : Nat) (sc : Nat) (h : wX0_worthOf_22 H post  x1 x2 x3 S mk cc sc) : jM p l e s m args below meth c A D ct g fx tl 8 193 5 H T0 post S mk cc sc 22 [(0, .ref (fx 0)), (1, .int x1), (2, .int x2), (3, .int x3)] [] := by
  unfold wX0_worthOf_22 at h
  intro T kc ks hh hm hcl hsl
  have hG := K.2.2.2.2.2.2.2.2.2
  refine j_iload_n K 3 dX0_worthOf_22 rfl rfl ?_
  refine j_iconst K (0 : Int32) dX0_worthOf_23 (by decide) ?_
  refine j_iconst K (1 : Int32) dX0_worthOf_24 (by decide) ?_
  refine j_callSi K (As := [.int x3, .int (0 : Int32), .int (1 : Int32)]) (rest := []) (ctX0_isIn (l := l) (D := D) (ct := ct) (G := G) (ws := (CW ct g.2.1 fx S T tl)) hG x3 (0 : Int32) (1 : Int32)) (lw_S q283 q284 q70 q285) (n := 3) (by decide +kernel) ⟨Nat.le_of_ble_eq_true rfl, Nat.le_of_ble_eq_true rfl⟩ rfl rfl (Nat.le_of_ble_eq_true rfl) dX0_worthOf_25 (hh.room0 hm hcl hsl) (fun r_1 _ hq => ?_)
  replace h := h r_1 hq
  refine j_if_eq K 35 dX0_worthOf_28 (by decide) (fun hc => ?_) (fun hc => ?_)
  · exact kX0_worthOf_35 K hr hgc  x1 x2 x3 S mk cc sc (h.1 hc) _ _ _ hh hm hcl hsl
  · exact kX0_worthOf_31 K hr hgc  x1 x2 x3 S mk cc sc (h.2 hc) _ _ _ hh hm hcl hsl
theorem kX0_worthOf_11 {p : Program} {l : Launch} {e : Env} {s : State} {m : MethodId} {args : Array Value} {below : List Frame} {meth : Method} {c : Code} {A : Nat → Prop} {D : va_G} {ct : Nat → ClassId} {G : gE} {g : GP} {fx : Nat → Nat} {tl : va_W} {H : HB} {T0 : TB} {post : Int32 → CS → Prop} (K : CX p s m args meth c cX0_worthOf 5 RX0 A D ct G) (hr : meth.sig.returnType = (some .int)) (hgc : gHasC G g)   (x1 : Int32) (x2 : Int32) (x3 : Int32) (S : CS) (mk : Bool) (cc : Nat) (sc : Nat) (h : wX0_worthOf_11 H post  x1 x2 x3 S mk cc sc) : jM p l e s m args below meth c A D ct g fx tl 8 193 5 H T0 post S mk cc sc 11 [(0, .ref (fx 0)), (1, .int x1), (2, .int x2), (3, .int x3)] [] := by
  unfold wX0_worthOf_11 at h
  intro T kc ks hh hm hcl hsl
  have hG := K.2.2.2.2.2.2.2.2.2
  refine j_iload_n K 2 dX0_worthOf_11 rfl rfl ?_
  refine j_iconst K (0 : Int32) dX0_worthOf_12 (by decide) ?_
  refine j_sipush K (511 : Int32) dX0_worthOf_13 (by decide) ?_
  refine j_callSi K (As := [.int x2, .int (0 : Int32), .int (511 : Int32)]) (rest := []) (ctX0_isIn (l := l) (D := D) (ct := ct) (G := G) (ws := (CW ct g.2.1 fx S T tl)) hG x2 (0 : Int32) (511 : Int32)) (lw_S q283 q284 q70 q285) (n := 3) (by decide +kernel) ⟨Nat.le_of_ble_eq_true rfl, Nat.le_of_ble_eq_true rfl⟩ rfl rfl (Nat.le_of_ble_eq_true rfl) dX0_worthOf_16 (hh.room0 hm hcl hsl) (fun r_1 _ hq => ?_)
  replace h := h r_1 hq
  refine j_if_eq K 35 dX0_worthOf_19 (by decide) (fun hc => ?_) (fun hc => ?_)
  · exact kX0_worthOf_35 K hr hgc  x1 x2 x3 S mk cc sc (h.1 hc) _ _ _ hh hm hcl hsl
  · exact kX0_worthOf_22 K hr hgc  x1 x2 x3 S mk cc sc (h.2 hc) _ _ _ hh hm hcl hsl
theorem kX0_worthOf_0 {p : Program} {l : Launch} {e : Env} {s : State} {m : MethodId} {args : Array Value} {below : List Frame} {meth : Method} {c : Code} {A : Nat → Prop} {D : va_G} {ct : Nat → ClassId} {G : gE} {g : GP} {fx : Nat → Nat} {tl : va_W} {H : HB} {T0 : TB} {post : Int32 → CS → Prop} (K : CX p s m args meth c cX0_worthOf 5 RX0 A D ct G) (hr : meth.sig.returnType = (some .int)) (hgc : gHasC G g)   (x1 : Int32) (x2 : Int32) (x3 : Int32) (S : CS) (mk : Bool) (cc : Nat) (sc : Nat) (h : wX0_worthOf_0 H post  x1 x2 x3 S mk cc sc) : jM p l e s m args below meth c A D ct g fx tl 8 193 5 H T0 post S mk cc sc 0 [(0, .ref (fx 0)), (1, .int x1), (2, .int x2), (3, .int x3)] [] := by
  unfold wX0_worthOf_0 at h
  intro T kc ks hh hm hcl hsl
  have hG := K.2.2.2.2.2.2.2.2.2
  refine j_iload_n K 1 dX0_worthOf_0 rfl rfl ?_
  refine j_iconst K (0 : Int32) dX0_worthOf_1 (by decide) ?_
  refine j_sipush K (511 : Int32) dX0_worthOf_2 (by decide) ?_
  refine j_callSi K (As := [.int x1, .int (0 : Int32), .int (511 : Int32)]) (rest := []) (ctX0_isIn (l := l) (D := D) (ct := ct) (G := G) (ws := (CW ct g.2.1 fx S T tl)) hG x1 (0 : Int32) (511 : Int32)) (lw_S q283 q284 q70 q285) (n := 3) (by decide +kernel) ⟨Nat.le_of_ble_eq_true rfl, Nat.le_of_ble_eq_true rfl⟩ rfl rfl (Nat.le_of_ble_eq_true rfl) dX0_worthOf_5 (hh.room0 hm hcl hsl) (fun r_1 _ hq => ?_)
  replace h := h r_1 hq
  refine j_if_eq K 35 dX0_worthOf_8 (by decide) (fun hc => ?_) (fun hc => ?_)
  · exact kX0_worthOf_35 K hr hgc  x1 x2 x3 S mk cc sc (h.1 hc) _ _ _ hh hm hcl hsl
  · exact kX0_worthOf_11 K hr hgc  x1 x2 x3 S mk cc sc (h.2 hc) _ _ _ hh hm hcl hsl
theorem ctX0_worthOf {l : Launch} {D : va_G} {ct : Nat → ClassId} {G : gE} {g : GP} {fx : Nat → Nat} {tl : va_W} {S : CS} {T : TB} (hG : gOK G) (hgc : gHasC G g) (x1 : Int32) (x2 : Int32) (x3 : Int32) (hp : cOk S) (hT : tOK T) : mCi l D ct G g fx tl yX0_worthOf (ws_ yX0_worthOf cX0_worthOf 5 (some .int)) 8 193 [.ref (fx 0), .int x1, .int x2, .int x3] S T (wofB x1 x2 x3) 0 0 (fun r S' => r = sWof x1 x2 x3 (rep S) ∧ S' = S) := fun sz =>
  j_met (Qc := fun A => va_Qi (fun (r : Int32) (u : CS × TB) => (fun (r : Int32) (S' : CS) => r = sWof x1 x2 x3 (rep S) ∧ S' = S) r u.1 ∧ extB (wofB x1 x2 x3) (pS S) T u.2) (fun (u : CS × TB) => cB D ct A (CW ct g.2.1 fx u.1 u.2 tl)) A) (by decide) hG (Nat.le_of_ble_eq_true rfl) (fun p e s m args below meth c A K hr _ _ => kX0_worthOf_0 (H := ((wofB x1 x2 x3), pS S, 0, 0)) (T0 := T) (post := fun r S' => r = sWof x1 x2 x3 (rep S) ∧ S' = S) K hr hgc x1 x2 x3 S false 0 0 (vcX0_worthOf x1 x2 x3 hp) T 0 0 (hid.start hT) (fun z => (by cases z)) (Nat.zero_le _) (Nat.zero_le _))
