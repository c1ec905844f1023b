/-! WALK of MorrisTables, C: printed by gen_mainC.py -/
-- with(I)I
theorem kX0_with_44 {p : Program} {l : Launch} {e : Env} {s : State} {m : MethodId} {args : Array Value} {below : List Frame} {meth : Method} {c : Code} {A : Nat → Prop} {D : va_G} {ct : Nat → ClassId} {G : gE} {g : GP} {fx : Nat → Nat} {tl : va_W} {H : HB} {T0 : TB} {post : Int32 → CS → Prop} (K : CX p s m args meth c cX0_with 4 RX0 A D ct G) (hr : meth.sig.returnType = (some .int)) (hgc : gHasC G g)   (x2 : Int32) (S : CS) (mk : Bool) (cc : Nat) (sc : Nat) (h : wX0_with_44 H post  x2 S mk cc sc) : jM p l e s m args below meth c A D ct g fx tl 8 193 4 H T0 post S mk cc sc 44 [(2, .int x2)] [] := by
  unfold wX0_with_44 at h
  intro T kc ks hh hm hcl hsl
  have hG := K.2.2.2.2.2.2.2.2.2
  refine j_iload_n K 0 dX0_with_44 rfl rfl ?_
  exact m_iret K hr hh hm hcl hsl h dX0_with_45
theorem kX0_with_36 {p : Program} {l : Launch} {e : Env} {s : State} {m : MethodId} {args : Array Value} {below : List Frame} {meth : Method} {c : Code} {A : Nat → Prop} {D : va_G} {ct : Nat → ClassId} {G : gE} {g : GP} {fx : Nat → Nat} {tl : va_W} {H : HB} {T0 : TB} {post : Int32 → CS → Prop} (K : CX p s m args meth c cX0_with 4 RX0 A D ct G) (hr : meth.sig.returnType = (some .int)) (hgc : gHasC G g) (L4 : Int32 → Int32 → Int32 → CS → Bool → Nat → Nat → Prop) (hL4 : ∀ (x1 : Int32) (x2 : Int32) (x3 : Int32) (S : CS) (mk : Bool) (cc : Nat) (sc : Nat), L4 x1 x2 x3 S mk cc sc → jM p l e s m args below meth c A D ct g fx tl 8 193 4 H T0 post S mk cc sc 4 [(0, .ref (fx 0)), (1, .int x1), (2, .int x2), (3, .int x3)] []) (x1 : Int32) (x3 : Int32) (s0 : Int32) (s1 : Int32) (S : CS) (mk : Bool) (cc : Nat) (sc : Nat) (h : wX0_with_36 H post L4 x1 x3 s0 s1 S mk cc sc) : jM p l e s m args below meth c A D ct g fx tl 8 193 4 H T0 post S mk cc sc 36 [(0, .ref (fx 0)), (1, .int x1), (3, .int x3)] [.int s1, .int s0] := by
  unfold wX0_with_36 at h
  intro T kc ks hh hm hcl hsl
  have hG := K.2.2.2.2.2.2.2.2.2
  refine j_iadd K dX0_with_36 ?_
  refine j_istore_n K [(2, .int (s0 + s1)), (0, .ref (fx 0)), (1, .int x1), (3, .int x3)] dX0_with_37 rfl (by decide) rfl ?_
  refine j_iinc K 3 (x3 + (1 : Int32)) [(3, .int (x3 + (1 : Int32))), (2, .int (s0 + s1)), (0, .ref (fx 0)), (1, .int x1)] dX0_with_38 rfl rfl (by decide) rfl ?_
  refine j_goto K 4 dX0_with_41 (by decide) ?_
  refine j_lv K [2, 3, 1, 0] (lv' := [(0, .ref (fx 0)), (1, .int x1), (2, .int (s0 + s1)), (3, .int (x3 + (1 : Int32)))]) rfl ?_
  exact hL4 x1 (s0 + s1) (x3 + (1 : Int32)) S mk cc sc h _ _ _ hh hm hcl hsl
theorem kX0_with_35 {p : Program} {l : Launch} {e : Env} {s : State} {m : MethodId} {args : Array Value} {below : List Frame} {meth : Method} {c : Code} {A : Nat → Prop} {D : va_G} {ct : Nat → ClassId} {G : gE} {g : GP} {fx : Nat → Nat} {tl : va_W} {H : HB} {T0 : TB} {post : Int32 → CS → Prop} (K : CX p s m args meth c cX0_with 4 RX0 A D ct G) (hr : meth.sig.returnType = (some .int)) (hgc : gHasC G g) (L4 : Int32 → Int32 → Int32 → CS → Bool → Nat → Nat → Prop) (hL4 : ∀ (x1 : Int32) (x2 : Int32) (x3 : Int32) (S : CS) (mk : Bool) (cc : Nat) (sc : Nat), L4 x1 x2 x3 S mk cc sc → jM p l e s m args below meth c A D ct g fx tl 8 193 4 H T0 post S mk cc sc 4 [(0, .ref (fx 0)), (1, .int x1), (2, .int x2), (3, .int x3)] []) (x1 : Int32) (x3 : Int32) (s0 : Int32) (S : CS) (mk : Bool) (cc : Nat) (sc : Nat) (h : wX0_with_35 H post L4 x1 x3 s0 S mk cc sc) : jM p l e s m args below meth c A D ct g fx tl 8 193 4 H T0 post S mk cc sc 35 [(0, .ref (fx 0)), (1, .int x1), (3, .int x3)] [.int s0] := by
  unfold wX0_with_35 at h
  intro T kc ks hh hm hcl hsl
  have hG := K.2.2.2.2.2.2.2.2.2
  refine j_iconst K (0 : Int32) dX0_with_35 (by decide) ?_
  exact kX0_with_36 K hr hgc L4 hL4 x1 x3 s0 (0 : Int32) S mk cc sc h _ _ _ hh hm hcl hsl
theorem kX0_with_31 {p : Program} {l : Launch} {e : Env} {s : State} {m : MethodId} {args : Array Value} {below : List Frame} {meth : Method} {c : Code} {A : Nat → Prop} {D : va_G} {ct : Nat → ClassId} {G : gE} {g : GP} {fx : Nat → Nat} {tl : va_W} {H : HB} {T0 : TB} {post : Int32 → CS → Prop} (K : CX p s m args meth c cX0_with 4 RX0 A D ct G) (hr : meth.sig.returnType = (some .int)) (hgc : gHasC G g) (L4 : Int32 → Int32 → Int32 → CS → Bool → Nat → Nat → Prop) (hL4 : ∀ (x1 : Int32) (x2 : Int32) (x3 : Int32) (S : CS) (mk : Bool) (cc : Nat) (sc : Nat), L4 x1 x2 x3 S mk cc sc → jM p l e s m args below meth c A D ct g fx tl 8 193 4 H T0 post S mk cc sc 4 [(0, .ref (fx 0)), (1, .int x1), (2, .int x2), (3, .int x3)] []) (x1 : Int32) (x3 : Int32) (s0 : Int32) (S : CS) (mk : Bool) (cc : Nat) (sc : Nat) (h : wX0_with_31 H post L4 x1 x3 s0 S mk cc sc) : jM p l e s m args below meth c A D ct g fx tl 8 193 4 H T0 post S mk cc sc 31 [(0, .ref (fx 0)), (1, .int x1), (3, .int x3)] [.int s0] := by
  unfold wX0_with_31 at h
  intro T kc ks hh hm hcl hsl
  have hG := K.2.2.2.2.2.2.2.2.2
  refine j_iconst K (1 : Int32) dX0_with_31 (by decide) ?_
  refine j_goto K 36 dX0_with_32 (by decide) ?_
  exact kX0_with_36 K hr hgc L4 hL4 x1 x3 s0 (1 : Int32) S mk cc sc h _ _ _ hh hm hcl hsl
theorem kX0_with_15 {p : Program} {l : Launch} {e : Env} {s : State} {m : MethodId} {args : Array Value} {below : List Frame} {meth : Method} {c : Code} {A : Nat → Prop} {D : va_G} {ct : Nat → ClassId} {G : gE} {g : GP} {fx : Nat → Nat} {tl : va_W} {H : HB} {T0 : TB} {post : Int32 → CS → Prop} (K : CX p s m args meth c cX0_with 4 RX0 A D ct G) (hr : meth.sig.returnType = (some .int)) (hgc : gHasC G g) (L4 : Int32 → Int32 → Int32 → CS → Bool → Nat → Nat → Prop) (hL4 : ∀ (x1 : Int32) (x2 : Int32) (x3 : Int32) (S : CS) (mk : Bool) (cc : Nat) (sc : Nat), L4 x1 x2 x3 S mk cc sc → jM p l e s m args below meth c A D ct g fx tl 8 193 4 H T0 post S mk cc sc 4 [(0, .ref (fx 0)), (1, .int x1), (2, .int x2), (3, .int x3)] []) (x1 : Int32) (x2 : Int32) (x3 : Int32) (S : CS) (mk : Bool) (cc : Nat) (sc : Nat) (h : wX0_with_15 H post L4 x1 x2 x3 S mk cc sc) : jM p l e s m args below meth c A D ct g fx tl 8 193 4 H T0 post S mk cc sc 15 [(0, .ref (fx 0)), (1, .int x1), (2, .int x2), (3, .int x3)] [] := by
  unfold wX0_with_15 at h
  intro T kc ks hh hm hcl hsl
  have hG := K.2.2.2.2.2.2.2.2.2
  refine j_iload_n K 2 dX0_with_15 rfl rfl ?_
  refine j_aload_n K 0 dX0_with_16 rfl rfl ?_
  obtain ⟨hp, h⟩ := h
  refine j_callVq K (As := []) (rest := [.int x2]) (ctX0_table hG hgc hp.1.1 hh.tok) (lw_V q369 q371 qs10 q70 q372) (n := 0) (by decide +kernel) ⟨Nat.le_of_ble_eq_true rfl, Nat.le_of_ble_eq_true rfl⟩ 0 rfl rfl rfl rfl rfl (Nat.le_of_ble_eq_true rfl) dX0_with_17 (hh.roomT hm hp.2 hcl hsl) (fun r_17 u_17 hq => ?_)
  obtain ⟨Su17, Tu17⟩ := u_17
  obtain ⟨⟨hq0, tx_17, hx_17, hq⟩, he⟩ := hq
  have hq0 : S = Su17 := hq0.symm
  subst hq0
  have hx_17 : Tu17 (pS S) = some tx_17 := hx_17
  have hq : r_17 = some (tx_17.1 0) := hq
  subst hq
  have hh1 := hh.callT hp.2.2 he
  have hm1 : true = true → H.1 = true := fun _ => hp.2.1
  show jJ p l e _ s m args below meth c _ A D _ (CW ct g.2.1 fx S Tu17 tl) _ _ _ _ (.ref (tx_17.1 0) :: _)
  refine j_iload_n K 3 dX0_with_20 rfl rfl ?_
  obtain ⟨bk_1, bd_2, hp, h⟩ := h
  have hpI := hp.1
  obtain ⟨i9, hi9⟩ := tab_in (ct := ct) (g := g) (fx := fx) (tl := tl) (pS_lt hpI) hx_17
  refine j_callVi K (As := [.int x3]) (rest := [.int x2]) (pureM hG (ctT_worthAt hG hgc hp.1 hh1.tok hx_17 hp.2.1 hp.2.2)) (lw_V q673 q674 q675 q88 q676) (n := 1) (by decide +kernel) ⟨Nat.le_of_ble_eq_true rfl, Nat.le_of_ble_eq_true rfl⟩ i9 hi9 rfl rfl rfl rfl (Nat.le_of_ble_eq_true rfl) dX0_with_21 (hh1.room0 hm1 hcl hsl) (fun r_3 _ hq => ?_)
  have hq : r_3 = (iI (wrb S.1.2.1 S.1.2.2.1 bd_2)) := hq
  subst hq
  refine j_callSi K (As := [.int (iI (wrb S.1.2.1 S.1.2.2.1 bd_2))]) (rest := [.int x2]) (ctJ12_signum (l := l) (D := D) (ct := ct) (G := G) (ws := (CW ct g.2.1 fx S Tu17 tl)) hG (iI (wrb S.1.2.1 S.1.2.2.1 bd_2))) (lw_S q677 q678 q90 q679) (n := 1) (by decide +kernel) ⟨Nat.le_of_ble_eq_true rfl, Nat.le_of_ble_eq_true rfl⟩ rfl rfl (Nat.le_of_ble_eq_true rfl) dX0_with_24 (hh1.room0 hm1 hcl hsl) (fun r_4 _ hq => ?_)
  replace h := h r_4 hq
  refine j_iload_n K 1 dX0_with_27 rfl rfl ?_
  refine j_icmp_ne K 35 dX0_with_28 (by decide) (fun hc => ?_) (fun hc => ?_)
  · refine j_lv K [0, 1, 3] (lv' := [(0, .ref (fx 0)), (1, .int x1), (3, .int x3)]) rfl ?_
    exact kX0_with_35 K hr hgc L4 hL4 x1 x3 x2 S true cc sc (h.1 hc) _ _ _ hh1 hm1 hcl hsl
  · refine j_lv K [0, 1, 3] (lv' := [(0, .ref (fx 0)), (1, .int x1), (3, .int x3)]) rfl ?_
    exact kX0_with_31 K hr hgc L4 hL4 x1 x3 x2 S true cc sc (h.2 hc) _ _ _ hh1 hm1 hcl hsl
theorem kX0_with_4_b {p : Program} {l : Launch} {e : Env} {s : State} {m : MethodId} {args : Array Value} {below : List Frame} {meth : Method} {c : Code} {A : Nat → Prop} {D : va_G} {ct : Nat → ClassId} {G : gE} {g : GP} {fx : Nat → Nat} {tl : va_W} {H : HB} {T0 : TB} {post : Int32 → CS → Prop} (K : CX p s m args meth c cX0_with 4 RX0 A D ct G) (hr : meth.sig.returnType = (some .int)) (hgc : gHasC G g) (L4 : Int32 → Int32 → Int32 → CS → Bool → Nat → Nat → Prop) (hL4 : ∀ (x1 : Int32) (x2 : Int32) (x3 : Int32) (S : CS) (mk : Bool) (cc : Nat) (sc : Nat), L4 x1 x2 x3 S mk cc sc → jM p l e s m args below meth c A D ct g fx tl 8 193 4 H T0 post S mk cc sc 4 [(0, .ref (fx 0)), (1, .int x1), (2, .int x2), (3, .int x3)] []) (x1 : Int32) (x2 : Int32) (x3 : Int32) (S : CS) (mk : Bool) (cc : Nat) (sc : Nat) (h : wX0_with_4_b H post L4 x1 x2 x3 S mk cc sc) : jM p l e s m args below meth c A D ct g fx tl 8 193 4 H T0 post S mk cc sc 4 [(0, .ref (fx 0)), (1, .int x1), (2, .int x2), (3, .int x3)] [] := by
  unfold wX0_with_4_b at h
  intro T kc ks hh hm hcl hsl
  have hG := K.2.2.2.2.2.2.2.2.2
  refine j_iload_n K 3 dX0_with_4 rfl rfl ?_
  refine j_aload_n K 0 dX0_with_5 rfl rfl ?_
  obtain ⟨hp, h⟩ := h
  refine j_callVq K (As := []) (rest := [.int x3]) (ctX0_table hG hgc hp.1.1 hh.tok) (lw_V q369 q371 qs10 q70 q372) (n := 0) (by decide +kernel) ⟨Nat.le_of_ble_eq_true rfl, Nat.le_of_ble_eq_true rfl⟩ 0 rfl rfl rfl rfl rfl (Nat.le_of_ble_eq_true rfl) dX0_with_6 (hh.roomT hm hp.2 hcl hsl) (fun r_6 u_6 hq => ?_)
  obtain ⟨Su6, Tu6⟩ := u_6
  obtain ⟨⟨hq0, tx_6, hx_6, hq⟩, he⟩ := hq
  have hq0 : S = Su6 := hq0.symm
  subst hq0
  have hx_6 : Tu6 (pS S) = some tx_6 := hx_6
  have hq : r_6 = some (tx_6.1 0) := hq
  subst hq
  have hh1 := hh.callT hp.2.2 he
  have hm1 : true = true → H.1 = true := fun _ => hp.2.1
  show jJ p l e _ s m args below meth c _ A D _ (CW ct g.2.1 fx S Tu6 tl) _ _ _ _ (.ref (tx_6.1 0) :: _)
  obtain ⟨hp, h⟩ := h
  obtain ⟨i9, hi9⟩ := tab_in (ct := ct) (g := g) (fx := fx) (tl := tl) (pS_lt hp) hx_6
  refine j_getN K in_X5 i9 hi9 rfl 6 (by decide) (K.fn hgc 4 rfl) rfl rfl dX0_with_9 ?_
  rw [show tx_6.2.2 2 = nI (LB S.1.2.1).length from (tfOf hp hh1.tok hx_6).2.2.1.1]
  refine j_icmp_ge K 44 dX0_with_12 (by decide) (fun hc => ?_) (fun hc => ?_)
  · refine j_lv K [2] (lv' := [(2, .int x2)]) rfl ?_
    exact kX0_with_44 K hr hgc  x2 S true cc sc (h.1 hc) _ _ _ hh1 hm1 hcl hsl
  · exact kX0_with_15 K hr hgc L4 hL4 x1 x2 x3 S true cc sc (h.2 hc) _ _ _ hh1 hm1 hcl hsl
theorem kX0_with_4 {p : Program} {l : Launch} {e : Env} {s : State} {m : MethodId} {args : Array Value} {below : List Frame} {meth : Method} {c : Code} {A : Nat → Prop} {D : va_G} {ct : Nat → ClassId} {G : gE} {g : GP} {fx : Nat → Nat} {tl : va_W} {H : HB} {T0 : TB} {post : Int32 → CS → Prop} (K : CX p s m args meth c cX0_with 4 RX0 A D ct G) (hr : meth.sig.returnType = (some .int)) (hgc : gHasC G g)   (x1 : Int32) (x2 : Int32) (x3 : Int32) (S : CS) (mk : Bool) (cc : Nat) (sc : Nat) (h : wX0_with_4 H post  x1 x2 x3 S mk cc sc) : jM p l e s m args below meth c A D ct g fx tl 8 193 4 H T0 post S mk cc sc 4 [(0, .ref (fx 0)), (1, .int x1), (2, .int x2), (3, .int x3)] [] :=
  wloop_sound (V := Int32 × Int32 × Int32 × CS × Bool × Nat × Nat) (Wk := fun v => jM p l e s m args below meth c A D ct g fx tl 8 193 4 H T0 post v.2.2.2.1 v.2.2.2.2.1 v.2.2.2.2.2.1 v.2.2.2.2.2.2 4 [(0, .ref (fx 0)), (1, .int v.1), (2, .int v.2.1), (3, .int v.2.2.1)] []) (fun L hL v hb => kX0_with_4_b K hr hgc (fun x1 x2 x3 S mk cc sc => L (x1, x2, x3, S, mk, cc, sc)) (fun x1 x2 x3 S mk cc sc hx => hL (x1, x2, x3, S, mk, cc, sc) hx) v.1 v.2.1 v.2.2.1 v.2.2.2.1 v.2.2.2.2.1 v.2.2.2.2.2.1 v.2.2.2.2.2.2 hb) h
theorem kX0_with_0 {p : Program} {l : Launch} {e : Env} {s : State} {m : MethodId} {args : Array Value} {below : List Frame} {meth : Method} {c : Code} {A : Nat → Prop} {D : va_G} {ct : Nat → ClassId} {G : gE} {g : GP} {fx : Nat → Nat} {tl : va_W} {H : HB} {T0 : TB} {post : Int32 → CS → Prop} (K : CX p s m args meth c cX0_with 4 RX0 A D ct G) (hr : meth.sig.returnType = (some .int)) (hgc : gHasC G g)   (x1 : Int32) (S : CS) (mk : Bool) (cc : Nat) (sc : Nat) (h : wX0_with_0 H post  x1 S mk cc sc) : jM p l e s m args below meth c A D ct g fx tl 8 193 4 H T0 post S mk cc sc 0 [(0, .ref (fx 0)), (1, .int x1)] [] := by
  unfold wX0_with_0 at h
  intro T kc ks hh hm hcl hsl
  have hG := K.2.2.2.2.2.2.2.2.2
  refine j_iconst K (0 : Int32) dX0_with_0 (by decide) ?_
  refine j_istore_n K [(2, .int (0 : Int32)), (0, .ref (fx 0)), (1, .int x1)] dX0_with_1 rfl (by decide) rfl ?_
  refine j_iconst K (0 : Int32) dX0_with_2 (by decide) ?_
  refine j_istore_n K [(3, .int (0 : Int32)), (2, .int (0 : Int32)), (0, .ref (fx 0)), (1, .int x1)] dX0_with_3 rfl (by decide) rfl ?_
  refine j_lv K [2, 3, 1, 0] (lv' := [(0, .ref (fx 0)), (1, .int x1), (2, .int (0 : Int32)), (3, .int (0 : Int32))]) rfl ?_
  exact kX0_with_4 K hr hgc  x1 (0 : Int32) (0 : Int32) S mk cc sc h _ _ _ hh hm hcl hsl
theorem ctX0_with {l : Launch} {D : va_G} {ct : Nat → ClassId} {G : gE} {g : GP} {fx : Nat → Nat} {tl : va_W} {S : CS} {T : TB} (hG : gOK G) (hgc : gHasC G g) (x1 : Int32) (hp : cOk S) (hT : tOK T) : mCi l D ct G g fx tl yX0_with (ws_ yX0_with cX0_with 4 (some .int)) 8 193 [.ref (fx 0), .int x1] S T true 0 0 (fun r S' => r = withX S.1.2.1 S.1.2.2.1 x1 ∧ S' = S) := fun sz =>
  j_met (Qc := fun A => va_Qi (fun (r : Int32) (u : CS × TB) => (fun (r : Int32) (S' : CS) => r = withX S.1.2.1 S.1.2.2.1 x1 ∧ S' = S) r u.1 ∧ extB true (pS S) T u.2) (fun (u : CS × TB) => cB D ct A (CW ct g.2.1 fx u.1 u.2 tl)) A) (by decide) hG (Nat.le_of_ble_eq_true rfl) (fun p e s m args below meth c A K hr _ _ => kX0_with_0 (H := (true, pS S, 0, 0)) (T0 := T) (post := fun r S' => r = withX S.1.2.1 S.1.2.2.1 x1 ∧ S' = S) K hr hgc x1 S false 0 0 (vcX0_with x1 hp) T 0 0 (hid.start hT) (fun z => (by cases z)) (Nat.zero_le _) (Nat.zero_le _))
-- longest(Z)I
theorem kX0_longest_49 {p : Program} {l : Launch} {e : Env} {s : State} {m : MethodId} {args : Array Value} {below : List Frame} {meth : Method} {c : Code} {A : Nat → Prop} {D : va_G} {ct : Nat → ClassId} {G : gE} {g : GP} {fx : Nat → Nat} {tl : va_W} {H : HB} {T0 : TB} {post : Int32 → CS → Prop} (K : CX p s m args meth c cX0_longest 5 RX0 A D ct G) (hr : meth.sig.returnType = (some .int)) (hgc : gHasC G g)   (x2 : Int32) (S : CS) (mk : Bool) (cc : Nat) (sc : Nat) (h : wX0_longest_49 H post  x2 S mk cc sc) : jM p l e s m args below meth c A D ct g fx tl 8 193 5 H T0 post S mk cc sc 49 [(2, .int x2)] [] := by
  unfold wX0_longest_49 at h
  intro T kc ks hh hm hcl hsl
  have hG := K.2.2.2.2.2.2.2.2.2
  refine j_iload_n K 0 dX0_longest_49 rfl rfl ?_
  exact m_iret K hr hh hm hcl hsl h dX0_longest_50
theorem kX0_longest_39 {p : Program} {l : Launch} {e : Env} {s : State} {m : MethodId} {args : Array Value} {below : List Frame} {meth : Method} {c : Code} {A : Nat → Prop} {D : va_G} {ct : Nat → ClassId} {G : gE} {g : GP} {fx : Nat → Nat} {tl : va_W} {H : HB} {T0 : TB} {post : Int32 → CS → Prop} (K : CX p s m args meth c cX0_longest 5 RX0 A D ct G) (hr : meth.sig.returnType = (some .int)) (hgc : gHasC G g) (L4 : Int32 → Int32 → Int32 → CS → Bool → Nat → Nat → Prop) (hL4 : ∀ (x1 : Int32) (x2 : Int32) (x3 : Int32) (S : CS) (mk : Bool) (cc : Nat) (sc : Nat), L4 x1 x2 x3 S mk cc sc → jM p l e s m args below meth c A D ct g fx tl 8 193 5 H T0 post S mk cc sc 4 [(0, .ref (fx 0)), (1, .int x1), (2, .int x2), (3, .int x3)] []) (x1 : Int32) (x3 : Int32) (s0 : Int32) (s1 : Int32) (S : CS) (mk : Bool) (cc : Nat) (sc : Nat) (h : wX0_longest_39 H post L4 x1 x3 s0 s1 S mk cc sc) : jM p l e s m args below meth c A D ct g fx tl 8 193 5 H T0 post S mk cc sc 39 [(0, .ref (fx 0)), (1, .int x1), (3, .int x3)] [.int s1, .int s0] := by
  unfold wX0_longest_39 at h
  intro T kc ks hh hm hcl hsl
  have hG := K.2.2.2.2.2.2.2.2.2
  refine j_callSi K (As := [.int s0, .int s1]) (rest := []) (ctJ4_max (l := l) (D := D) (ct := ct) (G := G) (ws := (CW ct g.2.1 fx S T tl)) hG s0 s1) (lw_S q684 q161 q76 q162) (n := 2) (by decide +kernel) ⟨Nat.le_of_ble_eq_true rfl, Nat.le_of_ble_eq_true rfl⟩ rfl rfl (Nat.le_of_ble_eq_true rfl) dX0_longest_39 (hh.room0 hm hcl hsl) (fun r_1 _ hq => ?_)
  replace h := h r_1 hq
  refine j_istore_n K [(2, .int r_1), (0, .ref (fx 0)), (1, .int x1), (3, .int x3)] dX0_longest_42 rfl (by decide) rfl ?_
  refine j_iinc K 3 (x3 + (1 : Int32)) [(3, .int (x3 + (1 : Int32))), (2, .int r_1), (0, .ref (fx 0)), (1, .int x1)] dX0_longest_43 rfl rfl (by decide) rfl ?_
  refine j_goto K 4 dX0_longest_46 (by decide) ?_
  refine j_lv K [2, 3, 1, 0] (lv' := [(0, .ref (fx 0)), (1, .int x1), (2, .int r_1), (3, .int (x3 + (1 : Int32)))]) rfl ?_
  exact hL4 x1 r_1 (x3 + (1 : Int32)) S mk cc sc h _ _ _ hh hm hcl hsl
theorem kX0_longest_35 {p : Program} {l : Launch} {e : Env} {s : State} {m : MethodId} {args : Array Value} {below : List Frame} {meth : Method} {c : Code} {A : Nat → Prop} {D : va_G} {ct : Nat → ClassId} {G : gE} {g : GP} {fx : Nat → Nat} {tl : va_W} {H : HB} {T0 : TB} {post : Int32 → CS → Prop} (K : CX p s m args meth c cX0_longest 5 RX0 A D ct G) (hr : meth.sig.returnType = (some .int)) (hgc : gHasC G g) (L4 : Int32 → Int32 → Int32 → CS → Bool → Nat → Nat → Prop) (hL4 : ∀ (x1 : Int32) (x2 : Int32) (x3 : Int32) (S : CS) (mk : Bool) (cc : Nat) (sc : Nat), L4 x1 x2 x3 S mk cc sc → jM p l e s m args below meth c A D ct g fx tl 8 193 5 H T0 post S mk cc sc 4 [(0, .ref (fx 0)), (1, .int x1), (2, .int x2), (3, .int x3)] []) (x1 : Int32) (x3 : Int32) (x4 : Int32) (s0 : Int32) (S : CS) (mk : Bool) (cc : Nat) (sc : Nat) (h : wX0_longest_35 H post L4 x1 x3 x4 s0 S mk cc sc) : jM p l e s m args below meth c A D ct g fx tl 8 193 5 H T0 post S mk cc sc 35 [(0, .ref (fx 0)), (1, .int x1), (3, .int x3), (4, .int x4)] [.int s0] := by
  unfold wX0_longest_35 at h
  intro T kc ks hh hm hcl hsl
  have hG := K.2.2.2.2.2.2.2.2.2
  refine j_iconst K (-1 : Int32) dX0_longest_35 (by decide) ?_
  refine j_iload K 3 dX0_longest_36 rfl ?_
  refine j_isub K dX0_longest_38 ?_
  refine j_lv K [0, 1, 2] (lv' := [(0, .ref (fx 0)), (1, .int x1), (3, .int x3)]) rfl ?_
  exact kX0_longest_39 K hr hgc L4 hL4 x1 x3 s0 ((-1 : Int32) - x4) S mk cc sc h _ _ _ hh hm hcl hsl
theorem kX0_longest_30 {p : Program} {l : Launch} {e : Env} {s : State} {m : MethodId} {args : Array Value} {below : List Frame} {meth : Method} {c : Code} {A : Nat → Prop} {D : va_G} {ct : Nat → ClassId} {G : gE} {g : GP} {fx : Nat → Nat} {tl : va_W} {H : HB} {T0 : TB} {post : Int32 → CS → Prop} (K : CX p s m args meth c cX0_longest 5 RX0 A D ct G) (hr : meth.sig.returnType = (some .int)) (hgc : gHasC G g) (L4 : Int32 → Int32 → Int32 → CS → Bool → Nat → Nat → Prop) (hL4 : ∀ (x1 : Int32) (x2 : Int32) (x3 : Int32) (S : CS) (mk : Bool) (cc : Nat) (sc : Nat), L4 x1 x2 x3 S mk cc sc → jM p l e s m args below meth c A D ct g fx tl 8 193 5 H T0 post S mk cc sc 4 [(0, .ref (fx 0)), (1, .int x1), (2, .int x2), (3, .int x3)] []) (x1 : Int32) (x3 : Int32) (x4 : Int32) (s0 : Int32) (S : CS) (mk : Bool) (cc : Nat) (sc : Nat) (h : wX0_longest_30 H post L4 x1 x3 x4 s0 S mk cc sc) : jM p l e s m args below meth c A D ct g fx tl 8 193 5 H T0 post S mk cc sc 30 [(0, .ref (fx 0)), (1, .int x1), (3, .int x3), (4, .int x4)] [.int s0] := by
  unfold wX0_longest_30 at h
  intro T kc ks hh hm hcl hsl
  have hG := K.2.2.2.2.2.2.2.2.2
  refine j_iload K 3 dX0_longest_30 rfl ?_
  refine j_goto K 39 dX0_longest_32 (by decide) ?_
  refine j_lv K [0, 1, 2] (lv' := [(0, .ref (fx 0)), (1, .int x1), (3, .int x3)]) rfl ?_
  exact kX0_longest_39 K hr hgc L4 hL4 x1 x3 s0 x4 S mk cc sc h _ _ _ hh hm hcl hsl
theorem kX0_longest_15 {p : Program} {l : Launch} {e : Env} {s : State} {m : MethodId} {args : Array Value} {below : List Frame} {meth : Method} {c : Code} {A : Nat → Prop} {D : va_G} {ct : Nat → ClassId} {G : gE} {g : GP} {fx : Nat → Nat} {tl : va_W} {H : HB} {T0 : TB} {post : Int32 → CS → Prop} (K : CX p s m args meth c cX0_longest 5 RX0 A D ct G) (hr : meth.sig.returnType = (some .int)) (hgc : gHasC G g) (L4 : Int32 → Int32 → Int32 → CS → Bool → Nat → Nat → Prop) (hL4 : ∀ (x1 : Int32) (x2 : Int32) (x3 : Int32) (S : CS) (mk : Bool) (cc : Nat) (sc : Nat), L4 x1 x2 x3 S mk cc sc → jM p l e s m args below meth c A D ct g fx tl 8 193 5 H T0 post S mk cc sc 4 [(0, .ref (fx 0)), (1, .int x1), (2, .int x2), (3, .int x3)] []) (x1 : Int32) (x2 : Int32) (x3 : Int32) (S : CS) (mk : Bool) (cc : Nat) (sc : Nat) (h : wX0_longest_15 H post L4 x1 x2 x3 S mk cc sc) : jM p l e s m args below meth c A D ct g fx tl 8 193 5 H T0 post S mk cc sc 15 [(0, .ref (fx 0)), (1, .int x1), (2, .int x2), (3, .int x3)] [] := by
  unfold wX0_longest_15 at h
  intro T kc ks hh hm hcl hsl
  have hG := K.2.2.2.2.2.2.2.2.2
  refine j_aload_n K 0 dX0_longest_15 rfl rfl ?_
  obtain ⟨hp, h⟩ := h
  refine j_callVq K (As := []) (rest := []) (ctX0_table hG hgc hp.1.1 hh.tok) (lw_V q369 q371 qs10 q70 q372) (n := 0) (by decide +kernel) ⟨Nat.le_of_ble_eq_true rfl, Nat.le_of_ble_eq_true rfl⟩ 0 rfl rfl rfl rfl rfl (Nat.le_of_ble_eq_true rfl) dX0_longest_16 (hh.roomT hm hp.2 hcl hsl) (fun r_16 u_16 hq => ?_)
  obtain ⟨Su16, Tu16⟩ := u_16
  obtain ⟨⟨hq0, tx_16, hx_16, hq⟩, he⟩ := hq
  have hq0 : S = Su16 := hq0.symm
  subst hq0
  have hx_16 : Tu16 (pS S) = some tx_16 := hx_16
  have hq : r_16 = some (tx_16.1 0) := hq
  subst hq
  have hh1 := hh.callT hp.2.2 he
  have hm1 : true = true → H.1 = true := fun _ => hp.2.1
  show jJ p l e _ s m args below meth c _ A D _ (CW ct g.2.1 fx S Tu16 tl) _ _ _ _ (.ref (tx_16.1 0) :: _)
  refine j_iload_n K 3 dX0_longest_19 rfl rfl ?_
  obtain ⟨bk_1, bd_2, hp, h⟩ := h
  have hpI := hp.1
  obtain ⟨i9, hi9⟩ := tab_in (ct := ct) (g := g) (fx := fx) (tl := tl) (pS_lt hpI) hx_16
  refine j_callVi K (As := [.int x3]) (rest := []) (pureM hG (ctT_worthAt hG hgc hp.1 hh1.tok hx_16 hp.2.1 hp.2.2)) (lw_V q673 q674 q675 q88 q676) (n := 1) (by decide +kernel) ⟨Nat.le_of_ble_eq_true rfl, Nat.le_of_ble_eq_true rfl⟩ i9 hi9 rfl rfl rfl rfl (Nat.le_of_ble_eq_true rfl) dX0_longest_20 (hh1.room0 hm1 hcl hsl) (fun r_3 _ hq => ?_)
  have hq : r_3 = (iI (wrb S.1.2.1 S.1.2.2.1 bd_2)) := hq
  subst hq
  refine j_istore K [(4, .int (iI (wrb S.1.2.1 S.1.2.2.1 bd_2))), (0, .ref (fx 0)), (1, .int x1), (2, .int x2), (3, .int x3)] dX0_longest_23 (by decide) rfl ?_
  refine j_iload_n K 3 dX0_longest_25 rfl rfl ?_
  refine j_iload_n K 2 dX0_longest_26 rfl rfl ?_
  refine j_if_eq K 35 dX0_longest_27 (by decide) (fun hc => ?_) (fun hc => ?_)
  · refine j_lv K [1, 2, 4, 0] (lv' := [(0, .ref (fx 0)), (1, .int x1), (3, .int x3), (4, .int (iI (wrb S.1.2.1 S.1.2.2.1 bd_2)))]) rfl ?_
    exact kX0_longest_35 K hr hgc L4 hL4 x1 x3 (iI (wrb S.1.2.1 S.1.2.2.1 bd_2)) x2 S true cc sc (h.1 hc) _ _ _ hh1 hm1 hcl hsl
  · refine j_lv K [1, 2, 4, 0] (lv' := [(0, .ref (fx 0)), (1, .int x1), (3, .int x3), (4, .int (iI (wrb S.1.2.1 S.1.2.2.1 bd_2)))]) rfl ?_
    exact kX0_longest_30 K hr hgc L4 hL4 x1 x3 (iI (wrb S.1.2.1 S.1.2.2.1 bd_2)) x2 S true cc sc (h.2 hc) _ _ _ hh1 hm1 hcl hsl
theorem kX0_longest_4_b {p : Program} {l : Launch} {e : Env} {s : State} {m : MethodId} {args : Array Value} {below : List Frame} {meth : Method} {c : Code} {A : Nat → Prop} {D : va_G} {ct : Nat → ClassId} {G : gE} {g : GP} {fx : Nat → Nat} {tl : va_W} {H : HB} {T0 : TB} {post : Int32 → CS → Prop} (K : CX p s m args meth c cX0_longest 5 RX0 A D ct G) (hr : meth.sig.returnType = (some .int)) (hgc : gHasC G g) (L4 : Int32 → Int32 → Int32 → CS → Bool → Nat → Nat → Prop) (hL4 : ∀ (x1 : Int32) (x2 : Int32) (x3 : Int32) (S : CS) (mk : Bool) (cc : Nat) (sc : Nat), L4 x1 x2 x3 S mk cc sc → jM p l e s m args below meth c A D ct g fx tl 8 193 5 H T0 post S mk cc sc 4 [(0, .ref (fx 0)), (1, .int x1), (2, .int x2), (3, .int x3)] []) (x1 : Int32) (x2 : Int32) (x3 : Int32) (S : CS) (mk : Bool) (cc : Nat) (sc : Nat) (h : wX0_longest_4_b H post L4 x1 x2 x3 S mk cc sc) : jM p l e s m args below meth c A D ct g fx tl 8 193 5 H T0 post S mk cc sc 4 [(0, .ref (fx 0)), (1, .int x1), (2, .int x2), (3, .int x3)] [] := by
  unfold wX0_longest_4_b at h
  intro T kc ks hh hm hcl hsl
  have hG := K.2.2.2.2.2.2.2.2.2
  refine j_iload_n K 3 dX0_longest_4 rfl rfl ?_
  refine j_aload_n K 0 dX0_longest_5 rfl rfl ?_
  obtain ⟨hp, h⟩ := h
  refine j_callVq K (As := []) (rest := [.int x3]) (ctX0_table hG hgc hp.1.1 hh.tok) (lw_V q369 q371 qs10 q70 q372) (n := 0) (by decide +kernel) ⟨Nat.le_of_ble_eq_true rfl, Nat.le_of_ble_eq_true rfl⟩ 0 rfl rfl rfl rfl rfl (Nat.le_of_ble_eq_true rfl) dX0_longest_6 (hh.roomT hm hp.2 hcl hsl) (fun r_6 u_6 hq => ?_)
  obtain ⟨Su6, Tu6⟩ := u_6
  obtain ⟨⟨hq0, tx_6, hx_6, hq⟩, he⟩ := hq
  have hq0 : S = Su6 := hq0.symm
  subst hq0
  have hx_6 : Tu6 (pS S) = some tx_6 := hx_6
  have hq : r_6 = some (tx_6.1 0) := hq
  subst hq
  have hh1 := hh.callT hp.2.2 he
  have hm1 : true = true → H.1 = true := fun _ => hp.2.1
  show jJ p l e _ s m args below meth c _ A D _ (CW ct g.2.1 fx S Tu6 tl) _ _ _ _ (.ref (tx_6.1 0) :: _)
  obtain ⟨hp, h⟩ := h
  obtain ⟨i9, hi9⟩ := tab_in (ct := ct) (g := g) (fx := fx) (tl := tl) (pS_lt hp) hx_6
  refine j_getN K in_X5 i9 hi9 rfl 6 (by decide) (K.fn hgc 4 rfl) rfl rfl dX0_longest_9 ?_
  rw [show tx_6.2.2 2 = nI (LB S.1.2.1).length from (tfOf hp hh1.tok hx_6).2.2.1.1]
  refine j_icmp_ge K 49 dX0_longest_12 (by decide) (fun hc => ?_) (fun hc => ?_)
  · refine j_lv K [2] (lv' := [(2, .int x2)]) rfl ?_
    exact kX0_longest_49 K hr hgc  x2 S true cc sc (h.1 hc) _ _ _ hh1 hm1 hcl hsl
  · exact kX0_longest_15 K hr hgc L4 hL4 x1 x2 x3 S true cc sc (h.2 hc) _ _ _ hh1 hm1 hcl hsl
theorem kX0_longest_4 {p : Program} {l : Launch} {e : Env} {s : State} {m : MethodId} {args : Array Value} {below : List Frame} {meth : Method} {c : Code} {A : Nat → Prop} {D : va_G} {ct : Nat → ClassId} {G : gE} {g : GP} {fx : Nat → Nat} {tl : va_W} {H : HB} {T0 : TB} {post : Int32 → CS → Prop} (K : CX p s m args meth c cX0_longest 5 RX0 A D ct G) (hr : meth.sig.returnType = (some .int)) (hgc : gHasC G g)   (x1 : Int32) (x2 : Int32) (x3 : Int32) (S : CS) (mk : Bool) (cc : Nat) (sc : Nat) (h : wX0_longest_4 H post  x1 x2 x3 S mk cc sc) : jM p l e s m args below meth c A D ct g fx tl 8 193 5 H T0 post S mk cc sc 4 [(0, .ref (fx 0)), (1, .int x1), (2, .int x2), (3, .int x3)] [] :=
  wloop_sound (V := Int32 × Int32 × Int32 × CS × Bool × Nat × Nat) (Wk := fun v => jM p l e s m args below meth c A D ct g fx tl 8 193 5 H T0 post v.2.2.2.1 v.2.2.2.2.1 v.2.2.2.2.2.1 v.2.2.2.2.2.2 4 [(0, .ref (fx 0)), (1, .int v.1), (2, .int v.2.1), (3, .int v.2.2.1)] []) (fun L hL v hb => kX0_longest_4_b K hr hgc (fun x1 x2 x3 S mk cc sc => L (x1, x2, x3, S, mk, cc, sc)) (fun x1 x2 x3 S mk cc sc hx => hL (x1, x2, x3, S, mk, cc, sc) hx) v.1 v.2.1 v.2.2.1 v.2.2.2.1 v.2.2.2.2.1 v.2.2.2.2.2.1 v.2.2.2.2.2.2 hb) h
theorem kX0_longest_0 {p : Program} {l : Launch} {e : Env} {s : State} {m : MethodId} {args : Array Value} {below : List Frame} {meth : Method} {c : Code} {A : Nat → Prop} {D : va_G} {ct : Nat → ClassId} {G : gE} {g : GP} {fx : Nat → Nat} {tl : va_W} {H : HB} {T0 : TB} {post : Int32 → CS → Prop} (K : CX p s m args meth c cX0_longest 5 RX0 A D ct G) (hr : meth.sig.returnType = (some .int)) (hgc : gHasC G g)   (x1 : Int32) (S : CS) (mk : Bool) (cc : Nat) (sc : Nat) (h : wX0_longest_0 H post  x1 S mk cc sc) : jM p l e s m args below meth c A D ct g fx tl 8 193 5 H T0 post S mk cc sc 0 [(0, .ref (fx 0)), (1, .int x1)] [] := by
  unfold wX0_longest_0 at h
  intro T kc ks hh hm hcl hsl
  have hG := K.2.2.2.2.2.2.2.2.2
  refine j_iconst K (0 : Int32) dX0_longest_0 (by decide) ?_
  refine j_istore_n K [(2, .int (0 : Int32)), (0, .ref (fx 0)), (1, .int x1)] dX0_longest_1 rfl (by decide) rfl ?_
  refine j_iconst K (0 : Int32) dX0_longest_2 (by decide) ?_
  refine j_istore_n K [(3, .int (0 : Int32)), (2, .int (0 : Int32)), (0, .ref (fx 0)), (1, .int x1)] dX0_longest_3 rfl (by decide) rfl ?_
  refine j_lv K [2, 3, 1, 0] (lv' := [(0, .ref (fx 0)), (1, .int x1), (2, .int (0 : Int32)), (3, .int (0 : Int32))]) rfl ?_
  exact kX0_longest_4 K hr hgc  x1 (0 : Int32) (0 : Int32) S mk cc sc h _ _ _ hh hm hcl hsl
theorem ctX0_longest {l : Launch} {D : va_G} {ct : Nat → ClassId} {G : gE} {g : GP} {fx : Nat → Nat} {tl : va_W} {S : CS} {T : TB} (hG : gOK G) (hgc : gHasC G g) (x1 : Int32) (hp : cOk S) (hT : tOK T) : mCi l D ct G g fx tl yX0_longest (ws_ yX0_longest cX0_longest 5 (some .int)) 8 193 [.ref (fx 0), .int x1] S T true 0 0 (fun r S' => r = lonX S.1.2.1 S.1.2.2.1 x1 ∧ S' = S) := fun sz =>
  j_met (Qc := fun A => va_Qi (fun (r : Int32) (u : CS × TB) => (fun (r : Int32) (S' : CS) => r = lonX S.1.2.1 S.1.2.2.1 x1 ∧ S' = S) r u.1 ∧ extB true (pS S) T u.2) (fun (u : CS × TB) => cB D ct A (CW ct g.2.1 fx u.1 u.2 tl)) A) (by decide) hG (Nat.le_of_ble_eq_true rfl) (fun p e s m args below meth c A K hr _ _ => kX0_longest_0 (H := (true, pS S, 0, 0)) (T0 := T) (post := fun r S' => r = lonX S.1.2.1 S.1.2.2.1 x1 ∧ S' = S) K hr hgc x1 S false 0 0 (vcX0_longest x1 hp) T 0 0 (hid.start hT) (fun z => (by cases z)) (Nat.zero_le _) (Nat.zero_le _))
-- tally(I)I
theorem kX0_tally_40 {p : Program} {l : Launch} {e : Env} {s : State} {m : MethodId} {args : Array Value} {below : List Frame} {meth : Method} {c : Code} {A : Nat → Prop} {D : va_G} {ct : Nat → ClassId} {G : gE} {g : GP} {fx : Nat → Nat} {tl : va_W} {H : HB} {T0 : TB} {post : Int32 → CS → Prop} (K : CX p s m args meth c cX0_tally 2 RX0 A D ct G) (hr : meth.sig.returnType = (some .int)) (hgc : gHasC G g)    (S : CS) (mk : Bool) (cc : Nat) (sc : Nat) (h : wX0_tally_40 H post  S mk cc sc) : jM p l e s m args below meth c A D ct g fx tl 9 217 2 H T0 post S mk cc sc 40 [(0, .ref (fx 0))] [] := by
  unfold wX0_tally_40 at h
  intro T kc ks hh hm hcl hsl
  have hG := K.2.2.2.2.2.2.2.2.2
  refine j_aload_n K 0 dX0_tally_40 rfl rfl ?_
  obtain ⟨hp, h⟩ := h
  refine j_callVq K (As := []) (rest := []) (ctX0_table hG hgc hp.1.1 hh.tok) (lw_V q369 q371 qs10 q70 q372) (n := 0) (by decide +kernel) ⟨Nat.le_of_ble_eq_true rfl, Nat.le_of_ble_eq_true rfl⟩ 0 rfl rfl rfl rfl rfl (Nat.le_of_ble_eq_true rfl) dX0_tally_41 (hh.roomT hm hp.2 hcl hsl) (fun r_41 u_41 hq => ?_)
  obtain ⟨Su41, Tu41⟩ := u_41
  obtain ⟨⟨hq0, tx_41, hx_41, hq⟩, he⟩ := hq
  have hq0 : S = Su41 := hq0.symm
  subst hq0
  have hx_41 : Tu41 (pS S) = some tx_41 := hx_41
  have hq : r_41 = some (tx_41.1 0) := hq
  subst hq
  have hh1 := hh.callT hp.2.2 he
  have hm1 : true = true → H.1 = true := fun _ => hp.2.1
  show jJ p l e _ s m args below meth c _ A D _ (CW ct g.2.1 fx S Tu41 tl) _ _ _ _ (.ref (tx_41.1 0) :: _)
  obtain ⟨hp, h⟩ := h
  obtain ⟨i9, hi9⟩ := tab_in (ct := ct) (g := g) (fx := fx) (tl := tl) (pS_lt hp) hx_41
  refine j_getN K in_X5 i9 hi9 rfl 6 (by decide) (K.fn hgc 4 rfl) rfl rfl dX0_tally_44 ?_
  rw [show tx_41.2.2 2 = nI (LB S.1.2.1).length from (tfOf hp hh1.tok hx_41).2.2.1.1]
  exact m_iret K hr hh1 hm1 hcl hsl h dX0_tally_47
theorem kX0_tally_48 {p : Program} {l : Launch} {e : Env} {s : State} {m : MethodId} {args : Array Value} {below : List Frame} {meth : Method} {c : Code} {A : Nat → Prop} {D : va_G} {ct : Nat → ClassId} {G : gE} {g : GP} {fx : Nat → Nat} {tl : va_W} {H : HB} {T0 : TB} {post : Int32 → CS → Prop} (K : CX p s m args meth c cX0_tally 2 RX0 A D ct G) (hr : meth.sig.returnType = (some .int)) (hgc : gHasC G g)    (S : CS) (mk : Bool) (cc : Nat) (sc : Nat) (h : wX0_tally_48 H post  S mk cc sc) : jM p l e s m args below meth c A D ct g fx tl 9 217 2 H T0 post S mk cc sc 48 [(0, .ref (fx 0))] [] := by
  unfold wX0_tally_48 at h
  intro T kc ks hh hm hcl hsl
  have hG := K.2.2.2.2.2.2.2.2.2
  refine j_aload_n K 0 dX0_tally_48 rfl rfl ?_
  refine j_iconst K (1 : Int32) dX0_tally_49 (by decide) ?_
  obtain ⟨hp, h⟩ := h
  refine j_callVi K (As := [.int (1 : Int32)]) (rest := []) (ctX0_with hG hgc (1 : Int32) hp.1 hh.tok) (lw_V q669 q671 qs27 q70 q672) (n := 1) (by decide +kernel) ⟨Nat.le_of_ble_eq_true rfl, Nat.le_of_ble_eq_true rfl⟩ 0 rfl rfl rfl rfl rfl (Nat.le_of_ble_eq_true rfl) dX0_tally_50 (hh.roomT hm hp.2 hcl hsl) (fun r_50 u_50 hq => ?_)
  obtain ⟨Su50, Tu50⟩ := u_50
  obtain ⟨⟨hq, hq0⟩, he⟩ := hq
  have hq0 : S = Su50 := hq0.symm
  subst hq0
  have hq : r_50 = (withX S.1.2.1 S.1.2.2.1 (1 : Int32)) := hq
  subst hq
  have hh1 := hh.callT hp.2.2 he
  have hm1 : true = true → H.1 = true := fun _ => hp.2.1
  show jJ p l e _ s m args below meth c _ A D _ (CW ct g.2.1 fx S Tu50 tl) _ _ _ _ _
  exact m_iret K hr hh1 hm1 hcl hsl h dX0_tally_53
theorem kX0_tally_54 {p : Program} {l : Launch} {e : Env} {s : State} {m : MethodId} {args : Array Value} {below : List Frame} {meth : Method} {c : Code} {A : Nat → Prop} {D : va_G} {ct : Nat → ClassId} {G : gE} {g : GP} {fx : Nat → Nat} {tl : va_W} {H : HB} {T0 : TB} {post : Int32 → CS → Prop} (K : CX p s m args meth c cX0_tally 2 RX0 A D ct G) (hr : meth.sig.returnType = (some .int)) (hgc : gHasC G g)    (S : CS) (mk : Bool) (cc : Nat) (sc : Nat) (h : wX0_tally_54 H post  S mk cc sc) : jM p l e s m args below meth c A D ct g fx tl 9 217 2 H T0 post S mk cc sc 54 [(0, .ref (fx 0))] [] := by
  unfold wX0_tally_54 at h
  intro T kc ks hh hm hcl hsl
  have hG := K.2.2.2.2.2.2.2.2.2
  refine j_aload_n K 0 dX0_tally_54 rfl rfl ?_
  refine j_iconst K (-1 : Int32) dX0_tally_55 (by decide) ?_
  obtain ⟨hp, h⟩ := h
  refine j_callVi K (As := [.int (-1 : Int32)]) (rest := []) (ctX0_with hG hgc (-1 : Int32) hp.1 hh.tok) (lw_V q669 q671 qs27 q70 q672) (n := 1) (by decide +kernel) ⟨Nat.le_of_ble_eq_true rfl, Nat.le_of_ble_eq_true rfl⟩ 0 rfl rfl rfl rfl rfl (Nat.le_of_ble_eq_true rfl) dX0_tally_56 (hh.roomT hm hp.2 hcl hsl) (fun r_56 u_56 hq => ?_)
  obtain ⟨Su56, Tu56⟩ := u_56
  obtain ⟨⟨hq, hq0⟩, he⟩ := hq
  have hq0 : S = Su56 := hq0.symm
  subst hq0
  have hq : r_56 = (withX S.1.2.1 S.1.2.2.1 (-1 : Int32)) := hq
  subst hq
  have hh1 := hh.callT hp.2.2 he
  have hm1 : true = true → H.1 = true := fun _ => hp.2.1
  show jJ p l e _ s m args below meth c _ A D _ (CW ct g.2.1 fx S Tu56 tl) _ _ _ _ _
  exact m_iret K hr hh1 hm1 hcl hsl h dX0_tally_59
theorem kX0_tally_60 {p : Program} {l : Launch} {e : Env} {s : State} {m : MethodId} {args : Array Value} {below : List Frame} {meth : Method} {c : Code} {A : Nat → Prop} {D : va_G} {ct : Nat → ClassId} {G : gE} {g : GP} {fx : Nat → Nat} {tl : va_W} {H : HB} {T0 : TB} {post : Int32 → CS → Prop} (K : CX p s m args meth c cX0_tally 2 RX0 A D ct G) (hr : meth.sig.returnType = (some .int)) (hgc : gHasC G g)    (S : CS) (mk : Bool) (cc : Nat) (sc : Nat) (h : wX0_tally_60 H post  S mk cc sc) : jM p l e s m args below meth c A D ct g fx tl 9 217 2 H T0 post S mk cc sc 60 [(0, .ref (fx 0))] [] := by
  unfold wX0_tally_60 at h
  intro T kc ks hh hm hcl hsl
  have hG := K.2.2.2.2.2.2.2.2.2
  refine j_aload_n K 0 dX0_tally_60 rfl rfl ?_
  refine j_iconst K (0 : Int32) dX0_tally_61 (by decide) ?_
  obtain ⟨hp, h⟩ := h
  refine j_callVi K (As := [.int (0 : Int32)]) (rest := []) (ctX0_with hG hgc (0 : Int32) hp.1 hh.tok) (lw_V q669 q671 qs27 q70 q672) (n := 1) (by decide +kernel) ⟨Nat.le_of_ble_eq_true rfl, Nat.le_of_ble_eq_true rfl⟩ 0 rfl rfl rfl rfl rfl (Nat.le_of_ble_eq_true rfl) dX0_tally_62 (hh.roomT hm hp.2 hcl hsl) (fun r_62 u_62 hq => ?_)
  obtain ⟨Su62, Tu62⟩ := u_62
  obtain ⟨⟨hq, hq0⟩, he⟩ := hq
  have hq0 : S = Su62 := hq0.symm
  subst hq0
  have hq : r_62 = (withX S.1.2.1 S.1.2.2.1 (0 : Int32)) := hq
  subst hq
  have hh1 := hh.callT hp.2.2 he
  have hm1 : true = true → H.1 = true := fun _ => hp.2.1
  show jJ p l e _ s m args below meth c _ A D _ (CW ct g.2.1 fx S Tu62 tl) _ _ _ _ _
  exact m_iret K hr hh1 hm1 hcl hsl h dX0_tally_65
theorem kX0_tally_77 {p : Program} {l : Launch} {e : Env} {s : State} {m : MethodId} {args : Array Value} {below : List Frame} {meth : Method} {c : Code} {A : Nat → Prop} {D : va_G} {ct : Nat → ClassId} {G : gE} {g : GP} {fx : Nat → Nat} {tl : va_W} {H : HB} {T0 : TB} {post : Int32 → CS → Prop} (K : CX p s m args meth c cX0_tally 2 RX0 A D ct G) (hr : meth.sig.returnType = (some .int)) (hgc : gHasC G g)   (s1 : Int32) (S : CS) (mk : Bool) (cc : Nat) (sc : Nat) (h : wX0_tally_77 H post  s1 S mk cc sc) : jM p l e s m args below meth c A D ct g fx tl 9 217 2 H T0 post S mk cc sc 77 [] [.int s1, .ref (fx 0)] := by
  unfold wX0_tally_77 at h
  intro T kc ks hh hm hcl hsl
  have hG := K.2.2.2.2.2.2.2.2.2
  obtain ⟨hp, h⟩ := h
  refine j_callVi K (As := [.int s1]) (rest := []) (ctX0_longest hG hgc s1 hp.1 hh.tok) (lw_V q680 q682 qs28 q70 q683) (n := 1) (by decide +kernel) ⟨Nat.le_of_ble_eq_true rfl, Nat.le_of_ble_eq_true rfl⟩ 0 rfl rfl rfl rfl rfl (Nat.le_of_ble_eq_true rfl) dX0_tally_77 (hh.roomT hm hp.2 hcl hsl) (fun r_77 u_77 hq => ?_)
  obtain ⟨Su77, Tu77⟩ := u_77
  obtain ⟨⟨hq, hq0⟩, he⟩ := hq
  have hq0 : S = Su77 := hq0.symm
  subst hq0
  have hq : r_77 = (lonX S.1.2.1 S.1.2.2.1 s1) := hq
  subst hq
  have hh1 := hh.callT hp.2.2 he
  have hm1 : true = true → H.1 = true := fun _ => hp.2.1
  show jJ p l e _ s m args below meth c _ A D _ (CW ct g.2.1 fx S Tu77 tl) _ _ _ _ _
  exact m_iret K hr hh1 hm1 hcl hsl h dX0_tally_80
theorem kX0_tally_76 {p : Program} {l : Launch} {e : Env} {s : State} {m : MethodId} {args : Array Value} {below : List Frame} {meth : Method} {c : Code} {A : Nat → Prop} {D : va_G} {ct : Nat → ClassId} {G : gE} {g : GP} {fx : Nat → Nat} {tl : va_W} {H : HB} {T0 : TB} {post : Int32 → CS → Prop} (K : CX p s m args meth c cX0_tally 2 RX0 A D ct G) (hr : meth.sig.returnType = (some .int)) (hgc : gHasC G g)    (S : CS) (mk : Bool) (cc : Nat) (sc : Nat) (h : wX0_tally_76 H post  S mk cc sc) : jM p l e s m args below meth c A D ct g fx tl 9 217 2 H T0 post S mk cc sc 76 [] [.ref (fx 0)] := by
  unfold wX0_tally_76 at h
  intro T kc ks hh hm hcl hsl
  have hG := K.2.2.2.2.2.2.2.2.2
  refine j_iconst K (0 : Int32) dX0_tally_76 (by decide) ?_
  exact kX0_tally_77 K hr hgc  (0 : Int32) S mk cc sc h _ _ _ hh hm hcl hsl
theorem kX0_tally_72 {p : Program} {l : Launch} {e : Env} {s : State} {m : MethodId} {args : Array Value} {below : List Frame} {meth : Method} {c : Code} {A : Nat → Prop} {D : va_G} {ct : Nat → ClassId} {G : gE} {g : GP} {fx : Nat → Nat} {tl : va_W} {H : HB} {T0 : TB} {post : Int32 → CS → Prop} (K : CX p s m args meth c cX0_tally 2 RX0 A D ct G) (hr : meth.sig.returnType = (some .int)) (hgc : gHasC G g)    (S : CS) (mk : Bool) (cc : Nat) (sc : Nat) (h : wX0_tally_72 H post  S mk cc sc) : jM p l e s m args below meth c A D ct g fx tl 9 217 2 H T0 post S mk cc sc 72 [] [.ref (fx 0)] := by
  unfold wX0_tally_72 at h
  intro T kc ks hh hm hcl hsl
  have hG := K.2.2.2.2.2.2.2.2.2
  refine j_iconst K (1 : Int32) dX0_tally_72 (by decide) ?_
  refine j_goto K 77 dX0_tally_73 (by decide) ?_
  exact kX0_tally_77 K hr hgc  (1 : Int32) S mk cc sc h _ _ _ hh hm hcl hsl
theorem kX0_tally_66 {p : Program} {l : Launch} {e : Env} {s : State} {m : MethodId} {args : Array Value} {below : List Frame} {meth : Method} {c : Code} {A : Nat → Prop} {D : va_G} {ct : Nat → ClassId} {G : gE} {g : GP} {fx : Nat → Nat} {tl : va_W} {H : HB} {T0 : TB} {post : Int32 → CS → Prop} (K : CX p s m args meth c cX0_tally 2 RX0 A D ct G) (hr : meth.sig.returnType = (some .int)) (hgc : gHasC G g)   (x1 : Int32) (S : CS) (mk : Bool) (cc : Nat) (sc : Nat) (h : wX0_tally_66 H post  x1 S mk cc sc) : jM p l e s m args below meth c A D ct g fx tl 9 217 2 H T0 post S mk cc sc 66 [(0, .ref (fx 0)), (1, .int x1)] [] := by
  unfold wX0_tally_66 at h
  intro T kc ks hh hm hcl hsl
  have hG := K.2.2.2.2.2.2.2.2.2
  refine j_aload_n K 0 dX0_tally_66 rfl rfl ?_
  refine j_iload_n K 1 dX0_tally_67 rfl rfl ?_
  refine j_iconst K (4 : Int32) dX0_tally_68 (by decide) ?_
  refine j_icmp_ne K 76 dX0_tally_69 (by decide) (fun hc => ?_) (fun hc => ?_)
  · refine j_lv K [] (lv' := []) rfl ?_
    exact kX0_tally_76 K hr hgc  S mk cc sc (h.1 hc) _ _ _ hh hm hcl hsl
  · refine j_lv K [] (lv' := []) rfl ?_
    exact kX0_tally_72 K hr hgc  S mk cc sc (h.2 hc) _ _ _ hh hm hcl hsl
theorem kX0_tally_81 {p : Program} {l : Launch} {e : Env} {s : State} {m : MethodId} {args : Array Value} {below : List Frame} {meth : Method} {c : Code} {A : Nat → Prop} {D : va_G} {ct : Nat → ClassId} {G : gE} {g : GP} {fx : Nat → Nat} {tl : va_W} {H : HB} {T0 : TB} {post : Int32 → CS → Prop} (K : CX p s m args meth c cX0_tally 2 RX0 A D ct G) (hr : meth.sig.returnType = (some .int)) (hgc : gHasC G g)    (S : CS) (mk : Bool) (cc : Nat) (sc : Nat) (h : wX0_tally_81 H post  S mk cc sc) : jM p l e s m args below meth c A D ct g fx tl 9 217 2 H T0 post S mk cc sc 81 [] [] := by
  unfold wX0_tally_81 at h
  intro T kc ks hh hm hcl hsl
  have hG := K.2.2.2.2.2.2.2.2.2
  refine j_bipush K (-2 : Int32) dX0_tally_81 (by decide) ?_
  exact m_iret K hr hh hm hcl hsl h dX0_tally_83
theorem kX0_tally_0 {p : Program} {l : Launch} {e : Env} {s : State} {m : MethodId} {args : Array Value} {below : List Frame} {meth : Method} {c : Code} {A : Nat → Prop} {D : va_G} {ct : Nat → ClassId} {G : gE} {g : GP} {fx : Nat → Nat} {tl : va_W} {H : HB} {T0 : TB} {post : Int32 → CS → Prop} (K : CX p s m args meth c cX0_tally 2 RX0 A D ct G) (hr : meth.sig.returnType = (some .int)) (hgc : gHasC G g)   (x1 : Int32) (S : CS) (mk : Bool) (cc : Nat) (sc : Nat) (h : wX0_tally_0 H post  x1 S mk cc sc) : jM p l e s m args below meth c A D ct g fx tl 9 217 2 H T0 post S mk cc sc 0 [(0, .ref (fx 0)), (1, .int x1)] [] := by
  unfold wX0_tally_0 at h
  intro T kc ks hh hm hcl hsl
  have hG := K.2.2.2.2.2.2.2.2.2
  refine j_iload_n K 1 dX0_tally_0 rfl rfl ?_
  rcases Classical.em (x1 = (0 : Int32)) with hc | hc0
  · refine j_tableIn K (off := 39) 40 dX0_tally_1 (by rw [hc]; decide) (by rw [hc]; decide) (by rw [hc]; rfl) (by decide) ?_
    refine j_lv K [0] (lv' := [(0, .ref (fx 0))]) rfl ?_
    exact kX0_tally_40 K hr hgc  S mk cc sc (h.1 hc) _ _ _ hh hm hcl hsl
  rcases Classical.em (x1 = (1 : Int32)) with hc | hc1
  · refine j_tableIn K (off := 47) 48 dX0_tally_1 (by rw [hc]; decide) (by rw [hc]; decide) (by rw [hc]; rfl) (by decide) ?_
    refine j_lv K [0] (lv' := [(0, .ref (fx 0))]) rfl ?_
    exact kX0_tally_48 K hr hgc  S mk cc sc (h.2.1 hc) _ _ _ hh hm hcl hsl
  rcases Classical.em (x1 = (2 : Int32)) with hc | hc2
  · refine j_tableIn K (off := 53) 54 dX0_tally_1 (by rw [hc]; decide) (by rw [hc]; decide) (by rw [hc]; rfl) (by decide) ?_
    refine j_lv K [0] (lv' := [(0, .ref (fx 0))]) rfl ?_
    exact kX0_tally_54 K hr hgc  S mk cc sc (h.2.2.1 hc) _ _ _ hh hm hcl hsl
  rcases Classical.em (x1 = (3 : Int32)) with hc | hc3
  · refine j_tableIn K (off := 59) 60 dX0_tally_1 (by rw [hc]; decide) (by rw [hc]; decide) (by rw [hc]; rfl) (by decide) ?_
    refine j_lv K [0] (lv' := [(0, .ref (fx 0))]) rfl ?_
    exact kX0_tally_60 K hr hgc  S mk cc sc (h.2.2.2.1 hc) _ _ _ hh hm hcl hsl
  rcases Classical.em (x1 = (4 : Int32)) with hc | hc4
  · refine j_tableIn K (off := 65) 66 dX0_tally_1 (by rw [hc]; decide) (by rw [hc]; decide) (by rw [hc]; rfl) (by decide) ?_
    exact kX0_tally_66 K hr hgc  x1 S mk cc sc (h.2.2.2.2.1 hc) _ _ _ hh hm hcl hsl
  rcases Classical.em (x1 = (5 : Int32)) with hc | hc5
  · refine j_tableIn K (off := 65) 66 dX0_tally_1 (by rw [hc]; decide) (by rw [hc]; decide) (by rw [hc]; rfl) (by decide) ?_
    exact kX0_tally_66 K hr hgc  x1 S mk cc sc (h.2.2.2.2.2.1 hc) _ _ _ hh hm hcl hsl
  refine j_tableOut K 81 dX0_tally_1 (by have hh := sw_out_6 hc0 hc1 hc2 hc3 hc4 hc5; exact hh) (by decide) ?_
  refine j_lv K [] (lv' := []) rfl ?_
  exact kX0_tally_81 K hr hgc  S mk cc sc (h.2.2.2.2.2.2 hc0 hc1 hc2 hc3 hc4 hc5) _ _ _ hh hm hcl hsl
theorem ctX0_tally {l : Launch} {D : va_G} {ct : Nat → ClassId} {G : gE} {g : GP} {fx : Nat → Nat} {tl : va_W} {S : CS} {T : TB} (hG : gOK G) (hgc : gHasC G g) (x1 : Int32) (hp : cOk S) (hT : tOK T) : mCi l D ct G g fx tl yX0_tally (ws_ yX0_tally cX0_tally 2 (some .int)) 9 217 [.ref (fx 0), .int x1] S T (talB x1) 0 0 (fun r S' => r = sTally x1 (rep S) ∧ S' = S) := fun sz =>
  j_met (Qc := fun A => va_Qi (fun (r : Int32) (u : CS × TB) => (fun (r : Int32) (S' : CS) => r = sTally x1 (rep S) ∧ S' = S) r u.1 ∧ extB (talB x1) (pS S) T u.2) (fun (u : CS × TB) => cB D ct A (CW ct g.2.1 fx u.1 u.2 tl)) A) (by decide) hG (Nat.le_of_ble_eq_true rfl) (fun p e s m args below meth c A K hr _ _ => kX0_tally_0 (H := ((talB x1), pS S, 0, 0)) (T0 := T) (post := fun r S' => r = sTally x1 (rep S) ∧ S' = S) K hr hgc x1 S false 0 0 (vcX0_tally x1 hp) T 0 0 (hid.start hT) (fun z => (by cases z)) (Nat.zero_le _) (Nat.zero_le _))
-- share()I
theorem kX0_share_0 {p : Program} {l : Launch} {e : Env} {s : State} {m : MethodId} {args : Array Value} {below : List Frame} {meth : Method} {c : Code} {A : Nat → Prop} {D : va_G} {ct : Nat → ClassId} {G : gE} {g : GP} {fx : Nat → Nat} {tl : va_W} {H : HB} {T0 : TB} {post : Int32 → CS → Prop} (K : CX p s m args meth c cX0_share 1 RX0 A D ct G) (hr : meth.sig.returnType = (some .int)) (hgc : gHasC G g)    (S : CS) (mk : Bool) (cc : Nat) (sc : Nat) (h : wX0_share_0 H post  S mk cc sc) : jM p l e s m args below meth c A D ct g fx tl 9 216 1 H T0 post S mk cc sc 0 [(0, .ref (fx 0))] [] := by
  unfold wX0_share_0 at h
  intro T kc ks hh hm hcl hsl
  have hG := K.2.2.2.2.2.2.2.2.2
  refine j_aload_n K 0 dX0_share_0 rfl rfl ?_
  refine j_iconst K (1 : Int32) dX0_share_1 (by decide) ?_
  obtain ⟨hp, h⟩ := h
  refine j_callVi K (As := [.int (1 : Int32)]) (rest := []) (ctX0_with hG hgc (1 : Int32) hp.1 hh.tok) (lw_V q669 q671 qs27 q70 q672) (n := 1) (by decide +kernel) ⟨Nat.le_of_ble_eq_true rfl, Nat.le_of_ble_eq_true rfl⟩ 0 rfl rfl rfl rfl rfl (Nat.le_of_ble_eq_true rfl) dX0_share_2 (hh.roomT hm hp.2 hcl hsl) (fun r_2 u_2 hq => ?_)
  obtain ⟨Su2, Tu2⟩ := u_2
  obtain ⟨⟨hq, hq0⟩, he⟩ := hq
  have hq0 : S = Su2 := hq0.symm
  subst hq0
  have hq : r_2 = (withX S.1.2.1 S.1.2.2.1 (1 : Int32)) := hq
  subst hq
  have hh1 := hh.callT hp.2.2 he
  have hm1 : true = true → H.1 = true := fun _ => hp.2.1
  show jJ p l e _ s m args below meth c _ A D _ (CW ct g.2.1 fx S Tu2 tl) _ _ _ _ _
  refine j_i2f K dX0_share_5 ?_
  refine j_aload_n K 0 dX0_share_6 rfl rfl ?_
  obtain ⟨hp, h⟩ := h
  refine j_callVq K (As := []) (rest := [.float (FP.i2f (withX S.1.2.1 S.1.2.2.1 (1 : Int32)))]) (ctX0_table hG hgc hp.1.1 hh1.tok) (lw_V q369 q371 qs10 q70 q372) (n := 0) (by decide +kernel) ⟨Nat.le_of_ble_eq_true rfl, Nat.le_of_ble_eq_true rfl⟩ 0 rfl rfl rfl rfl rfl (Nat.le_of_ble_eq_true rfl) dX0_share_7 (hh1.roomT hm1 hp.2 hcl hsl) (fun r_7 u_7 hq => ?_)
  obtain ⟨Su7, Tu7⟩ := u_7
  obtain ⟨⟨hq0, tx_7, hx_7, hq⟩, he⟩ := hq
  have hq0 : S = Su7 := hq0.symm
  subst hq0
  have hx_7 : Tu7 (pS S) = some tx_7 := hx_7
  have hq : r_7 = some (tx_7.1 0) := hq
  subst hq
  have hh2 := hh1.callT hp.2.2 he
  have hm2 : true = true → H.1 = true := fun _ => hp.2.1
  show jJ p l e _ s m args below meth c _ A D _ (CW ct g.2.1 fx S Tu7 tl) _ _ _ _ (.ref (tx_7.1 0) :: _)
  obtain ⟨hp, h⟩ := h
  obtain ⟨i9, hi9⟩ := tab_in (ct := ct) (g := g) (fx := fx) (tl := tl) (pS_lt hp) hx_7
  refine j_getN K in_X5 i9 hi9 rfl 6 (by decide) (K.fn hgc 4 rfl) rfl rfl dX0_share_10 ?_
  rw [show tx_7.2.2 2 = nI (LB S.1.2.1).length from (tfOf hp hh2.tok hx_7).2.2.1.1]
  refine j_i2f K dX0_share_13 ?_
  obtain ⟨hc, h⟩ := h
  refine j_fdiv K hc dX0_share_14 ?_
  refine j_callSi K (As := [.float (FP.fdiv (FP.i2f (withX S.1.2.1 S.1.2.2.1 (1 : Int32))) (FP.i2f (nI (LB S.1.2.1).length)))]) (rest := []) (ctJ13_floatToIntBits (l := l) (D := D) (ct := ct) (G := G) (ws := (CW ct g.2.1 fx S Tu7 tl)) hG (FP.fdiv (FP.i2f (withX S.1.2.1 S.1.2.2.1 (1 : Int32))) (FP.i2f (nI (LB S.1.2.1).length)))) (lw_S q689 q690 q91 q691) (n := 1) (by decide +kernel) ⟨Nat.le_of_ble_eq_true rfl, Nat.le_of_ble_eq_true rfl⟩ rfl rfl (Nat.le_of_ble_eq_true rfl) dX0_share_15 (hh2.room0 hm2 hcl hsl) (fun r_1 _ hq => ?_)
  replace h := h r_1 hq
  exact m_iret K hr hh2 hm2 hcl hsl h dX0_share_18
theorem ctX0_share {l : Launch} {D : va_G} {ct : Nat → ClassId} {G : gE} {g : GP} {fx : Nat → Nat} {tl : va_W} {S : CS} {T : TB} (hG : gOK G) (hgc : gHasC G g)  (hp : cOk S) (hT : tOK T) : mCi l D ct G g fx tl yX0_share (ws_ yX0_share cX0_share 1 (some .int)) 9 216 [.ref (fx 0)] S T true 0 0 (fun r S' => r = sShare (rep S) ∧ S' = S) := fun sz =>
  j_met (Qc := fun A => va_Qi (fun (r : Int32) (u : CS × TB) => (fun (r : Int32) (S' : CS) => r = sShare (rep S) ∧ S' = S) r u.1 ∧ extB true (pS S) T u.2) (fun (u : CS × TB) => cB D ct A (CW ct g.2.1 fx u.1 u.2 tl)) A) (by decide) hG (Nat.le_of_ble_eq_true rfl) (fun p e s m args below meth c A K hr _ _ => kX0_share_0 (H := (true, pS S, 0, 0)) (T0 := T) (post := fun r S' => r = sShare (rep S) ∧ S' = S) K hr hgc  S false 0 0 (vcX0_share  hp) T 0 0 (hid.start hT) (fun z => (by cases z)) (Nat.zero_le _) (Nat.zero_le _))
-- many(I)I
theorem kX0_many_58 {p : Program} {l : Launch} {e : Env} {s : State} {m : MethodId} {args : Array Value} {below : List Frame} {meth : Method} {c : Code} {A : Nat → Prop} {D : va_G} {ct : Nat → ClassId} {G : gE} {g : GP} {fx : Nat → Nat} {tl : va_W} {H : HB} {T0 : TB} {post : Int32 → CS → Prop} (K : CX p s m args meth c cX0_many 4 RX0 A D ct G) (hr : meth.sig.returnType = (some .int)) (hgc : gHasC G g)   (x2 : Int32) (S : CS) (mk : Bool) (cc : Nat) (sc : Nat) (h : wX0_many_58 H post  x2 S mk cc sc) : jM p l e s m args below meth c A D ct g fx tl 8 193 4 H T0 post S mk cc sc 58 [(2, .int x2)] [] := by
  unfold wX0_many_58 at h
  intro T kc ks hh hm hcl hsl
  have hG := K.2.2.2.2.2.2.2.2.2
  refine j_iload_n K 0 dX0_many_58 rfl rfl ?_
  exact m_iret K hr hh hm hcl hsl h dX0_many_59
theorem kX0_many_50 {p : Program} {l : Launch} {e : Env} {s : State} {m : MethodId} {args : Array Value} {below : List Frame} {meth : Method} {c : Code} {A : Nat → Prop} {D : va_G} {ct : Nat → ClassId} {G : gE} {g : GP} {fx : Nat → Nat} {tl : va_W} {H : HB} {T0 : TB} {post : Int32 → CS → Prop} (K : CX p s m args meth c cX0_many 4 RX0 A D ct G) (hr : meth.sig.returnType = (some .int)) (hgc : gHasC G g) (L18 : Int32 → Int32 → Int32 → CS → Bool → Nat → Nat → Prop) (hL18 : ∀ (x1 : Int32) (x2 : Int32) (x3 : Int32) (S : CS) (mk : Bool) (cc : Nat) (sc : Nat), L18 x1 x2 x3 S mk cc sc → jM p l e s m args below meth c A D ct g fx tl 8 193 4 H T0 post S mk cc sc 18 [(0, .ref (fx 0)), (1, .int x1), (2, .int x2), (3, .int x3)] []) (x1 : Int32) (x3 : Int32) (s0 : Int32) (s1 : Int32) (S : CS) (mk : Bool) (cc : Nat) (sc : Nat) (h : wX0_many_50 H post L18 x1 x3 s0 s1 S mk cc sc) : jM p l e s m args below meth c A D ct g fx tl 8 193 4 H T0 post S mk cc sc 50 [(0, .ref (fx 0)), (1, .int x1), (3, .int x3)] [.int s1, .int s0] := by
  unfold wX0_many_50 at h
  intro T kc ks hh hm hcl hsl
  have hG := K.2.2.2.2.2.2.2.2.2
  refine j_iadd K dX0_many_50 ?_
  refine j_istore_n K [(2, .int (s0 + s1)), (0, .ref (fx 0)), (1, .int x1), (3, .int x3)] dX0_many_51 rfl (by decide) rfl ?_
  refine j_iinc K 3 (x3 + (1 : Int32)) [(3, .int (x3 + (1 : Int32))), (2, .int (s0 + s1)), (0, .ref (fx 0)), (1, .int x1)] dX0_many_52 rfl rfl (by decide) rfl ?_
  refine j_goto K 18 dX0_many_55 (by decide) ?_
  refine j_lv K [2, 3, 1, 0] (lv' := [(0, .ref (fx 0)), (1, .int x1), (2, .int (s0 + s1)), (3, .int (x3 + (1 : Int32)))]) rfl ?_
  exact hL18 x1 (s0 + s1) (x3 + (1 : Int32)) S mk cc sc h _ _ _ hh hm hcl hsl
theorem kX0_many_49 {p : Program} {l : Launch} {e : Env} {s : State} {m : MethodId} {args : Array Value} {below : List Frame} {meth : Method} {c : Code} {A : Nat → Prop} {D : va_G} {ct : Nat → ClassId} {G : gE} {g : GP} {fx : Nat → Nat} {tl : va_W} {H : HB} {T0 : TB} {post : Int32 → CS → Prop} (K : CX p s m args meth c cX0_many 4 RX0 A D ct G) (hr : meth.sig.returnType = (some .int)) (hgc : gHasC G g) (L18 : Int32 → Int32 → Int32 → CS → Bool → Nat → Nat → Prop) (hL18 : ∀ (x1 : Int32) (x2 : Int32) (x3 : Int32) (S : CS) (mk : Bool) (cc : Nat) (sc : Nat), L18 x1 x2 x3 S mk cc sc → jM p l e s m args below meth c A D ct g fx tl 8 193 4 H T0 post S mk cc sc 18 [(0, .ref (fx 0)), (1, .int x1), (2, .int x2), (3, .int x3)] []) (x1 : Int32) (x3 : Int32) (s0 : Int32) (S : CS) (mk : Bool) (cc : Nat) (sc : Nat) (h : wX0_many_49 H post L18 x1 x3 s0 S mk cc sc) : jM p l e s m args below meth c A D ct g fx tl 8 193 4 H T0 post S mk cc sc 49 [(0, .ref (fx 0)), (1, .int x1), (3, .int x3)] [.int s0] := by
  unfold wX0_many_49 at h
  intro T kc ks hh hm hcl hsl
  have hG := K.2.2.2.2.2.2.2.2.2
  refine j_iconst K (0 : Int32) dX0_many_49 (by decide) ?_
  exact kX0_many_50 K hr hgc L18 hL18 x1 x3 s0 (0 : Int32) S mk cc sc h _ _ _ hh hm hcl hsl
theorem kX0_many_45 {p : Program} {l : Launch} {e : Env} {s : State} {m : MethodId} {args : Array Value} {below : List Frame} {meth : Method} {c : Code} {A : Nat → Prop} {D : va_G} {ct : Nat → ClassId} {G : gE} {g : GP} {fx : Nat → Nat} {tl : va_W} {H : HB} {T0 : TB} {post : Int32 → CS → Prop} (K : CX p s m args meth c cX0_many 4 RX0 A D ct G) (hr : meth.sig.returnType = (some .int)) (hgc : gHasC G g) (L18 : Int32 → Int32 → Int32 → CS → Bool → Nat → Nat → Prop) (hL18 : ∀ (x1 : Int32) (x2 : Int32) (x3 : Int32) (S : CS) (mk : Bool) (cc : Nat) (sc : Nat), L18 x1 x2 x3 S mk cc sc → jM p l e s m args below meth c A D ct g fx tl 8 193 4 H T0 post S mk cc sc 18 [(0, .ref (fx 0)), (1, .int x1), (2, .int x2), (3, .int x3)] []) (x1 : Int32) (x3 : Int32) (s0 : Int32) (S : CS) (mk : Bool) (cc : Nat) (sc : Nat) (h : wX0_many_45 H post L18 x1 x3 s0 S mk cc sc) : jM p l e s m args below meth c A D ct g fx tl 8 193 4 H T0 post S mk cc sc 45 [(0, .ref (fx 0)), (1, .int x1), (3, .int x3)] [.int s0] := by
  unfold wX0_many_45 at h
  intro T kc ks hh hm hcl hsl
  have hG := K.2.2.2.2.2.2.2.2.2
  refine j_iconst K (1 : Int32) dX0_many_45 (by decide) ?_
  refine j_goto K 50 dX0_many_46 (by decide) ?_
  exact kX0_many_50 K hr hgc L18 hL18 x1 x3 s0 (1 : Int32) S mk cc sc h _ _ _ hh hm hcl hsl
theorem kX0_many_29 {p : Program} {l : Launch} {e : Env} {s : State} {m : MethodId} {args : Array Value} {below : List Frame} {meth : Method} {c : Code} {A : Nat → Prop} {D : va_G} {ct : Nat → ClassId} {G : gE} {g : GP} {fx : Nat → Nat} {tl : va_W} {H : HB} {T0 : TB} {post : Int32 → CS → Prop} (K : CX p s m args meth c cX0_many 4 RX0 A D ct G) (hr : meth.sig.returnType = (some .int)) (hgc : gHasC G g) (L18 : Int32 → Int32 → Int32 → CS → Bool → Nat → Nat → Prop) (hL18 : ∀ (x1 : Int32) (x2 : Int32) (x3 : Int32) (S : CS) (mk : Bool) (cc : Nat) (sc : Nat), L18 x1 x2 x3 S mk cc sc → jM p l e s m args below meth c A D ct g fx tl 8 193 4 H T0 post S mk cc sc 18 [(0, .ref (fx 0)), (1, .int x1), (2, .int x2), (3, .int x3)] []) (x1 : Int32) (x2 : Int32) (x3 : Int32) (S : CS) (mk : Bool) (cc : Nat) (sc : Nat) (h : wX0_many_29 H post L18 x1 x2 x3 S mk cc sc) : jM p l e s m args below meth c A D ct g fx tl 8 193 4 H T0 post S mk cc sc 29 [(0, .ref (fx 0)), (1, .int x1), (2, .int x2), (3, .int x3)] [] := by
  unfold wX0_many_29 at h
  intro T kc ks hh hm hcl hsl
  have hG := K.2.2.2.2.2.2.2.2.2
  refine j_iload_n K 2 dX0_many_29 rfl rfl ?_
  refine j_aload_n K 0 dX0_many_30 rfl rfl ?_
  obtain ⟨hp, h⟩ := h
  refine j_callVq K (As := []) (rest := [.int x2]) (ctX0_table hG hgc hp.1.1 hh.tok) (lw_V q369 q371 qs10 q70 q372) (n := 0) (by decide +kernel) ⟨Nat.le_of_ble_eq_true rfl, Nat.le_of_ble_eq_true rfl⟩ 0 rfl rfl rfl rfl rfl (Nat.le_of_ble_eq_true rfl) dX0_many_31 (hh.roomT hm hp.2 hcl hsl) (fun r_31 u_31 hq => ?_)
  obtain ⟨Su31, Tu31⟩ := u_31
  obtain ⟨⟨hq0, tx_31, hx_31, hq⟩, he⟩ := hq
  have hq0 : S = Su31 := hq0.symm
  subst hq0
  have hx_31 : Tu31 (pS S) = some tx_31 := hx_31
  have hq : r_31 = some (tx_31.1 0) := hq
  subst hq
  have hh1 := hh.callT hp.2.2 he
  have hm1 : true = true → H.1 = true := fun _ => hp.2.1
  show jJ p l e _ s m args below meth c _ A D _ (CW ct g.2.1 fx S Tu31 tl) _ _ _ _ (.ref (tx_31.1 0) :: _)
  refine j_iload_n K 3 dX0_many_34 rfl rfl ?_
  obtain ⟨bk_1, bd_2, hp, h⟩ := h
  have hpI := hp.1
  obtain ⟨i9, hi9⟩ := tab_in (ct := ct) (g := g) (fx := fx) (tl := tl) (pS_lt hpI) hx_31
  refine j_callVi K (As := [.int x3]) (rest := [.int x2]) (pureM hG (ctT_worthAt hG hgc hp.1 hh1.tok hx_31 hp.2.1 hp.2.2)) (lw_V q673 q674 q675 q88 q676) (n := 1) (by decide +kernel) ⟨Nat.le_of_ble_eq_true rfl, Nat.le_of_ble_eq_true rfl⟩ i9 hi9 rfl rfl rfl rfl (Nat.le_of_ble_eq_true rfl) dX0_many_35 (hh1.room0 hm1 hcl hsl) (fun r_3 _ hq => ?_)
  have hq : r_3 = (iI (wrb S.1.2.1 S.1.2.2.1 bd_2)) := hq
  subst hq
  refine j_iload_n K 1 dX0_many_38 rfl rfl ?_
  refine j_bipush K (100 : Int32) dX0_many_39 (by decide) ?_
  refine j_isub K dX0_many_41 ?_
  refine j_icmp_ne K 49 dX0_many_42 (by decide) (fun hc => ?_) (fun hc => ?_)
  · refine j_lv K [0, 1, 3] (lv' := [(0, .ref (fx 0)), (1, .int x1), (3, .int x3)]) rfl ?_
    exact kX0_many_49 K hr hgc L18 hL18 x1 x3 x2 S true cc sc (h.1 hc) _ _ _ hh1 hm1 hcl hsl
  · refine j_lv K [0, 1, 3] (lv' := [(0, .ref (fx 0)), (1, .int x1), (3, .int x3)]) rfl ?_
    exact kX0_many_45 K hr hgc L18 hL18 x1 x3 x2 S true cc sc (h.2 hc) _ _ _ hh1 hm1 hcl hsl
theorem kX0_many_18_b {p : Program} {l : Launch} {e : Env} {s : State} {m : MethodId} {args : Array Value} {below : List Frame} {meth : Method} {c : Code} {A : Nat → Prop} {D : va_G} {ct : Nat → ClassId} {G : gE} {g : GP} {fx : Nat → Nat} {tl : va_W} {H : HB} {T0 : TB} {post : Int32 → CS → Prop} (K : CX p s m args meth c cX0_many 4 RX0 A D ct G) (hr : meth.sig.returnType = (some .int)) (hgc : gHasC G g) (L18 : Int32 → Int32 → Int32 → CS → Bool → Nat → Nat → Prop) (hL18 : ∀ (x1 : Int32) (x2 : Int32) (x3 : Int32) (S : CS) (mk : Bool) (cc : Nat) (sc : Nat), L18 x1 x2 x3 S mk cc sc → jM p l e s m args below meth c A D ct g fx tl 8 193 4 H T0 post S mk cc sc 18 [(0, .ref (fx 0)), (1, .int x1), (2, .int x2), (3, .int x3)] []) (x1 : Int32) (x2 : Int32) (x3 : Int32) (S : CS) (mk : Bool) (cc : Nat) (sc : Nat) (h : wX0_many_18_b H post L18 x1 x2 x3 S mk cc sc) : jM p l e s m args below meth c A D ct g fx tl 8 193 4 H T0 post S mk cc sc 18 [(0, .ref (fx 0)), (1, .int x1), (2, .int x2), (3, .int x3)] [] := by
  unfold wX0_many_18_b at h
  intro T kc ks hh hm hcl hsl
  have hG := K.2.2.2.2.2.2.2.2.2
  refine j_iload_n K 3 dX0_many_18 rfl rfl ?_
  refine j_aload_n K 0 dX0_many_19 rfl rfl ?_
  obtain ⟨hp, h⟩ := h
  refine j_callVq K (As := []) (rest := [.int x3]) (ctX0_table hG hgc hp.1.1 hh.tok) (lw_V q369 q371 qs10 q70 q372) (n := 0) (by decide +kernel) ⟨Nat.le_of_ble_eq_true rfl, Nat.le_of_ble_eq_true rfl⟩ 0 rfl rfl rfl rfl rfl (Nat.le_of_ble_eq_true rfl) dX0_many_20 (hh.roomT hm hp.2 hcl hsl) (fun r_20 u_20 hq => ?_)
  obtain ⟨Su20, Tu20⟩ := u_20
  obtain ⟨⟨hq0, tx_20, hx_20, hq⟩, he⟩ := hq
  have hq0 : S = Su20 := hq0.symm
  subst hq0
  have hx_20 : Tu20 (pS S) = some tx_20 := hx_20
  have hq : r_20 = some (tx_20.1 0) := hq
  subst hq
  have hh1 := hh.callT hp.2.2 he
  have hm1 : true = true → H.1 = true := fun _ => hp.2.1
  show jJ p l e _ s m args below meth c _ A D _ (CW ct g.2.1 fx S Tu20 tl) _ _ _ _ (.ref (tx_20.1 0) :: _)
  obtain ⟨hp, h⟩ := h
  obtain ⟨i9, hi9⟩ := tab_in (ct := ct) (g := g) (fx := fx) (tl := tl) (pS_lt hp) hx_20
  refine j_getN K in_X5 i9 hi9 rfl 6 (by decide) (K.fn hgc 4 rfl) rfl rfl dX0_many_23 ?_
  rw [show tx_20.2.2 2 = nI (LB S.1.2.1).length from (tfOf hp hh1.tok hx_20).2.2.1.1]
  refine j_icmp_ge K 58 dX0_many_26 (by decide) (fun hc => ?_) (fun hc => ?_)
  · refine j_lv K [2] (lv' := [(2, .int x2)]) rfl ?_
    exact kX0_many_58 K hr hgc  x2 S true cc sc (h.1 hc) _ _ _ hh1 hm1 hcl hsl
  · exact kX0_many_29 K hr hgc L18 hL18 x1 x2 x3 S true cc sc (h.2 hc) _ _ _ hh1 hm1 hcl hsl
theorem kX0_many_18 {p : Program} {l : Launch} {e : Env} {s : State} {m : MethodId} {args : Array Value} {below : List Frame} {meth : Method} {c : Code} {A : Nat → Prop} {D : va_G} {ct : Nat → ClassId} {G : gE} {g : GP} {fx : Nat → Nat} {tl : va_W} {H : HB} {T0 : TB} {post : Int32 → CS → Prop} (K : CX p s m args meth c cX0_many 4 RX0 A D ct G) (hr : meth.sig.returnType = (some .int)) (hgc : gHasC G g)   (x1 : Int32) (x2 : Int32) (x3 : Int32) (S : CS) (mk : Bool) (cc : Nat) (sc : Nat) (h : wX0_many_18 H post  x1 x2 x3 S mk cc sc) : jM p l e s m args below meth c A D ct g fx tl 8 193 4 H T0 post S mk cc sc 18 [(0, .ref (fx 0)), (1, .int x1), (2, .int x2), (3, .int x3)] [] :=
  wloop_sound (V := Int32 × Int32 × Int32 × CS × Bool × Nat × Nat) (Wk := fun v => jM p l e s m args below meth c A D ct g fx tl 8 193 4 H T0 post v.2.2.2.1 v.2.2.2.2.1 v.2.2.2.2.2.1 v.2.2.2.2.2.2 18 [(0, .ref (fx 0)), (1, .int v.1), (2, .int v.2.1), (3, .int v.2.2.1)] []) (fun L hL v hb => kX0_many_18_b K hr hgc (fun x1 x2 x3 S mk cc sc => L (x1, x2, x3, S, mk, cc, sc)) (fun x1 x2 x3 S mk cc sc hx => hL (x1, x2, x3, S, mk, cc, sc) hx) v.1 v.2.1 v.2.2.1 v.2.2.2.1 v.2.2.2.2.1 v.2.2.2.2.2.1 v.2.2.2.2.2.2 hb) h
theorem kX0_many_14 {p : Program} {l : Launch} {e : Env} {s : State} {m : MethodId} {args : Array Value} {below : List Frame} {meth : Method} {c : Code} {A : Nat → Prop} {D : va_G} {ct : Nat → ClassId} {G : gE} {g : GP} {fx : Nat → Nat} {tl : va_W} {H : HB} {T0 : TB} {post : Int32 → CS → Prop} (K : CX p s m args meth c cX0_many 4 RX0 A D ct G) (hr : meth.sig.returnType = (some .int)) (hgc : gHasC G g)   (x1 : Int32) (S : CS) (mk : Bool) (cc : Nat) (sc : Nat) (h : wX0_many_14 H post  x1 S mk cc sc) : jM p l e s m args below meth c A D ct g fx tl 8 193 4 H T0 post S mk cc sc 14 [(0, .ref (fx 0)), (1, .int x1)] [] := by
  unfold wX0_many_14 at h
  intro T kc ks hh hm hcl hsl
  have hG := K.2.2.2.2.2.2.2.2.2
  refine j_iconst K (0 : Int32) dX0_many_14 (by decide) ?_
  refine j_istore_n K [(2, .int (0 : Int32)), (0, .ref (fx 0)), (1, .int x1)] dX0_many_15 rfl (by decide) rfl ?_
  refine j_iconst K (0 : Int32) dX0_many_16 (by decide) ?_
  refine j_istore_n K [(3, .int (0 : Int32)), (2, .int (0 : Int32)), (0, .ref (fx 0)), (1, .int x1)] dX0_many_17 rfl (by decide) rfl ?_
  refine j_lv K [2, 3, 1, 0] (lv' := [(0, .ref (fx 0)), (1, .int x1), (2, .int (0 : Int32)), (3, .int (0 : Int32))]) rfl ?_
  exact kX0_many_18 K hr hgc  x1 (0 : Int32) (0 : Int32) S mk cc sc h _ _ _ hh hm hcl hsl
theorem kX0_many_11 {p : Program} {l : Launch} {e : Env} {s : State} {m : MethodId} {args : Array Value} {below : List Frame} {meth : Method} {c : Code} {A : Nat → Prop} {D : va_G} {ct : Nat → ClassId} {G : gE} {g : GP} {fx : Nat → Nat} {tl : va_W} {H : HB} {T0 : TB} {post : Int32 → CS → Prop} (K : CX p s m args meth c cX0_many 4 RX0 A D ct G) (hr : meth.sig.returnType = (some .int)) (hgc : gHasC G g)    (S : CS) (mk : Bool) (cc : Nat) (sc : Nat) (h : wX0_many_11 H post  S mk cc sc) : jM p l e s m args below meth c A D ct g fx tl 8 193 4 H T0 post S mk cc sc 11 [] [] := by
  unfold wX0_many_11 at h
  intro T kc ks hh hm hcl hsl
  have hG := K.2.2.2.2.2.2.2.2.2
  refine j_bipush K (-2 : Int32) dX0_many_11 (by decide) ?_
  exact m_iret K hr hh hm hcl hsl h dX0_many_13
theorem kX0_many_0 {p : Program} {l : Launch} {e : Env} {s : State} {m : MethodId} {args : Array Value} {below : List Frame} {meth : Method} {c : Code} {A : Nat → Prop} {D : va_G} {ct : Nat → ClassId} {G : gE} {g : GP} {fx : Nat → Nat} {tl : va_W} {H : HB} {T0 : TB} {post : Int32 → CS → Prop} (K : CX p s m args meth c cX0_many 4 RX0 A D ct G) (hr : meth.sig.returnType = (some .int)) (hgc : gHasC G g)   (x1 : Int32) (S : CS) (mk : Bool) (cc : Nat) (sc : Nat) (h : wX0_many_0 H post  x1 S mk cc sc) : jM p l e s m args below meth c A D ct g fx tl 8 193 4 H T0 post S mk cc sc 0 [(0, .ref (fx 0)), (1, .int x1)] [] := by
  unfold wX0_many_0 at h
  intro T kc ks hh hm hcl hsl
  have hG := K.2.2.2.2.2.2.2.2.2
  refine j_iload_n K 1 dX0_many_0 rfl rfl ?_
  refine j_iconst K (0 : Int32) dX0_many_1 (by decide) ?_
  refine j_sipush K (200 : Int32) dX0_many_2 (by decide) ?_
  refine j_callSi K (As := [.int x1, .int (0 : Int32), .int (200 : Int32)]) (rest := []) (ctX0_isIn (l := l) (D := D) (ct := ct) (G := G) (ws := (CW ct g.2.1 fx S T tl)) hG x1 (0 : Int32) (200 : Int32)) (lw_S q283 q284 q70 q285) (n := 3) (by decide +kernel) ⟨Nat.le_of_ble_eq_true rfl, Nat.le_of_ble_eq_true rfl⟩ rfl rfl (Nat.le_of_ble_eq_true rfl) dX0_many_5 (hh.room0 hm hcl hsl) (fun r_1 _ hq => ?_)
  replace h := h r_1 hq
  refine j_if_ne K 14 dX0_many_8 (by decide) (fun hc => ?_) (fun hc => ?_)
  · exact kX0_many_14 K hr hgc  x1 S mk cc sc (h.1 hc) _ _ _ hh hm hcl hsl
  · refine j_lv K [] (lv' := []) rfl ?_
    exact kX0_many_11 K hr hgc  S mk cc sc (h.2 hc) _ _ _ hh hm hcl hsl
theorem ctX0_many {l : Launch} {D : va_G} {ct : Nat → ClassId} {G : gE} {g : GP} {fx : Nat → Nat} {tl : va_W} {S : CS} {T : TB} (hG : gOK G) (hgc : gHasC G g) (x1 : Int32) (hp : cOk S) (hT : tOK T) : mCi l D ct G g fx tl yX0_many (ws_ yX0_many cX0_many 4 (some .int)) 8 193 [.ref (fx 0), .int x1] S T (manB x1) 0 0 (fun r S' => r = sMany x1 (rep S) ∧ S' = S) := fun sz =>
  j_met (Qc := fun A => va_Qi (fun (r : Int32) (u : CS × TB) => (fun (r : Int32) (S' : CS) => r = sMany x1 (rep S) ∧ S' = S) r u.1 ∧ extB (manB x1) (pS S) T u.2) (fun (u : CS × TB) => cB D ct A (CW ct g.2.1 fx u.1 u.2 tl)) A) (by decide) hG (Nat.le_of_ble_eq_true rfl) (fun p e s m args below meth c A K hr _ _ => kX0_many_0 (H := ((manB x1), pS S, 0, 0)) (T0 := T) (post := fun r S' => r = sMany x1 (rep S) ∧ S' = S) K hr hgc x1 S false 0 0 (vcX0_many x1 hp) T 0 0 (hid.start hT) (fun z => (by cases z)) (Nat.zero_le _) (Nat.zero_le _))
