/-! WALK of MorrisTables, A: printed by gen_mainA.py -/
-- hasLost()Z
theorem kX0_hasLost_0 {p : Program} {l : Launch} {e : Env} {s : State} {m : MethodId} {args : Array Value} {below : List Frame} {meth : Method} {c : Code} {A : Nat → Prop} {D : va_G} {ct : Nat → ClassId} {G : gE} {g : GP} {fx : Nat → Nat} {tl : va_W} {H : HB} {T0 : TB} {post : Int32 → CS → Prop} (K : CX p s m args meth c cX0_hasLost 1 RX0 A D ct G) (hr : meth.sig.returnType = (some .boolean)) (hgc : gHasC G g)    (S : CS) (mk : Bool) (cc : Nat) (sc : Nat) (h : wX0_hasLost_0 H post  S mk cc sc) : jM p l e s m args below meth c A D ct g fx tl 8 193 1 H T0 post S mk cc sc 0 [(0, .ref (fx 0))] [] := by
  unfold wX0_hasLost_0 at h
  intro T kc ks hh hm hc9 hs9
  have hG := K.2.2.2.2.2.2.2.2.2
  refine j_aload_n K 0 dX0_hasLost_0 rfl rfl ?_
  obtain ⟨hp, h⟩ := h
  refine j_callVq K (As := []) (rest := []) (ctX0_table hG hgc hp.1.1 hh.tok) (lw_V q369 q371 qs10 q70 q372) (n := 0) (by decide +kernel) ⟨Nat.le_of_ble_eq_true rfl, Nat.le_of_ble_eq_true rfl⟩ 0 rfl rfl rfl rfl rfl (Nat.le_of_ble_eq_true rfl) dX0_hasLost_1 (hh.roomT hm hp.2 hc9 hs9) (fun r_1 u_1 hq => ?_)
  obtain ⟨Su1, Tu1⟩ := u_1
  obtain ⟨⟨hq0, tx_1, hx_1, hq⟩, he⟩ := hq
  have hq0 : S = Su1 := hq0.symm
  subst hq0
  have hx_1 : Tu1 (pS S) = some tx_1 := hx_1
  have hq : r_1 = some (tx_1.1 0) := hq
  subst hq
  have hh1 := hh.callT hp.2.2 he
  have hm1 : true = true → H.1 = true := fun _ => hp.2.1
  show jJ p l e _ s m args below meth c _ A D _ (CW ct g.2.1 fx S Tu1 tl) _ _ _ _ (.ref (tx_1.1 0) :: _)
  refine j_aload_n K 0 dX0_hasLost_4 rfl rfl ?_
  obtain ⟨hp, h⟩ := h
  refine j_callVi K (As := []) (rest := [.ref (tx_1.1 0)]) (pureM hG (ctX0_own hG hgc hp hh1.tok)) (lw_V q545 q547 qs18 q70 q548) (n := 0) (by decide +kernel) ⟨Nat.le_of_ble_eq_true rfl, Nat.le_of_ble_eq_true rfl⟩ 0 rfl rfl rfl rfl rfl (Nat.le_of_ble_eq_true rfl) dX0_hasLost_5 (hh1.room0 hm1 hc9 hs9) (fun r_1 _ hq => ?_)
  have hq : r_1 = (nI (meB (cur S.1.2))) := hq
  subst hq
  refine j_aload_n K 0 dX0_hasLost_8 rfl rfl ?_
  obtain ⟨hp, h⟩ := h
  refine j_callVi K (As := []) (rest := [.int (nI (meB (cur S.1.2))), .ref (tx_1.1 0)]) (pureM hG (ctX0_others hG hgc hp hh1.tok)) (lw_V q549 q551 qs19 q70 q552) (n := 0) (by decide +kernel) ⟨Nat.le_of_ble_eq_true rfl, Nat.le_of_ble_eq_true rfl⟩ 0 rfl rfl rfl rfl rfl (Nat.le_of_ble_eq_true rfl) dX0_hasLost_9 (hh1.room0 hm1 hc9 hs9) (fun r_2 _ hq => ?_)
  have hq : r_2 = (nI (otB (cur S.1.2))) := hq
  subst hq
  obtain ⟨hp, h⟩ := h
  have hpI := hp
  obtain ⟨i9, hi9⟩ := tab_in (ct := ct) (g := g) (fx := fx) (tl := tl) (pS_lt hpI) hx_1
  refine j_callUi K (As := [.int (nI (meB (cur S.1.2))), .int (nI (otB (cur S.1.2)))]) (rest := []) (pureM hG (ctT_hasLost hG hgc hp hh1.tok hx_1)) (x := ⟨"MorrisTables$Table", "hasLost", "(II)Z"⟩) (lw_U q553 q445 q447 q448 q87 q449) rfl (n := 2) (by decide +kernel) ⟨Nat.le_of_ble_eq_true rfl, Nat.le_of_ble_eq_true rfl⟩ i9 hi9 rfl rfl rfl rfl (Nat.le_of_ble_eq_true rfl) dX0_hasLost_12 (hh1.room0 hm1 hc9 hs9) (fun r_3 _ hq => ?_)
  have hq : r_3 = (b2 (lostG S.1.2)) := hq
  subst hq
  exact m_zret K hr hh1 hm1 hc9 hs9 h dX0_hasLost_15
theorem ctX0_hasLost {l : Launch} {D : va_G} {ct : Nat → ClassId} {G : gE} {g : GP} {fx : Nat → Nat} {tl : va_W} {S : CS} {T : TB} (hG : gOK G) (hgc : gHasC G g)  (hp : cOk S) (hT : tOK T) : mCi l D ct G g fx tl yX0_hasLost (ws_ yX0_hasLost cX0_hasLost 1 (some .boolean)) 8 193 [.ref (fx 0)] S T true 0 0 (fun r S' => r = b2 (lostG S.1.2) ∧ S' = S) := fun sz =>
  j_met (Qc := fun A => va_Qi (fun (r : Int32) (u : CS × TB) => (fun (r : Int32) (S' : CS) => r = b2 (lostG S.1.2) ∧ S' = S) r u.1 ∧ extB true (pS S) T u.2) (fun (u : CS × TB) => cB D ct A (CW ct g.2.1 fx u.1 u.2 tl)) A) (by decide) hG (Nat.le_of_ble_eq_true rfl) (fun p e s m args below meth c A K hr _ _ => kX0_hasLost_0 (H := (true, pS S, 0, 0)) (T0 := T) (post := fun r S' => r = b2 (lostG S.1.2) ∧ S' = S) K hr hgc  S false 0 0 (vcX0_hasLost  hp) T 0 0 (hid.start hT) (fun z => (by cases z)) (Nat.zero_le _) (Nat.zero_le _))
-- isOver()Z
theorem kX0_isOver_23 {p : Program} {l : Launch} {e : Env} {s : State} {m : MethodId} {args : Array Value} {below : List Frame} {meth : Method} {c : Code} {A : Nat → Prop} {D : va_G} {ct : Nat → ClassId} {G : gE} {g : GP} {fx : Nat → Nat} {tl : va_W} {H : HB} {T0 : TB} {post : Int32 → CS → Prop} (K : CX p s m args meth c cX0_isOver 1 RX0 A D ct G) (hr : meth.sig.returnType = (some .boolean)) (hgc : gHasC G g)   (s0 : Int32) (S : CS) (mk : Bool) (cc : Nat) (sc : Nat) (h : wX0_isOver_23 H post  s0 S mk cc sc) : jM p l e s m args below meth c A D ct g fx tl 9 213 1 H T0 post S mk cc sc 23 [] [.int s0] := by
  unfold wX0_isOver_23 at h
  intro T kc ks hh hm hc9 hs9
  have hG := K.2.2.2.2.2.2.2.2.2
  exact m_zret K hr hh hm hc9 hs9 h dX0_isOver_23
theorem kX0_isOver_18 {p : Program} {l : Launch} {e : Env} {s : State} {m : MethodId} {args : Array Value} {below : List Frame} {meth : Method} {c : Code} {A : Nat → Prop} {D : va_G} {ct : Nat → ClassId} {G : gE} {g : GP} {fx : Nat → Nat} {tl : va_W} {H : HB} {T0 : TB} {post : Int32 → CS → Prop} (K : CX p s m args meth c cX0_isOver 1 RX0 A D ct G) (hr : meth.sig.returnType = (some .boolean)) (hgc : gHasC G g)    (S : CS) (mk : Bool) (cc : Nat) (sc : Nat) (h : wX0_isOver_18 H post  S mk cc sc) : jM p l e s m args below meth c A D ct g fx tl 9 213 1 H T0 post S mk cc sc 18 [] [] := by
  unfold wX0_isOver_18 at h
  intro T kc ks hh hm hc9 hs9
  have hG := K.2.2.2.2.2.2.2.2.2
  refine j_iconst K (1 : Int32) dX0_isOver_18 (by decide) ?_
  refine j_goto K 23 dX0_isOver_19 (by decide) ?_
  exact kX0_isOver_23 K hr hgc  (1 : Int32) S mk cc sc h _ _ _ hh hm hc9 hs9
theorem kX0_isOver_22 {p : Program} {l : Launch} {e : Env} {s : State} {m : MethodId} {args : Array Value} {below : List Frame} {meth : Method} {c : Code} {A : Nat → Prop} {D : va_G} {ct : Nat → ClassId} {G : gE} {g : GP} {fx : Nat → Nat} {tl : va_W} {H : HB} {T0 : TB} {post : Int32 → CS → Prop} (K : CX p s m args meth c cX0_isOver 1 RX0 A D ct G) (hr : meth.sig.returnType = (some .boolean)) (hgc : gHasC G g)    (S : CS) (mk : Bool) (cc : Nat) (sc : Nat) (h : wX0_isOver_22 H post  S mk cc sc) : jM p l e s m args below meth c A D ct g fx tl 9 213 1 H T0 post S mk cc sc 22 [] [] := by
  unfold wX0_isOver_22 at h
  intro T kc ks hh hm hc9 hs9
  have hG := K.2.2.2.2.2.2.2.2.2
  refine j_iconst K (0 : Int32) dX0_isOver_22 (by decide) ?_
  exact kX0_isOver_23 K hr hgc  (0 : Int32) S mk cc sc h _ _ _ hh hm hc9 hs9
theorem kX0_isOver_7 {p : Program} {l : Launch} {e : Env} {s : State} {m : MethodId} {args : Array Value} {below : List Frame} {meth : Method} {c : Code} {A : Nat → Prop} {D : va_G} {ct : Nat → ClassId} {G : gE} {g : GP} {fx : Nat → Nat} {tl : va_W} {H : HB} {T0 : TB} {post : Int32 → CS → Prop} (K : CX p s m args meth c cX0_isOver 1 RX0 A D ct G) (hr : meth.sig.returnType = (some .boolean)) (hgc : gHasC G g)    (S : CS) (mk : Bool) (cc : Nat) (sc : Nat) (h : wX0_isOver_7 H post  S mk cc sc) : jM p l e s m args below meth c A D ct g fx tl 9 213 1 H T0 post S mk cc sc 7 [(0, .ref (fx 0))] [] := by
  unfold wX0_isOver_7 at h
  intro T kc ks hh hm hc9 hs9
  have hG := K.2.2.2.2.2.2.2.2.2
  refine j_aload_n K 0 dX0_isOver_7 rfl rfl ?_
  refine j_get K in_X0 0 rfl rfl 1 (by decide) q263 rfl rfl dX0_isOver_8 ?_
  obtain ⟨hp, h⟩ := h
  refine j_callVi K (As := []) (rest := []) (pureM hG (ctC_times hG hh.tok hp)) (lw_V q554 q555 q556 q79 q557) (n := 0) (by decide +kernel) ⟨Nat.le_of_ble_eq_true rfl, Nat.le_of_ble_eq_true rfl⟩ 7 rfl rfl rfl rfl rfl (Nat.le_of_ble_eq_true rfl) dX0_isOver_11 (hh.room0 hm hc9 hs9) (fun r_1 _ hq => ?_)
  have hq : r_1 = (nI (oftG S.1.2)) := hq
  subst hq
  refine j_iconst K (3 : Int32) dX0_isOver_14 (by decide) ?_
  refine j_icmp_lt K 22 dX0_isOver_15 (by decide) (fun hc => ?_) (fun hc => ?_)
  · refine j_lv K [] (lv' := []) rfl ?_
    exact kX0_isOver_22 K hr hgc  S mk cc sc (h.1 hc) _ _ _ hh hm hc9 hs9
  · refine j_lv K [] (lv' := []) rfl ?_
    exact kX0_isOver_18 K hr hgc  S mk cc sc (h.2 hc) _ _ _ hh hm hc9 hs9
theorem kX0_isOver_0 {p : Program} {l : Launch} {e : Env} {s : State} {m : MethodId} {args : Array Value} {below : List Frame} {meth : Method} {c : Code} {A : Nat → Prop} {D : va_G} {ct : Nat → ClassId} {G : gE} {g : GP} {fx : Nat → Nat} {tl : va_W} {H : HB} {T0 : TB} {post : Int32 → CS → Prop} (K : CX p s m args meth c cX0_isOver 1 RX0 A D ct G) (hr : meth.sig.returnType = (some .boolean)) (hgc : gHasC G g)    (S : CS) (mk : Bool) (cc : Nat) (sc : Nat) (h : wX0_isOver_0 H post  S mk cc sc) : jM p l e s m args below meth c A D ct g fx tl 9 213 1 H T0 post S mk cc sc 0 [(0, .ref (fx 0))] [] := by
  unfold wX0_isOver_0 at h
  intro T kc ks hh hm hc9 hs9
  have hG := K.2.2.2.2.2.2.2.2.2
  refine j_aload_n K 0 dX0_isOver_0 rfl rfl ?_
  obtain ⟨hp, h⟩ := h
  refine j_callVi K (As := []) (rest := []) (ctX0_hasLost hG hgc hp.1 hh.tok) (lw_V q365 q367 qs9 q70 q368) (n := 0) (by decide +kernel) ⟨Nat.le_of_ble_eq_true rfl, Nat.le_of_ble_eq_true rfl⟩ 0 rfl rfl rfl rfl rfl (Nat.le_of_ble_eq_true rfl) dX0_isOver_1 (hh.roomT hm hp.2 hc9 hs9) (fun r_1 u_1 hq => ?_)
  obtain ⟨Su1, Tu1⟩ := u_1
  obtain ⟨⟨hq, hq0⟩, he⟩ := hq
  have hq0 : S = Su1 := hq0.symm
  subst hq0
  have hq : r_1 = (b2 (lostG S.1.2)) := hq
  subst hq
  have hh1 := hh.callT hp.2.2 he
  have hm1 : true = true → H.1 = true := fun _ => hp.2.1
  show jJ p l e _ s m args below meth c _ A D _ (CW ct g.2.1 fx S Tu1 tl) _ _ _ _ _
  refine j_if_ne K 18 dX0_isOver_4 (by decide) (fun hc => ?_) (fun hc => ?_)
  · refine j_lv K [] (lv' := []) rfl ?_
    exact kX0_isOver_18 K hr hgc  S true cc sc (h.1 hc) _ _ _ hh1 hm1 hc9 hs9
  · exact kX0_isOver_7 K hr hgc  S true cc sc (h.2 hc) _ _ _ hh1 hm1 hc9 hs9
theorem ctX0_isOver {l : Launch} {D : va_G} {ct : Nat → ClassId} {G : gE} {g : GP} {fx : Nat → Nat} {tl : va_W} {S : CS} {T : TB} (hG : gOK G) (hgc : gHasC G g)  (hp : cOk S) (hT : tOK T) : mCi l D ct G g fx tl yX0_isOver (ws_ yX0_isOver cX0_isOver 1 (some .boolean)) 9 213 [.ref (fx 0)] S T true 0 0 (fun r S' => r = b2 (overG S.1.2) ∧ S' = S) := fun sz =>
  j_met (Qc := fun A => va_Qi (fun (r : Int32) (u : CS × TB) => (fun (r : Int32) (S' : CS) => r = b2 (overG S.1.2) ∧ S' = S) r u.1 ∧ extB true (pS S) T u.2) (fun (u : CS × TB) => cB D ct A (CW ct g.2.1 fx u.1 u.2 tl)) A) (by decide) hG (Nat.le_of_ble_eq_true rfl) (fun p e s m args below meth c A K hr _ _ => kX0_isOver_0 (H := (true, pS S, 0, 0)) (T0 := T) (post := fun r S' => r = b2 (overG S.1.2) ∧ S' = S) K hr hgc  S false 0 0 (vcX0_isOver  hp) T 0 0 (hid.start hT) (fun z => (by cases z)) (Nat.zero_le _) (Nat.zero_le _))
-- isDrawn()Z
theorem kX0_isDrawn_23 {p : Program} {l : Launch} {e : Env} {s : State} {m : MethodId} {args : Array Value} {below : List Frame} {meth : Method} {c : Code} {A : Nat → Prop} {D : va_G} {ct : Nat → ClassId} {G : gE} {g : GP} {fx : Nat → Nat} {tl : va_W} {H : HB} {T0 : TB} {post : Int32 → CS → Prop} (K : CX p s m args meth c cX0_isDrawn 1 RX0 A D ct G) (hr : meth.sig.returnType = (some .boolean)) (hgc : gHasC G g)   (s0 : Int32) (S : CS) (mk : Bool) (cc : Nat) (sc : Nat) (h : wX0_isDrawn_23 H post  s0 S mk cc sc) : jM p l e s m args below meth c A D ct g fx tl 9 213 1 H T0 post S mk cc sc 23 [] [.int s0] := by
  unfold wX0_isDrawn_23 at h
  intro T kc ks hh hm hc9 hs9
  have hG := K.2.2.2.2.2.2.2.2.2
  exact m_zret K hr hh hm hc9 hs9 h dX0_isDrawn_23
theorem kX0_isDrawn_22 {p : Program} {l : Launch} {e : Env} {s : State} {m : MethodId} {args : Array Value} {below : List Frame} {meth : Method} {c : Code} {A : Nat → Prop} {D : va_G} {ct : Nat → ClassId} {G : gE} {g : GP} {fx : Nat → Nat} {tl : va_W} {H : HB} {T0 : TB} {post : Int32 → CS → Prop} (K : CX p s m args meth c cX0_isDrawn 1 RX0 A D ct G) (hr : meth.sig.returnType = (some .boolean)) (hgc : gHasC G g)    (S : CS) (mk : Bool) (cc : Nat) (sc : Nat) (h : wX0_isDrawn_22 H post  S mk cc sc) : jM p l e s m args below meth c A D ct g fx tl 9 213 1 H T0 post S mk cc sc 22 [] [] := by
  unfold wX0_isDrawn_22 at h
  intro T kc ks hh hm hc9 hs9
  have hG := K.2.2.2.2.2.2.2.2.2
  refine j_iconst K (0 : Int32) dX0_isDrawn_22 (by decide) ?_
  exact kX0_isDrawn_23 K hr hgc  (0 : Int32) S mk cc sc h _ _ _ hh hm hc9 hs9
theorem kX0_isDrawn_18 {p : Program} {l : Launch} {e : Env} {s : State} {m : MethodId} {args : Array Value} {below : List Frame} {meth : Method} {c : Code} {A : Nat → Prop} {D : va_G} {ct : Nat → ClassId} {G : gE} {g : GP} {fx : Nat → Nat} {tl : va_W} {H : HB} {T0 : TB} {post : Int32 → CS → Prop} (K : CX p s m args meth c cX0_isDrawn 1 RX0 A D ct G) (hr : meth.sig.returnType = (some .boolean)) (hgc : gHasC G g)    (S : CS) (mk : Bool) (cc : Nat) (sc : Nat) (h : wX0_isDrawn_18 H post  S mk cc sc) : jM p l e s m args below meth c A D ct g fx tl 9 213 1 H T0 post S mk cc sc 18 [] [] := by
  unfold wX0_isDrawn_18 at h
  intro T kc ks hh hm hc9 hs9
  have hG := K.2.2.2.2.2.2.2.2.2
  refine j_iconst K (1 : Int32) dX0_isDrawn_18 (by decide) ?_
  refine j_goto K 23 dX0_isDrawn_19 (by decide) ?_
  exact kX0_isDrawn_23 K hr hgc  (1 : Int32) S mk cc sc h _ _ _ hh hm hc9 hs9
theorem kX0_isDrawn_7 {p : Program} {l : Launch} {e : Env} {s : State} {m : MethodId} {args : Array Value} {below : List Frame} {meth : Method} {c : Code} {A : Nat → Prop} {D : va_G} {ct : Nat → ClassId} {G : gE} {g : GP} {fx : Nat → Nat} {tl : va_W} {H : HB} {T0 : TB} {post : Int32 → CS → Prop} (K : CX p s m args meth c cX0_isDrawn 1 RX0 A D ct G) (hr : meth.sig.returnType = (some .boolean)) (hgc : gHasC G g)    (S : CS) (mk : Bool) (cc : Nat) (sc : Nat) (h : wX0_isDrawn_7 H post  S mk cc sc) : jM p l e s m args below meth c A D ct g fx tl 9 213 1 H T0 post S mk cc sc 7 [(0, .ref (fx 0))] [] := by
  unfold wX0_isDrawn_7 at h
  intro T kc ks hh hm hc9 hs9
  have hG := K.2.2.2.2.2.2.2.2.2
  refine j_aload_n K 0 dX0_isDrawn_7 rfl rfl ?_
  refine j_get K in_X0 0 rfl rfl 1 (by decide) q263 rfl rfl dX0_isDrawn_8 ?_
  obtain ⟨hp, h⟩ := h
  refine j_callVi K (As := []) (rest := []) (pureM hG (ctC_times hG hh.tok hp)) (lw_V q554 q555 q556 q79 q557) (n := 0) (by decide +kernel) ⟨Nat.le_of_ble_eq_true rfl, Nat.le_of_ble_eq_true rfl⟩ 7 rfl rfl rfl rfl rfl (Nat.le_of_ble_eq_true rfl) dX0_isDrawn_11 (hh.room0 hm hc9 hs9) (fun r_1 _ hq => ?_)
  have hq : r_1 = (nI (oftG S.1.2)) := hq
  subst hq
  refine j_iconst K (3 : Int32) dX0_isDrawn_14 (by decide) ?_
  refine j_icmp_lt K 22 dX0_isDrawn_15 (by decide) (fun hc => ?_) (fun hc => ?_)
  · refine j_lv K [] (lv' := []) rfl ?_
    exact kX0_isDrawn_22 K hr hgc  S mk cc sc (h.1 hc) _ _ _ hh hm hc9 hs9
  · refine j_lv K [] (lv' := []) rfl ?_
    exact kX0_isDrawn_18 K hr hgc  S mk cc sc (h.2 hc) _ _ _ hh hm hc9 hs9
theorem kX0_isDrawn_0 {p : Program} {l : Launch} {e : Env} {s : State} {m : MethodId} {args : Array Value} {below : List Frame} {meth : Method} {c : Code} {A : Nat → Prop} {D : va_G} {ct : Nat → ClassId} {G : gE} {g : GP} {fx : Nat → Nat} {tl : va_W} {H : HB} {T0 : TB} {post : Int32 → CS → Prop} (K : CX p s m args meth c cX0_isDrawn 1 RX0 A D ct G) (hr : meth.sig.returnType = (some .boolean)) (hgc : gHasC G g)    (S : CS) (mk : Bool) (cc : Nat) (sc : Nat) (h : wX0_isDrawn_0 H post  S mk cc sc) : jM p l e s m args below meth c A D ct g fx tl 9 213 1 H T0 post S mk cc sc 0 [(0, .ref (fx 0))] [] := by
  unfold wX0_isDrawn_0 at h
  intro T kc ks hh hm hc9 hs9
  have hG := K.2.2.2.2.2.2.2.2.2
  refine j_aload_n K 0 dX0_isDrawn_0 rfl rfl ?_
  obtain ⟨hp, h⟩ := h
  refine j_callVi K (As := []) (rest := []) (ctX0_hasLost hG hgc hp.1 hh.tok) (lw_V q365 q367 qs9 q70 q368) (n := 0) (by decide +kernel) ⟨Nat.le_of_ble_eq_true rfl, Nat.le_of_ble_eq_true rfl⟩ 0 rfl rfl rfl rfl rfl (Nat.le_of_ble_eq_true rfl) dX0_isDrawn_1 (hh.roomT hm hp.2 hc9 hs9) (fun r_1 u_1 hq => ?_)
  obtain ⟨Su1, Tu1⟩ := u_1
  obtain ⟨⟨hq, hq0⟩, he⟩ := hq
  have hq0 : S = Su1 := hq0.symm
  subst hq0
  have hq : r_1 = (b2 (lostG S.1.2)) := hq
  subst hq
  have hh1 := hh.callT hp.2.2 he
  have hm1 : true = true → H.1 = true := fun _ => hp.2.1
  show jJ p l e _ s m args below meth c _ A D _ (CW ct g.2.1 fx S Tu1 tl) _ _ _ _ _
  refine j_if_ne K 22 dX0_isDrawn_4 (by decide) (fun hc => ?_) (fun hc => ?_)
  · refine j_lv K [] (lv' := []) rfl ?_
    exact kX0_isDrawn_22 K hr hgc  S true cc sc (h.1 hc) _ _ _ hh1 hm1 hc9 hs9
  · exact kX0_isDrawn_7 K hr hgc  S true cc sc (h.2 hc) _ _ _ hh1 hm1 hc9 hs9
theorem ctX0_isDrawn {l : Launch} {D : va_G} {ct : Nat → ClassId} {G : gE} {g : GP} {fx : Nat → Nat} {tl : va_W} {S : CS} {T : TB} (hG : gOK G) (hgc : gHasC G g)  (hp : cOk S) (hT : tOK T) : mCi l D ct G g fx tl yX0_isDrawn (ws_ yX0_isDrawn cX0_isDrawn 1 (some .boolean)) 9 213 [.ref (fx 0)] S T true 0 0 (fun r S' => r = b2 (decide (3 ≤ oftG S.1.2) && !lostG S.1.2) ∧ S' = S) := fun sz =>
  j_met (Qc := fun A => va_Qi (fun (r : Int32) (u : CS × TB) => (fun (r : Int32) (S' : CS) => r = b2 (decide (3 ≤ oftG S.1.2) && !lostG S.1.2) ∧ S' = S) r u.1 ∧ extB true (pS S) T u.2) (fun (u : CS × TB) => cB D ct A (CW ct g.2.1 fx u.1 u.2 tl)) A) (by decide) hG (Nat.le_of_ble_eq_true rfl) (fun p e s m args below meth c A K hr _ _ => kX0_isDrawn_0 (H := (true, pS S, 0, 0)) (T0 := T) (post := fun r S' => r = b2 (decide (3 ≤ oftG S.1.2) && !lostG S.1.2) ∧ S' = S) K hr hgc  S false 0 0 (vcX0_isDrawn  hp) T 0 0 (hid.start hT) (fun z => (by cases z)) (Nat.zero_le _) (Nat.zero_le _))
-- isMove(I)Z
theorem kX0_isMove_31 {p : Program} {l : Launch} {e : Env} {s : State} {m : MethodId} {args : Array Value} {below : List Frame} {meth : Method} {c : Code} {A : Nat → Prop} {D : va_G} {ct : Nat → ClassId} {G : gE} {g : GP} {fx : Nat → Nat} {tl : va_W} {H : HB} {T0 : TB} {post : Int32 → CS → Prop} (K : CX p s m args meth c cX0_isMove 2 RX0 A D ct G) (hr : meth.sig.returnType = (some .boolean)) (hgc : gHasC G g)   (s0 : Int32) (S : CS) (mk : Bool) (cc : Nat) (sc : Nat) (h : wX0_isMove_31 H post  s0 S mk cc sc) : jM p l e s m args below meth c A D ct g fx tl 10 233 2 H T0 post S mk cc sc 31 [] [.int s0] := by
  unfold wX0_isMove_31 at h
  intro T kc ks hh hm hc9 hs9
  have hG := K.2.2.2.2.2.2.2.2.2
  exact m_zret K hr hh hm hc9 hs9 h dX0_isMove_31
theorem kX0_isMove_30 {p : Program} {l : Launch} {e : Env} {s : State} {m : MethodId} {args : Array Value} {below : List Frame} {meth : Method} {c : Code} {A : Nat → Prop} {D : va_G} {ct : Nat → ClassId} {G : gE} {g : GP} {fx : Nat → Nat} {tl : va_W} {H : HB} {T0 : TB} {post : Int32 → CS → Prop} (K : CX p s m args meth c cX0_isMove 2 RX0 A D ct G) (hr : meth.sig.returnType = (some .boolean)) (hgc : gHasC G g)    (S : CS) (mk : Bool) (cc : Nat) (sc : Nat) (h : wX0_isMove_30 H post  S mk cc sc) : jM p l e s m args below meth c A D ct g fx tl 10 233 2 H T0 post S mk cc sc 30 [] [] := by
  unfold wX0_isMove_30 at h
  intro T kc ks hh hm hc9 hs9
  have hG := K.2.2.2.2.2.2.2.2.2
  refine j_iconst K (0 : Int32) dX0_isMove_30 (by decide) ?_
  exact kX0_isMove_31 K hr hgc  (0 : Int32) S mk cc sc h _ _ _ hh hm hc9 hs9
theorem kX0_isMove_26 {p : Program} {l : Launch} {e : Env} {s : State} {m : MethodId} {args : Array Value} {below : List Frame} {meth : Method} {c : Code} {A : Nat → Prop} {D : va_G} {ct : Nat → ClassId} {G : gE} {g : GP} {fx : Nat → Nat} {tl : va_W} {H : HB} {T0 : TB} {post : Int32 → CS → Prop} (K : CX p s m args meth c cX0_isMove 2 RX0 A D ct G) (hr : meth.sig.returnType = (some .boolean)) (hgc : gHasC G g)    (S : CS) (mk : Bool) (cc : Nat) (sc : Nat) (h : wX0_isMove_26 H post  S mk cc sc) : jM p l e s m args below meth c A D ct g fx tl 10 233 2 H T0 post S mk cc sc 26 [] [] := by
  unfold wX0_isMove_26 at h
  intro T kc ks hh hm hc9 hs9
  have hG := K.2.2.2.2.2.2.2.2.2
  refine j_iconst K (1 : Int32) dX0_isMove_26 (by decide) ?_
  refine j_goto K 31 dX0_isMove_27 (by decide) ?_
  exact kX0_isMove_31 K hr hgc  (1 : Int32) S mk cc sc h _ _ _ hh hm hc9 hs9
theorem kX0_isMove_7 {p : Program} {l : Launch} {e : Env} {s : State} {m : MethodId} {args : Array Value} {below : List Frame} {meth : Method} {c : Code} {A : Nat → Prop} {D : va_G} {ct : Nat → ClassId} {G : gE} {g : GP} {fx : Nat → Nat} {tl : va_W} {H : HB} {T0 : TB} {post : Int32 → CS → Prop} (K : CX p s m args meth c cX0_isMove 2 RX0 A D ct G) (hr : meth.sig.returnType = (some .boolean)) (hgc : gHasC G g)   (x1 : Int32) (S : CS) (mk : Bool) (cc : Nat) (sc : Nat) (h : wX0_isMove_7 H post  x1 S mk cc sc) : jM p l e s m args below meth c A D ct g fx tl 10 233 2 H T0 post S mk cc sc 7 [(0, .ref (fx 0)), (1, .int x1)] [] := by
  unfold wX0_isMove_7 at h
  intro T kc ks hh hm hc9 hs9
  have hG := K.2.2.2.2.2.2.2.2.2
  refine j_aload_n K 0 dX0_isMove_7 rfl rfl ?_
  obtain ⟨hp, h⟩ := h
  refine j_callVq K (As := []) (rest := []) (ctX0_table hG hgc hp.1.1 hh.tok) (lw_V q369 q371 qs10 q70 q372) (n := 0) (by decide +kernel) ⟨Nat.le_of_ble_eq_true rfl, Nat.le_of_ble_eq_true rfl⟩ 0 rfl rfl rfl rfl rfl (Nat.le_of_ble_eq_true rfl) dX0_isMove_8 (hh.roomT hm hp.2 hc9 hs9) (fun r_8 u_8 hq => ?_)
  obtain ⟨Su8, Tu8⟩ := u_8
  obtain ⟨⟨hq0, tx_8, hx_8, hq⟩, he⟩ := hq
  have hq0 : S = Su8 := hq0.symm
  subst hq0
  have hx_8 : Tu8 (pS S) = some tx_8 := hx_8
  have hq : r_8 = some (tx_8.1 0) := hq
  subst hq
  have hh1 := hh.callT hp.2.2 he
  have hm1 : true = true → H.1 = true := fun _ => hp.2.1
  show jJ p l e _ s m args below meth c _ A D _ (CW ct g.2.1 fx S Tu8 tl) _ _ _ _ (.ref (tx_8.1 0) :: _)
  refine j_aload_n K 0 dX0_isMove_11 rfl rfl ?_
  obtain ⟨hp, h⟩ := h
  refine j_callVi K (As := []) (rest := [.ref (tx_8.1 0)]) (pureM hG (ctX0_own hG hgc hp hh1.tok)) (lw_V q545 q547 qs18 q70 q548) (n := 0) (by decide +kernel) ⟨Nat.le_of_ble_eq_true rfl, Nat.le_of_ble_eq_true rfl⟩ 0 rfl rfl rfl rfl rfl (Nat.le_of_ble_eq_true rfl) dX0_isMove_12 (hh1.room0 hm1 hc9 hs9) (fun r_1 _ hq => ?_)
  have hq : r_1 = (nI (meB (cur S.1.2))) := hq
  subst hq
  refine j_aload_n K 0 dX0_isMove_15 rfl rfl ?_
  obtain ⟨hp, h⟩ := h
  refine j_callVi K (As := []) (rest := [.int (nI (meB (cur S.1.2))), .ref (tx_8.1 0)]) (pureM hG (ctX0_others hG hgc hp hh1.tok)) (lw_V q549 q551 qs19 q70 q552) (n := 0) (by decide +kernel) ⟨Nat.le_of_ble_eq_true rfl, Nat.le_of_ble_eq_true rfl⟩ 0 rfl rfl rfl rfl rfl (Nat.le_of_ble_eq_true rfl) dX0_isMove_16 (hh1.room0 hm1 hc9 hs9) (fun r_2 _ hq => ?_)
  have hq : r_2 = (nI (otB (cur S.1.2))) := hq
  subst hq
  refine j_iload_n K 1 dX0_isMove_19 rfl rfl ?_
  obtain ⟨hp, h⟩ := h
  have hpI := hp
  obtain ⟨i9, hi9⟩ := tab_in (ct := ct) (g := g) (fx := fx) (tl := tl) (pS_lt hpI) hx_8
  refine j_callUi K (As := [.int (nI (meB (cur S.1.2))), .int (nI (otB (cur S.1.2))), .int x1]) (rest := []) (pureM hG (ctT_isMove hG hgc hp hh1.tok hx_8)) (x := ⟨"MorrisTables$Table", "isMove", "(III)Z"⟩) (lw_U q562 q563 q565 q566 q87 q567) rfl (n := 3) (by decide +kernel) ⟨Nat.le_of_ble_eq_true rfl, Nat.le_of_ble_eq_true rfl⟩ i9 hi9 rfl rfl rfl rfl (Nat.le_of_ble_eq_true rfl) dX0_isMove_20 (hh1.room0 hm1 hc9 hs9) (fun r_3 _ hq => ?_)
  have hq : r_3 = (b2 (isMvX S.1.2 x1)) := hq
  subst hq
  refine j_if_eq K 30 dX0_isMove_23 (by decide) (fun hc => ?_) (fun hc => ?_)
  · refine j_lv K [] (lv' := []) rfl ?_
    exact kX0_isMove_30 K hr hgc  S true cc sc (h.1 hc) _ _ _ hh1 hm1 hc9 hs9
  · refine j_lv K [] (lv' := []) rfl ?_
    exact kX0_isMove_26 K hr hgc  S true cc sc (h.2 hc) _ _ _ hh1 hm1 hc9 hs9
theorem kX0_isMove_0 {p : Program} {l : Launch} {e : Env} {s : State} {m : MethodId} {args : Array Value} {below : List Frame} {meth : Method} {c : Code} {A : Nat → Prop} {D : va_G} {ct : Nat → ClassId} {G : gE} {g : GP} {fx : Nat → Nat} {tl : va_W} {H : HB} {T0 : TB} {post : Int32 → CS → Prop} (K : CX p s m args meth c cX0_isMove 2 RX0 A D ct G) (hr : meth.sig.returnType = (some .boolean)) (hgc : gHasC G g)   (x1 : Int32) (S : CS) (mk : Bool) (cc : Nat) (sc : Nat) (h : wX0_isMove_0 H post  x1 S mk cc sc) : jM p l e s m args below meth c A D ct g fx tl 10 233 2 H T0 post S mk cc sc 0 [(0, .ref (fx 0)), (1, .int x1)] [] := by
  unfold wX0_isMove_0 at h
  intro T kc ks hh hm hc9 hs9
  have hG := K.2.2.2.2.2.2.2.2.2
  refine j_aload_n K 0 dX0_isMove_0 rfl rfl ?_
  obtain ⟨hp, h⟩ := h
  refine j_callVi K (As := []) (rest := []) (ctX0_isOver hG hgc hp.1 hh.tok) (lw_V q361 q363 qs8 q70 q364) (n := 0) (by decide +kernel) ⟨Nat.le_of_ble_eq_true rfl, Nat.le_of_ble_eq_true rfl⟩ 0 rfl rfl rfl rfl rfl (Nat.le_of_ble_eq_true rfl) dX0_isMove_1 (hh.roomT hm hp.2 hc9 hs9) (fun r_1 u_1 hq => ?_)
  obtain ⟨Su1, Tu1⟩ := u_1
  obtain ⟨⟨hq, hq0⟩, he⟩ := hq
  have hq0 : S = Su1 := hq0.symm
  subst hq0
  have hq : r_1 = (b2 (overG S.1.2)) := hq
  subst hq
  have hh1 := hh.callT hp.2.2 he
  have hm1 : true = true → H.1 = true := fun _ => hp.2.1
  show jJ p l e _ s m args below meth c _ A D _ (CW ct g.2.1 fx S Tu1 tl) _ _ _ _ _
  refine j_if_ne K 30 dX0_isMove_4 (by decide) (fun hc => ?_) (fun hc => ?_)
  · refine j_lv K [] (lv' := []) rfl ?_
    exact kX0_isMove_30 K hr hgc  S true cc sc (h.1 hc) _ _ _ hh1 hm1 hc9 hs9
  · exact kX0_isMove_7 K hr hgc  x1 S true cc sc (h.2 hc) _ _ _ hh1 hm1 hc9 hs9
theorem ctX0_isMove {l : Launch} {D : va_G} {ct : Nat → ClassId} {G : gE} {g : GP} {fx : Nat → Nat} {tl : va_W} {S : CS} {T : TB} (hG : gOK G) (hgc : gHasC G g) (x1 : Int32) (hp : cOk S) (hT : tOK T) : mCi l D ct G g fx tl yX0_isMove (ws_ yX0_isMove cX0_isMove 2 (some .boolean)) 10 233 [.ref (fx 0), .int x1] S T true 0 0 (fun r S' => r = b2 (!overG S.1.2 && isMvX S.1.2 x1) ∧ S' = S) := fun sz =>
  j_met (Qc := fun A => va_Qi (fun (r : Int32) (u : CS × TB) => (fun (r : Int32) (S' : CS) => r = b2 (!overG S.1.2 && isMvX S.1.2 x1) ∧ S' = S) r u.1 ∧ extB true (pS S) T u.2) (fun (u : CS × TB) => cB D ct A (CW ct g.2.1 fx u.1 u.2 tl)) A) (by decide) hG (Nat.le_of_ble_eq_true rfl) (fun p e s m args below meth c A K hr _ _ => kX0_isMove_0 (H := (true, pS S, 0, 0)) (T0 := T) (post := fun r S' => r = b2 (!overG S.1.2 && isMvX S.1.2 x1) ∧ S' = S) K hr hgc x1 S false 0 0 (vcX0_isMove x1 hp) T 0 0 (hid.start hT) (fun z => (by cases z)) (Nat.zero_le _) (Nat.zero_le _))
-- worthNow()I
theorem kX0_worthNow_0 {p : Program} {l : Launch} {e : Env} {s : State} {m : MethodId} {args : Array Value} {below : List Frame} {meth : Method} {c : Code} {A : Nat → Prop} {D : va_G} {ct : Nat → ClassId} {G : gE} {g : GP} {fx : Nat → Nat} {tl : va_W} {H : HB} {T0 : TB} {post : Int32 → CS → Prop} (K : CX p s m args meth c cX0_worthNow 1 RX0 A D ct G) (hr : meth.sig.returnType = (some .int)) (hgc : gHasC G g)    (S : CS) (mk : Bool) (cc : Nat) (sc : Nat) (h : wX0_worthNow_0 H post  S mk cc sc) : jM p l e s m args below meth c A D ct g fx tl 8 193 1 H T0 post S mk cc sc 0 [(0, .ref (fx 0))] [] := by
  unfold wX0_worthNow_0 at h
  intro T kc ks hh hm hc9 hs9
  have hG := K.2.2.2.2.2.2.2.2.2
  refine j_aload_n K 0 dX0_worthNow_0 rfl rfl ?_
  obtain ⟨hp, h⟩ := h
  refine j_callVq K (As := []) (rest := []) (ctX0_table hG hgc hp.1.1 hh.tok) (lw_V q369 q371 qs10 q70 q372) (n := 0) (by decide +kernel) ⟨Nat.le_of_ble_eq_true rfl, Nat.le_of_ble_eq_true rfl⟩ 0 rfl rfl rfl rfl rfl (Nat.le_of_ble_eq_true rfl) dX0_worthNow_1 (hh.roomT hm hp.2 hc9 hs9) (fun r_1 u_1 hq => ?_)
  obtain ⟨Su1, Tu1⟩ := u_1
  obtain ⟨⟨hq0, tx_1, hx_1, hq⟩, he⟩ := hq
  have hq0 : S = Su1 := hq0.symm
  subst hq0
  have hx_1 : Tu1 (pS S) = some tx_1 := hx_1
  have hq : r_1 = some (tx_1.1 0) := hq
  subst hq
  have hh1 := hh.callT hp.2.2 he
  have hm1 : true = true → H.1 = true := fun _ => hp.2.1
  show jJ p l e _ s m args below meth c _ A D _ (CW ct g.2.1 fx S Tu1 tl) _ _ _ _ (.ref (tx_1.1 0) :: _)
  refine j_aload_n K 0 dX0_worthNow_4 rfl rfl ?_
  refine j_get K in_X0 0 rfl rfl 1 (by decide) q263 rfl rfl dX0_worthNow_5 ?_
  refine j_getN K in_X2 7 rfl rfl 1 (by decide) (K.fn hgc 1 rfl) rfl rfl dX0_worthNow_8 ?_
  refine j_iconst K (0 : Int32) dX0_worthNow_11 (by decide) ?_
  refine j_iald K 9 0 rfl rfl (vin (n := 0) (by decide)) dX0_worthNow_12 ?_
  refine j_aload_n K 0 dX0_worthNow_13 rfl rfl ?_
  refine j_get K in_X0 0 rfl rfl 1 (by decide) q263 rfl rfl dX0_worthNow_14 ?_
  refine j_getN K in_X2 7 rfl rfl 1 (by decide) (K.fn hgc 1 rfl) rfl rfl dX0_worthNow_17 ?_
  refine j_iconst K (1 : Int32) dX0_worthNow_20 (by decide) ?_
  refine j_iald K 9 0 rfl rfl (vin (n := 1) (by decide)) dX0_worthNow_21 ?_
  refine j_aload_n K 0 dX0_worthNow_22 rfl rfl ?_
  refine j_get K in_X0 0 rfl rfl 1 (by decide) q263 rfl rfl dX0_worthNow_23 ?_
  refine j_getN K in_X2 7 rfl rfl 2 (by decide) (K.fn hgc 2 rfl) rfl rfl dX0_worthNow_26 ?_
  obtain ⟨bd_1, hp, h⟩ := h
  have hpI := hp.1
  obtain ⟨i9, hi9⟩ := tab_in (ct := ct) (g := g) (fx := fx) (tl := tl) (pS_lt hpI) hx_1
  refine j_callVi K (As := [.int (set2 (cur S.1.2).1 (cur S.1.2).2.1 (0 : Int32).toNatClampNeg), .int (set2 (cur S.1.2).1 (cur S.1.2).2.1 (1 : Int32).toNatClampNeg), .int (nI (cur S.1.2).2.2)]) (rest := []) (pureM hG (ctT_worth hG hgc hp.1 hh1.tok hx_1 hp.2.1 hp.2.2.1 hp.2.2.2.1 hp.2.2.2.2)) (lw_V q614 q476 q477 q88 q478) (n := 3) (by decide +kernel) ⟨Nat.le_of_ble_eq_true rfl, Nat.le_of_ble_eq_true rfl⟩ i9 hi9 rfl rfl rfl rfl (Nat.le_of_ble_eq_true rfl) dX0_worthNow_29 (hh1.room0 hm1 hc9 hs9) (fun r_2 _ hq => ?_)
  have hq : r_2 = (iI (wrb S.1.2.1 S.1.2.2.1 bd_1)) := hq
  subst hq
  exact m_iret K hr hh1 hm1 hc9 hs9 h dX0_worthNow_32
theorem ctX0_worthNow {l : Launch} {D : va_G} {ct : Nat → ClassId} {G : gE} {g : GP} {fx : Nat → Nat} {tl : va_W} {S : CS} {T : TB} (hG : gOK G) (hgc : gHasC G g)  (hp : cOk S) (hT : tOK T) : mCi l D ct G g fx tl yX0_worthNow (ws_ yX0_worthNow cX0_worthNow 1 (some .int)) 8 193 [.ref (fx 0)] S T true 0 0 (fun r S' => r = iI (wG S.1.2) ∧ S' = S) := fun sz =>
  j_met (Qc := fun A => va_Qi (fun (r : Int32) (u : CS × TB) => (fun (r : Int32) (S' : CS) => r = iI (wG S.1.2) ∧ S' = S) r u.1 ∧ extB true (pS S) T u.2) (fun (u : CS × TB) => cB D ct A (CW ct g.2.1 fx u.1 u.2 tl)) A) (by decide) hG (Nat.le_of_ble_eq_true rfl) (fun p e s m args below meth c A K hr _ _ => kX0_worthNow_0 (H := (true, pS S, 0, 0)) (T0 := T) (post := fun r S' => r = iI (wG S.1.2) ∧ S' = S) K hr hgc  S false 0 0 (vcX0_worthNow  hp) T 0 0 (hid.start hT) (fun z => (by cases z)) (Nat.zero_le _) (Nat.zero_le _))
-- behindNow(I)I
theorem kX0_behindNow_0 {p : Program} {l : Launch} {e : Env} {s : State} {m : MethodId} {args : Array Value} {below : List Frame} {meth : Method} {c : Code} {A : Nat → Prop} {D : va_G} {ct : Nat → ClassId} {G : gE} {g : GP} {fx : Nat → Nat} {tl : va_W} {H : HB} {T0 : TB} {post : Int32 → CS → Prop} (K : CX p s m args meth c cX0_behindNow 2 RX0 A D ct G) (hr : meth.sig.returnType = (some .int)) (hgc : gHasC G g)   (x1 : Int32) (S : CS) (mk : Bool) (cc : Nat) (sc : Nat) (h : wX0_behindNow_0 H post  x1 S mk cc sc) : jM p l e s m args below meth c A D ct g fx tl 8 193 2 H T0 post S mk cc sc 0 [(0, .ref (fx 0)), (1, .int x1)] [] := by
  unfold wX0_behindNow_0 at h
  intro T kc ks hh hm hc9 hs9
  have hG := K.2.2.2.2.2.2.2.2.2
  refine j_aload_n K 0 dX0_behindNow_0 rfl rfl ?_
  obtain ⟨hp, h⟩ := h
  refine j_callVq K (As := []) (rest := []) (ctX0_table hG hgc hp.1.1 hh.tok) (lw_V q369 q371 qs10 q70 q372) (n := 0) (by decide +kernel) ⟨Nat.le_of_ble_eq_true rfl, Nat.le_of_ble_eq_true rfl⟩ 0 rfl rfl rfl rfl rfl (Nat.le_of_ble_eq_true rfl) dX0_behindNow_1 (hh.roomT hm hp.2 hc9 hs9) (fun r_1 u_1 hq => ?_)
  obtain ⟨Su1, Tu1⟩ := u_1
  obtain ⟨⟨hq0, tx_1, hx_1, hq⟩, he⟩ := hq
  have hq0 : S = Su1 := hq0.symm
  subst hq0
  have hx_1 : Tu1 (pS S) = some tx_1 := hx_1
  have hq : r_1 = some (tx_1.1 0) := hq
  subst hq
  have hh1 := hh.callT hp.2.2 he
  have hm1 : true = true → H.1 = true := fun _ => hp.2.1
  show jJ p l e _ s m args below meth c _ A D _ (CW ct g.2.1 fx S Tu1 tl) _ _ _ _ (.ref (tx_1.1 0) :: _)
  refine j_aload_n K 0 dX0_behindNow_4 rfl rfl ?_
  refine j_get K in_X0 0 rfl rfl 1 (by decide) q263 rfl rfl dX0_behindNow_5 ?_
  refine j_getN K in_X2 7 rfl rfl 1 (by decide) (K.fn hgc 1 rfl) rfl rfl dX0_behindNow_8 ?_
  refine j_iconst K (0 : Int32) dX0_behindNow_11 (by decide) ?_
  refine j_iald K 9 0 rfl rfl (vin (n := 0) (by decide)) dX0_behindNow_12 ?_
  refine j_aload_n K 0 dX0_behindNow_13 rfl rfl ?_
  refine j_get K in_X0 0 rfl rfl 1 (by decide) q263 rfl rfl dX0_behindNow_14 ?_
  refine j_getN K in_X2 7 rfl rfl 1 (by decide) (K.fn hgc 1 rfl) rfl rfl dX0_behindNow_17 ?_
  refine j_iconst K (1 : Int32) dX0_behindNow_20 (by decide) ?_
  refine j_iald K 9 0 rfl rfl (vin (n := 1) (by decide)) dX0_behindNow_21 ?_
  refine j_aload_n K 0 dX0_behindNow_22 rfl rfl ?_
  refine j_get K in_X0 0 rfl rfl 1 (by decide) q263 rfl rfl dX0_behindNow_23 ?_
  refine j_getN K in_X2 7 rfl rfl 2 (by decide) (K.fn hgc 2 rfl) rfl rfl dX0_behindNow_26 ?_
  refine j_iload_n K 1 dX0_behindNow_29 rfl rfl ?_
  obtain ⟨bq_1, hp, h⟩ := h
  have hpI := hp.1
  obtain ⟨i9, hi9⟩ := tab_in (ct := ct) (g := g) (fx := fx) (tl := tl) (pS_lt hpI) hx_1
  refine j_callVi K (As := [.int (set2 (cur S.1.2).1 (cur S.1.2).2.1 (0 : Int32).toNatClampNeg), .int (set2 (cur S.1.2).1 (cur S.1.2).2.1 (1 : Int32).toNatClampNeg), .int (nI (cur S.1.2).2.2), .int x1]) (rest := []) (pureM hG (ctT_behind hG hgc hp.1 hh1.tok hx_1 hp.2.1 hp.2.2.1 hp.2.2.2.1 hp.2.2.2.2.1 hp.2.2.2.2.2)) (lw_V q619 q494 q495 q88 q496) (n := 4) (by decide +kernel) ⟨Nat.le_of_ble_eq_true rfl, Nat.le_of_ble_eq_true rfl⟩ i9 hi9 rfl rfl rfl rfl (Nat.le_of_ble_eq_true rfl) dX0_behindNow_30 (hh1.room0 hm1 hc9 hs9) (fun r_2 _ hq => ?_)
  have hq : r_2 = (iI (wB S.1.2 bq_1)) := hq
  subst hq
  exact m_iret K hr hh1 hm1 hc9 hs9 h dX0_behindNow_33
theorem ctX0_behindNow {l : Launch} {D : va_G} {ct : Nat → ClassId} {G : gE} {g : GP} {fx : Nat → Nat} {tl : va_W} {S : CS} {T : TB} (hG : gOK G) (hgc : gHasC G g) (x1 : Int32) (hp : cOk S) (ho : ∃ q ∈ mvC S.1.2, x1 = nI q) (hT : tOK T) : mCi l D ct G g fx tl yX0_behindNow (ws_ yX0_behindNow cX0_behindNow 2 (some .int)) 8 193 [.ref (fx 0), .int x1] S T true 0 0 (fun r S' => r = iI (wB S.1.2 x1.toNatClampNeg) ∧ S' = S) := fun sz =>
  j_met (Qc := fun A => va_Qi (fun (r : Int32) (u : CS × TB) => (fun (r : Int32) (S' : CS) => r = iI (wB S.1.2 x1.toNatClampNeg) ∧ S' = S) r u.1 ∧ extB true (pS S) T u.2) (fun (u : CS × TB) => cB D ct A (CW ct g.2.1 fx u.1 u.2 tl)) A) (by decide) hG (Nat.le_of_ble_eq_true rfl) (fun p e s m args below meth c A K hr _ _ => kX0_behindNow_0 (H := (true, pS S, 0, 0)) (T0 := T) (post := fun r S' => r = iI (wB S.1.2 x1.toNatClampNeg) ∧ S' = S) K hr hgc x1 S false 0 0 (vcX0_behindNow x1 hp ho) T 0 0 (hid.start hT) (fun z => (by cases z)) (Nat.zero_le _) (Nat.zero_le _))
-- begun(IZ)I
theorem kX0_begun_12 {p : Program} {l : Launch} {e : Env} {s : State} {m : MethodId} {args : Array Value} {below : List Frame} {meth : Method} {c : Code} {A : Nat → Prop} {D : va_G} {ct : Nat → ClassId} {G : gE} {g : GP} {fx : Nat → Nat} {tl : va_W} {H : HB} {T0 : TB} {post : Int32 → CS → Prop} (K : CX p s m args meth c cX0_begun 3 RX0 A D ct G) (hr : meth.sig.returnType = (some .int)) (hgc : gHasC G g)   (x1 : Int32) (S : CS) (mk : Bool) (cc : Nat) (sc : Nat) (h : wX0_begun_12 H post  x1 S mk cc sc) : jM p l e s m args below meth c A D ct g fx tl 8 183 3 H T0 post S mk cc sc 12 [(1, .int x1)] [] := by
  unfold wX0_begun_12 at h
  intro T kc ks hh hm hc9 hs9
  have hG := K.2.2.2.2.2.2.2.2.2
  refine j_iload_n K 0 dX0_begun_12 rfl rfl ?_
  exact m_iret K hr hh hm hc9 hs9 h dX0_begun_13
theorem kX0_begun_8 {p : Program} {l : Launch} {e : Env} {s : State} {m : MethodId} {args : Array Value} {below : List Frame} {meth : Method} {c : Code} {A : Nat → Prop} {D : va_G} {ct : Nat → ClassId} {G : gE} {g : GP} {fx : Nat → Nat} {tl : va_W} {H : HB} {T0 : TB} {post : Int32 → CS → Prop} (K : CX p s m args meth c cX0_begun 3 RX0 A D ct G) (hr : meth.sig.returnType = (some .int)) (hgc : gHasC G g)   (x1 : Int32) (S : CS) (mk : Bool) (cc : Nat) (sc : Nat) (h : wX0_begun_8 H post  x1 S mk cc sc) : jM p l e s m args below meth c A D ct g fx tl 8 183 3 H T0 post S mk cc sc 8 [(0, .ref (fx 0)), (1, .int x1)] [] := by
  unfold wX0_begun_8 at h
  intro T kc ks hh hm hc9 hs9
  have hG := K.2.2.2.2.2.2.2.2.2
  refine j_aload_n K 0 dX0_begun_8 rfl rfl ?_
  obtain ⟨hp, h⟩ := h
  obtain ⟨hrm, h⟩ := h
  refine j_callVv K (As := []) (rest := []) (ctX0_record hG hgc hp hh.tok) (lw_V q290 q292 qs4 q70 q293) (n := 0) (by decide +kernel) ⟨Nat.le_of_ble_eq_true rfl, Nat.le_of_ble_eq_true rfl⟩ 0 rfl rfl rfl rfl rfl (Nat.le_of_ble_eq_true rfl) dX0_begun_9 (hh.roomF hm hrm.1 hrm.2) (fun u_9 hq => ?_)
  obtain ⟨S_2, Tu9⟩ := u_9
  obtain ⟨hq, he⟩ := hq
  have hh1 := hh.callF (c' := (rcC S)) (s' := (rcS S)) he
  have hm1 := hm
  have hc1 := hrm.1
  have hs1 := hrm.2
  replace h := h S_2 hq
  show jJ p l e _ s m args below meth c _ A D _ (CW ct g.2.1 fx S_2 Tu9 tl) _ _ _ _ _
  refine j_lv K [1] (lv' := [(1, .int x1)]) rfl ?_
  exact kX0_begun_12 K hr hgc  x1 S_2 mk (cc + (rcC S)) (sc + (rcS S)) h _ _ _ hh1 hm1 hc1 hs1
theorem kX0_begun_4 {p : Program} {l : Launch} {e : Env} {s : State} {m : MethodId} {args : Array Value} {below : List Frame} {meth : Method} {c : Code} {A : Nat → Prop} {D : va_G} {ct : Nat → ClassId} {G : gE} {g : GP} {fx : Nat → Nat} {tl : va_W} {H : HB} {T0 : TB} {post : Int32 → CS → Prop} (K : CX p s m args meth c cX0_begun 3 RX0 A D ct G) (hr : meth.sig.returnType = (some .int)) (hgc : gHasC G g)   (x1 : Int32) (x2 : Int32) (S : CS) (mk : Bool) (cc : Nat) (sc : Nat) (h : wX0_begun_4 H post  x1 x2 S mk cc sc) : jM p l e s m args below meth c A D ct g fx tl 8 183 3 H T0 post S mk cc sc 4 [(0, .ref (fx 0)), (1, .int x1), (2, .int x2)] [] := by
  unfold wX0_begun_4 at h
  intro T kc ks hh hm hc9 hs9
  have hG := K.2.2.2.2.2.2.2.2.2
  refine j_iload_n K 2 dX0_begun_4 rfl rfl ?_
  refine j_if_eq K 12 dX0_begun_5 (by decide) (fun hc => ?_) (fun hc => ?_)
  · refine j_lv K [1] (lv' := [(1, .int x1)]) rfl ?_
    exact kX0_begun_12 K hr hgc  x1 S mk cc sc (h.1 hc) _ _ _ hh hm hc9 hs9
  · refine j_lv K [0, 1] (lv' := [(0, .ref (fx 0)), (1, .int x1)]) rfl ?_
    exact kX0_begun_8 K hr hgc  x1 S mk cc sc (h.2 hc) _ _ _ hh hm hc9 hs9
theorem kX0_begun_0 {p : Program} {l : Launch} {e : Env} {s : State} {m : MethodId} {args : Array Value} {below : List Frame} {meth : Method} {c : Code} {A : Nat → Prop} {D : va_G} {ct : Nat → ClassId} {G : gE} {g : GP} {fx : Nat → Nat} {tl : va_W} {H : HB} {T0 : TB} {post : Int32 → CS → Prop} (K : CX p s m args meth c cX0_begun 3 RX0 A D ct G) (hr : meth.sig.returnType = (some .int)) (hgc : gHasC G g)   (x1 : Int32) (x2 : Int32) (S : CS) (mk : Bool) (cc : Nat) (sc : Nat) (h : wX0_begun_0 H post  x1 x2 S mk cc sc) : jM p l e s m args below meth c A D ct g fx tl 8 183 3 H T0 post S mk cc sc 0 [(0, .ref (fx 0)), (1, .int x1), (2, .int x2)] [] := by
  unfold wX0_begun_0 at h
  intro T kc ks hh hm hc9 hs9
  have hG := K.2.2.2.2.2.2.2.2.2
  refine j_iload_n K 1 dX0_begun_0 rfl rfl ?_
  refine j_if_ne K 12 dX0_begun_1 (by decide) (fun hc => ?_) (fun hc => ?_)
  · refine j_lv K [1] (lv' := [(1, .int x1)]) rfl ?_
    exact kX0_begun_12 K hr hgc  x1 S mk cc sc (h.1 hc) _ _ _ hh hm hc9 hs9
  · exact kX0_begun_4 K hr hgc  x1 x2 S mk cc sc (h.2 hc) _ _ _ hh hm hc9 hs9
theorem ctX0_begun {l : Launch} {D : va_G} {ct : Nat → ClassId} {G : gE} {g : GP} {fx : Nat → Nat} {tl : va_W} {S : CS} {T : TB} (hG : gOK G) (hgc : gHasC G g) (x1 : Int32) (x2 : Int32) (hp : cOk S) (hT : tOK T) : mCi l D ct G g fx tl yX0_begun (ws_ yX0_begun cX0_begun 3 (some .int)) 8 183 [.ref (fx 0), .int x1, .int x2] S T false (bgC x1 x2 S) (bgS x1 x2 S) (fun r S' => r = x1 ∧ ((x1 = 0 ∧ x2 ≠ 0 ∧ ∃ (u : Nat → Nat) (b : Nat) (mo : Int32), S' = recX S u b mo) ∨ (¬ (x1 = 0 ∧ x2 ≠ 0) ∧ S' = S))) := fun sz =>
  j_met (Qc := fun A => va_Qi (fun (r : Int32) (u : CS × TB) => (fun (r : Int32) (S' : CS) => r = x1 ∧ ((x1 = 0 ∧ x2 ≠ 0 ∧ ∃ (u : Nat → Nat) (b : Nat) (mo : Int32), S' = recX S u b mo) ∨ (¬ (x1 = 0 ∧ x2 ≠ 0) ∧ S' = S))) r u.1 ∧ extB false (pS S) T u.2) (fun (u : CS × TB) => cB D ct A (CW ct g.2.1 fx u.1 u.2 tl)) A) (by decide) hG (Nat.le_of_ble_eq_true rfl) (fun p e s m args below meth c A K hr _ _ => kX0_begun_0 (H := (false, pS S, (bgC x1 x2 S), (bgS x1 x2 S))) (T0 := T) (post := fun r S' => r = x1 ∧ ((x1 = 0 ∧ x2 ≠ 0 ∧ ∃ (u : Nat → Nat) (b : Nat) (mo : Int32), S' = recX S u b mo) ∨ (¬ (x1 = 0 ∧ x2 ≠ 0) ∧ S' = S))) K hr hgc x1 x2 S false 0 0 (vcX0_begun x1 x2 hp) T 0 0 (hid.start hT) (fun z => (by cases z)) (Nat.zero_le _) (Nat.zero_le _))
