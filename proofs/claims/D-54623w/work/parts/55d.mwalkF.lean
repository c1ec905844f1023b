/-! WALK of MorrisTables, F: printed by gen_mainF.py -/
-- put(J)I
theorem kX0_put_66 {p : Program} {l : Launch} {e : Env} {s : State} {m : MethodId} {args : Array Value} {below : List Frame} {meth : Method} {c : Code} {A : Nat → Prop} {D : va_G} {ct : Nat → ClassId} {G : gE} {g : GP} {fx : Nat → Nat} {tl : va_W} {H : HB} {T0 : TB} {post : Int32 → CS → Prop} (K : CX p s m args meth c cX0_put 7 RX0 A D ct G) (hr : meth.sig.returnType = (some .int)) (hgc : gHasC G g)    (S : CS) (mk : Bool) (cc : Nat) (sc : Nat) (h : wX0_put_66 H post  S mk cc sc) : jM p l e s m args below meth c A D ct g fx tl 6 133 7 H T0 post S mk cc sc 66 [] [] := by
  unfold wX0_put_66 at h
  intro T kc ks hh hm hcl hsl
  have hG := K.2.2.2.2.2.2.2.2.2
  refine j_bipush K (-2 : Int32) dX0_put_66 (by decide) ?_
  exact m_iret K hr hh hm hcl hsl h dX0_put_68
theorem kX0_put_123 {p : Program} {l : Launch} {e : Env} {s : State} {m : MethodId} {args : Array Value} {below : List Frame} {meth : Method} {c : Code} {A : Nat → Prop} {D : va_G} {ct : Nat → ClassId} {G : gE} {g : GP} {fx : Nat → Nat} {tl : va_W} {H : HB} {T0 : TB} {post : Int32 → CS → Prop} (K : CX p s m args meth c cX0_put 7 RX0 A D ct G) (hr : meth.sig.returnType = (some .int)) (hgc : gHasC G g)    (S : CS) (mk : Bool) (cc : Nat) (sc : Nat) (h : wX0_put_123 H post  S mk cc sc) : jM p l e s m args below meth c A D ct g fx tl 6 133 7 H T0 post S mk cc sc 123 [(0, .ref (fx 0))] [] := by
  unfold wX0_put_123 at h
  intro T kc ks hh hm hcl hsl
  have hG := K.2.2.2.2.2.2.2.2.2
  refine j_aload_n K 0 dX0_put_123 rfl rfl ?_
  refine j_get K in_X0 0 rfl rfl 4 (by decide) q267 rfl rfl dX0_put_124 ?_
  refine j_callVi K (As := []) (rest := []) (pureM hG (ctC_len hG hh.tok)) (lw_V q632 q633 q634 q81 q635) (n := 0) (by decide +kernel) ⟨Nat.le_of_ble_eq_true rfl, Nat.le_of_ble_eq_true rfl⟩ 5 rfl rfl rfl rfl rfl (Nat.le_of_ble_eq_true rfl) dX0_put_127 (hh.room0 hm hcl hsl) (fun r_1 _ hq => ?_)
  have hq : r_1 = (nI S.2.2.2.1.2.2.2.length) := hq
  subst hq
  exact m_iret K hr hh hm hcl hsl h dX0_put_130
theorem kX0_put_96 {p : Program} {l : Launch} {e : Env} {s : State} {m : MethodId} {args : Array Value} {below : List Frame} {meth : Method} {c : Code} {A : Nat → Prop} {D : va_G} {ct : Nat → ClassId} {G : gE} {g : GP} {fx : Nat → Nat} {tl : va_W} {H : HB} {T0 : TB} {post : Int32 → CS → Prop} (K : CX p s m args meth c cX0_put 7 RX0 A D ct G) (hr : meth.sig.returnType = (some .int)) (hgc : gHasC G g) (L91 : Int64 → Int32 → CS → Bool → Nat → Nat → Prop) (hL91 : ∀ (x1 : Int64) (x6 : Int32) (S : CS) (mk : Bool) (cc : Nat) (sc : Nat), L91 x1 x6 S mk cc sc → jM p l e s m args below meth c A D ct g fx tl 6 133 7 H T0 post S mk cc sc 91 [(0, .ref (fx 0)), (1, .long x1), (6, .int x6)] []) (x1 : Int64) (x6 : Int32) (S : CS) (mk : Bool) (cc : Nat) (sc : Nat) (h : wX0_put_96 H post L91 x1 x6 S mk cc sc) : jM p l e s m args below meth c A D ct g fx tl 6 133 7 H T0 post S mk cc sc 96 [(0, .ref (fx 0)), (1, .long x1), (6, .int x6)] [] := by
  unfold wX0_put_96 at h
  intro T kc ks hh hm hcl hsl
  have hG := K.2.2.2.2.2.2.2.2.2
  refine j_aload_n K 0 dX0_put_96 rfl rfl ?_
  refine j_get K in_X0 0 rfl rfl 4 (by decide) q267 rfl rfl dX0_put_97 ?_
  refine j_lload_n K 1 dX0_put_100 rfl rfl ?_
  refine j_bipush K (8 : Int32) dX0_put_101 (by decide) ?_
  refine j_iload K 2 dX0_put_103 rfl ?_
  refine j_imul K dX0_put_105 ?_
  refine j_lshr K dX0_put_106 ?_
  refine j_ldc2 K q707 dX0_put_107 ?_
  refine j_land K dX0_put_110 ?_
  refine j_l2i K dX0_put_111 ?_
  refine j_i2c K dX0_put_112 ?_
  obtain ⟨hp, h⟩ := h
  obtain ⟨hrm, h⟩ := h
  refine j_callVq K (As := [.int (((((x1 >>> (((8 : Int32) * x6).toInt64 &&& 63)) &&& (255 : Int64)).toInt32).toUInt32 % 65536).toInt32)]) (rest := []) (ctC_appX hG hgc hh.tok hp.1 hp.2.1 hp.2.2.1 hp.2.2.2) (lw_V q708 q709 q710 q81 q711) (n := 1) (by decide +kernel) ⟨Nat.le_of_ble_eq_true rfl, Nat.le_of_ble_eq_true rfl⟩ 5 rfl rfl rfl rfl rfl (Nat.le_of_ble_eq_true rfl) dX0_put_113 (hh.roomF hm hrm.1 hrm.2) (fun r_1 u_113 hq => ?_)
  obtain ⟨S_2, Tu113⟩ := u_113
  obtain ⟨hq, he⟩ := hq
  have hh1 := hh.callF (c' := (apC S.2.2.2.1.2.2.2.length S.2.2.2.1.2.1)) (s' := (apS S.2.2.2.1.2.2.2.length S.2.2.2.1.2.1)) he
  have hm1 := hm
  have hcl1 := hrm.1
  have hsl1 := hrm.2
  replace h := h S_2 hq.2
  rw [hq.1]
  show jJ p l e _ s m args below meth c _ A D _ (CW ct g.2.1 fx S_2 Tu113 tl) _ _ _ _ _
  refine j_pop K dX0_put_116 rfl ?_
  refine j_iinc K 2 (x6 + (-1 : Int32)) [(6, .int (x6 + (-1 : Int32))), (0, .ref (fx 0)), (1, .long x1)] dX0_put_117 rfl rfl (by decide) rfl ?_
  refine j_goto K 91 dX0_put_120 (by decide) ?_
  refine j_lv K [1, 2, 0] (lv' := [(0, .ref (fx 0)), (1, .long x1), (6, .int (x6 + (-1 : Int32)))]) rfl ?_
  exact hL91 x1 (x6 + (-1 : Int32)) S_2 mk (cc + (apC S.2.2.2.1.2.2.2.length S.2.2.2.1.2.1)) (sc + (apS S.2.2.2.1.2.2.2.length S.2.2.2.1.2.1)) h _ _ _ hh1 hm1 hcl1 hsl1
theorem kX0_put_91_b {p : Program} {l : Launch} {e : Env} {s : State} {m : MethodId} {args : Array Value} {below : List Frame} {meth : Method} {c : Code} {A : Nat → Prop} {D : va_G} {ct : Nat → ClassId} {G : gE} {g : GP} {fx : Nat → Nat} {tl : va_W} {H : HB} {T0 : TB} {post : Int32 → CS → Prop} (K : CX p s m args meth c cX0_put 7 RX0 A D ct G) (hr : meth.sig.returnType = (some .int)) (hgc : gHasC G g) (L91 : Int64 → Int32 → CS → Bool → Nat → Nat → Prop) (hL91 : ∀ (x1 : Int64) (x6 : Int32) (S : CS) (mk : Bool) (cc : Nat) (sc : Nat), L91 x1 x6 S mk cc sc → jM p l e s m args below meth c A D ct g fx tl 6 133 7 H T0 post S mk cc sc 91 [(0, .ref (fx 0)), (1, .long x1), (6, .int x6)] []) (x1 : Int64) (x6 : Int32) (S : CS) (mk : Bool) (cc : Nat) (sc : Nat) (h : wX0_put_91_b H post L91 x1 x6 S mk cc sc) : jM p l e s m args below meth c A D ct g fx tl 6 133 7 H T0 post S mk cc sc 91 [(0, .ref (fx 0)), (1, .long x1), (6, .int x6)] [] := by
  unfold wX0_put_91_b at h
  intro T kc ks hh hm hcl hsl
  have hG := K.2.2.2.2.2.2.2.2.2
  refine j_iload K 2 dX0_put_91 rfl ?_
  refine j_if_lt K 123 dX0_put_93 (by decide) (fun hc => ?_) (fun hc => ?_)
  · refine j_lv K [0] (lv' := [(0, .ref (fx 0))]) rfl ?_
    exact kX0_put_123 K hr hgc  S mk cc sc (h.1 hc) _ _ _ hh hm hcl hsl
  · exact kX0_put_96 K hr hgc L91 hL91 x1 x6 S mk cc sc (h.2 hc) _ _ _ hh hm hcl hsl
theorem kX0_put_91 {p : Program} {l : Launch} {e : Env} {s : State} {m : MethodId} {args : Array Value} {below : List Frame} {meth : Method} {c : Code} {A : Nat → Prop} {D : va_G} {ct : Nat → ClassId} {G : gE} {g : GP} {fx : Nat → Nat} {tl : va_W} {H : HB} {T0 : TB} {post : Int32 → CS → Prop} (K : CX p s m args meth c cX0_put 7 RX0 A D ct G) (hr : meth.sig.returnType = (some .int)) (hgc : gHasC G g)   (x1 : Int64) (x6 : Int32) (S : CS) (mk : Bool) (cc : Nat) (sc : Nat) (h : wX0_put_91 H post  x1 x6 S mk cc sc) : jM p l e s m args below meth c A D ct g fx tl 6 133 7 H T0 post S mk cc sc 91 [(0, .ref (fx 0)), (1, .long x1), (6, .int x6)] [] :=
  wloop_sound (V := Int64 × Int32 × CS × Bool × Nat × Nat) (Wk := fun v => jM p l e s m args below meth c A D ct g fx tl 6 133 7 H T0 post v.2.2.1 v.2.2.2.1 v.2.2.2.2.1 v.2.2.2.2.2 91 [(0, .ref (fx 0)), (1, .long v.1), (6, .int v.2.1)] []) (fun L hL v hb => kX0_put_91_b K hr hgc (fun x1 x6 S mk cc sc => L (x1, x6, S, mk, cc, sc)) (fun x1 x6 S mk cc sc hx => hL (x1, x6, S, mk, cc, sc) hx) v.1 v.2.1 v.2.2.1 v.2.2.2.1 v.2.2.2.2.1 v.2.2.2.2.2 hb) h
theorem kX0_put_86 {p : Program} {l : Launch} {e : Env} {s : State} {m : MethodId} {args : Array Value} {below : List Frame} {meth : Method} {c : Code} {A : Nat → Prop} {D : va_G} {ct : Nat → ClassId} {G : gE} {g : GP} {fx : Nat → Nat} {tl : va_W} {H : HB} {T0 : TB} {post : Int32 → CS → Prop} (K : CX p s m args meth c cX0_put 7 RX0 A D ct G) (hr : meth.sig.returnType = (some .int)) (hgc : gHasC G g)   (x1 : Int64) (x3 : Int32) (S : CS) (mk : Bool) (cc : Nat) (sc : Nat) (h : wX0_put_86 H post  x1 x3 S mk cc sc) : jM p l e s m args below meth c A D ct g fx tl 6 133 7 H T0 post S mk cc sc 86 [(0, .ref (fx 0)), (1, .long x1), (3, .int x3)] [] := by
  unfold wX0_put_86 at h
  intro T kc ks hh hm hcl hsl
  have hG := K.2.2.2.2.2.2.2.2.2
  refine j_iload_n K 2 dX0_put_86 rfl rfl ?_
  refine j_iconst K (1 : Int32) dX0_put_87 (by decide) ?_
  refine j_isub K dX0_put_88 ?_
  refine j_istore K [(6, .int (x3 - (1 : Int32))), (0, .ref (fx 0)), (1, .long x1), (3, .int x3)] dX0_put_89 (by decide) rfl ?_
  refine j_lv K [1, 2, 0] (lv' := [(0, .ref (fx 0)), (1, .long x1), (6, .int (x3 - (1 : Int32)))]) rfl ?_
  exact kX0_put_91 K hr hgc  x1 (x3 - (1 : Int32)) S mk cc sc h _ _ _ hh hm hcl hsl
theorem kX0_put_83 {p : Program} {l : Launch} {e : Env} {s : State} {m : MethodId} {args : Array Value} {below : List Frame} {meth : Method} {c : Code} {A : Nat → Prop} {D : va_G} {ct : Nat → ClassId} {G : gE} {g : GP} {fx : Nat → Nat} {tl : va_W} {H : HB} {T0 : TB} {post : Int32 → CS → Prop} (K : CX p s m args meth c cX0_put 7 RX0 A D ct G) (hr : meth.sig.returnType = (some .int)) (hgc : gHasC G g)    (S : CS) (mk : Bool) (cc : Nat) (sc : Nat) (h : wX0_put_83 H post  S mk cc sc) : jM p l e s m args below meth c A D ct g fx tl 6 133 7 H T0 post S mk cc sc 83 [] [] := by
  unfold wX0_put_83 at h
  intro T kc ks hh hm hcl hsl
  have hG := K.2.2.2.2.2.2.2.2.2
  refine j_bipush K (-4 : Int32) dX0_put_83 (by decide) ?_
  exact m_iret K hr hh hm hcl hsl h dX0_put_85
theorem kX0_put_69 {p : Program} {l : Launch} {e : Env} {s : State} {m : MethodId} {args : Array Value} {below : List Frame} {meth : Method} {c : Code} {A : Nat → Prop} {D : va_G} {ct : Nat → ClassId} {G : gE} {g : GP} {fx : Nat → Nat} {tl : va_W} {H : HB} {T0 : TB} {post : Int32 → CS → Prop} (K : CX p s m args meth c cX0_put 7 RX0 A D ct G) (hr : meth.sig.returnType = (some .int)) (hgc : gHasC G g)   (x1 : Int64) (x3 : Int32) (S : CS) (mk : Bool) (cc : Nat) (sc : Nat) (h : wX0_put_69 H post  x1 x3 S mk cc sc) : jM p l e s m args below meth c A D ct g fx tl 6 133 7 H T0 post S mk cc sc 69 [(0, .ref (fx 0)), (1, .long x1), (3, .int x3)] [] := by
  unfold wX0_put_69 at h
  intro T kc ks hh hm hcl hsl
  have hG := K.2.2.2.2.2.2.2.2.2
  refine j_aload_n K 0 dX0_put_69 rfl rfl ?_
  refine j_get K in_X0 0 rfl rfl 4 (by decide) q267 rfl rfl dX0_put_70 ?_
  refine j_callVi K (As := []) (rest := []) (pureM hG (ctC_len hG hh.tok)) (lw_V q632 q633 q634 q81 q635) (n := 0) (by decide +kernel) ⟨Nat.le_of_ble_eq_true rfl, Nat.le_of_ble_eq_true rfl⟩ 5 rfl rfl rfl rfl rfl (Nat.le_of_ble_eq_true rfl) dX0_put_73 (hh.room0 hm hcl hsl) (fun r_1 _ hq => ?_)
  have hq : r_1 = (nI S.2.2.2.1.2.2.2.length) := hq
  subst hq
  refine j_iload_n K 2 dX0_put_76 rfl rfl ?_
  refine j_iadd K dX0_put_77 ?_
  refine j_bipush K (80 : Int32) dX0_put_78 (by decide) ?_
  refine j_icmp_le K 86 dX0_put_80 (by decide) (fun hc => ?_) (fun hc => ?_)
  · exact kX0_put_86 K hr hgc  x1 x3 S mk cc sc (h.1 hc) _ _ _ hh hm hcl hsl
  · refine j_lv K [] (lv' := []) rfl ?_
    exact kX0_put_83 K hr hgc  S mk cc sc (h.2 hc) _ _ _ hh hm hcl hsl
theorem kX0_put_59 {p : Program} {l : Launch} {e : Env} {s : State} {m : MethodId} {args : Array Value} {below : List Frame} {meth : Method} {c : Code} {A : Nat → Prop} {D : va_G} {ct : Nat → ClassId} {G : gE} {g : GP} {fx : Nat → Nat} {tl : va_W} {H : HB} {T0 : TB} {post : Int32 → CS → Prop} (K : CX p s m args meth c cX0_put 7 RX0 A D ct G) (hr : meth.sig.returnType = (some .int)) (hgc : gHasC G g)   (x1 : Int64) (x3 : Int32) (x4 : Int64) (S : CS) (mk : Bool) (cc : Nat) (sc : Nat) (h : wX0_put_59 H post  x1 x3 x4 S mk cc sc) : jM p l e s m args below meth c A D ct g fx tl 6 133 7 H T0 post S mk cc sc 59 [(0, .ref (fx 0)), (1, .long x1), (3, .int x3), (4, .long x4)] [] := by
  unfold wX0_put_59 at h
  intro T kc ks hh hm hcl hsl
  have hG := K.2.2.2.2.2.2.2.2.2
  refine j_lload K 3 dX0_put_59 rfl ?_
  refine j_lconst K (0 : Int64) dX0_put_61 (by decide) ?_
  refine j_lcmp K dX0_put_62 ?_
  refine j_if_eq K 69 dX0_put_63 (by decide) (fun hc => ?_) (fun hc => ?_)
  · refine j_lv K [0, 1, 2] (lv' := [(0, .ref (fx 0)), (1, .long x1), (3, .int x3)]) rfl ?_
    exact kX0_put_69 K hr hgc  x1 x3 S mk cc sc (h.1 hc) _ _ _ hh hm hcl hsl
  · refine j_lv K [] (lv' := []) rfl ?_
    exact kX0_put_66 K hr hgc  S mk cc sc (h.2 hc) _ _ _ hh hm hcl hsl
theorem kX0_put_55 {p : Program} {l : Launch} {e : Env} {s : State} {m : MethodId} {args : Array Value} {below : List Frame} {meth : Method} {c : Code} {A : Nat → Prop} {D : va_G} {ct : Nat → ClassId} {G : gE} {g : GP} {fx : Nat → Nat} {tl : va_W} {H : HB} {T0 : TB} {post : Int32 → CS → Prop} (K : CX p s m args meth c cX0_put 7 RX0 A D ct G) (hr : meth.sig.returnType = (some .int)) (hgc : gHasC G g)   (x1 : Int64) (x3 : Int32) (x4 : Int64) (S : CS) (mk : Bool) (cc : Nat) (sc : Nat) (h : wX0_put_55 H post  x1 x3 x4 S mk cc sc) : jM p l e s m args below meth c A D ct g fx tl 6 133 7 H T0 post S mk cc sc 55 [(0, .ref (fx 0)), (1, .long x1), (3, .int x3), (4, .long x4)] [] := by
  unfold wX0_put_55 at h
  intro T kc ks hh hm hcl hsl
  have hG := K.2.2.2.2.2.2.2.2.2
  refine j_iload_n K 2 dX0_put_55 rfl rfl ?_
  refine j_if_eq K 66 dX0_put_56 (by decide) (fun hc => ?_) (fun hc => ?_)
  · refine j_lv K [] (lv' := []) rfl ?_
    exact kX0_put_66 K hr hgc  S mk cc sc (h.1 hc) _ _ _ hh hm hcl hsl
  · exact kX0_put_59 K hr hgc  x1 x3 x4 S mk cc sc (h.2 hc) _ _ _ hh hm hcl hsl
theorem kX0_put_42 {p : Program} {l : Launch} {e : Env} {s : State} {m : MethodId} {args : Array Value} {below : List Frame} {meth : Method} {c : Code} {A : Nat → Prop} {D : va_G} {ct : Nat → ClassId} {G : gE} {g : GP} {fx : Nat → Nat} {tl : va_W} {H : HB} {T0 : TB} {post : Int32 → CS → Prop} (K : CX p s m args meth c cX0_put 7 RX0 A D ct G) (hr : meth.sig.returnType = (some .int)) (hgc : gHasC G g) (L5 : Int64 → Int32 → Int64 → CS → Bool → Nat → Nat → Prop) (hL5 : ∀ (x1 : Int64) (x3 : Int32) (x4 : Int64) (S : CS) (mk : Bool) (cc : Nat) (sc : Nat), L5 x1 x3 x4 S mk cc sc → jM p l e s m args below meth c A D ct g fx tl 6 133 7 H T0 post S mk cc sc 5 [(0, .ref (fx 0)), (1, .long x1), (3, .int x3), (4, .long x4)] []) (x1 : Int64) (x3 : Int32) (x4 : Int64) (S : CS) (mk : Bool) (cc : Nat) (sc : Nat) (h : wX0_put_42 H post L5 x1 x3 x4 S mk cc sc) : jM p l e s m args below meth c A D ct g fx tl 6 133 7 H T0 post S mk cc sc 42 [(0, .ref (fx 0)), (1, .long x1), (3, .int x3), (4, .long x4)] [] := by
  unfold wX0_put_42 at h
  intro T kc ks hh hm hcl hsl
  have hG := K.2.2.2.2.2.2.2.2.2
  refine j_iinc K 2 (x3 + (1 : Int32)) [(3, .int (x3 + (1 : Int32))), (0, .ref (fx 0)), (1, .long x1), (4, .long x4)] dX0_put_42 rfl rfl (by decide) rfl ?_
  refine j_lload K 3 dX0_put_45 rfl ?_
  refine j_bipush K (8 : Int32) dX0_put_47 (by decide) ?_
  refine j_lushr K dX0_put_49 ?_
  refine j_lstore K [(4, .long ((x4.toUInt64 >>> ((8 : Int32).toInt64.toUInt64 &&& Int64.toUInt64 63)).toInt64)), (3, .int (x3 + (1 : Int32))), (0, .ref (fx 0)), (1, .long x1)] dX0_put_50 (by decide) rfl ?_
  refine j_goto K 5 dX0_put_52 (by decide) ?_
  refine j_lv K [2, 3, 1, 0] (lv' := [(0, .ref (fx 0)), (1, .long x1), (3, .int (x3 + (1 : Int32))), (4, .long ((x4.toUInt64 >>> ((8 : Int32).toInt64.toUInt64 &&& Int64.toUInt64 63)).toInt64))]) rfl ?_
  exact hL5 x1 (x3 + (1 : Int32)) ((x4.toUInt64 >>> ((8 : Int32).toInt64.toUInt64 &&& Int64.toUInt64 63)).toInt64) S mk cc sc h _ _ _ hh hm hcl hsl
theorem kX0_put_39 {p : Program} {l : Launch} {e : Env} {s : State} {m : MethodId} {args : Array Value} {below : List Frame} {meth : Method} {c : Code} {A : Nat → Prop} {D : va_G} {ct : Nat → ClassId} {G : gE} {g : GP} {fx : Nat → Nat} {tl : va_W} {H : HB} {T0 : TB} {post : Int32 → CS → Prop} (K : CX p s m args meth c cX0_put 7 RX0 A D ct G) (hr : meth.sig.returnType = (some .int)) (hgc : gHasC G g)    (S : CS) (mk : Bool) (cc : Nat) (sc : Nat) (h : wX0_put_39 H post  S mk cc sc) : jM p l e s m args below meth c A D ct g fx tl 6 133 7 H T0 post S mk cc sc 39 [] [] := by
  unfold wX0_put_39 at h
  intro T kc ks hh hm hcl hsl
  have hG := K.2.2.2.2.2.2.2.2.2
  refine j_bipush K (-2 : Int32) dX0_put_39 (by decide) ?_
  exact m_iret K hr hh hm hcl hsl h dX0_put_41
theorem kX0_put_22 {p : Program} {l : Launch} {e : Env} {s : State} {m : MethodId} {args : Array Value} {below : List Frame} {meth : Method} {c : Code} {A : Nat → Prop} {D : va_G} {ct : Nat → ClassId} {G : gE} {g : GP} {fx : Nat → Nat} {tl : va_W} {H : HB} {T0 : TB} {post : Int32 → CS → Prop} (K : CX p s m args meth c cX0_put 7 RX0 A D ct G) (hr : meth.sig.returnType = (some .int)) (hgc : gHasC G g) (L5 : Int64 → Int32 → Int64 → CS → Bool → Nat → Nat → Prop) (hL5 : ∀ (x1 : Int64) (x3 : Int32) (x4 : Int64) (S : CS) (mk : Bool) (cc : Nat) (sc : Nat), L5 x1 x3 x4 S mk cc sc → jM p l e s m args below meth c A D ct g fx tl 6 133 7 H T0 post S mk cc sc 5 [(0, .ref (fx 0)), (1, .long x1), (3, .int x3), (4, .long x4)] []) (x1 : Int64) (x3 : Int32) (x4 : Int64) (S : CS) (mk : Bool) (cc : Nat) (sc : Nat) (h : wX0_put_22 H post L5 x1 x3 x4 S mk cc sc) : jM p l e s m args below meth c A D ct g fx tl 6 133 7 H T0 post S mk cc sc 22 [(0, .ref (fx 0)), (1, .long x1), (3, .int x3), (4, .long x4)] [] := by
  unfold wX0_put_22 at h
  intro T kc ks hh hm hcl hsl
  have hG := K.2.2.2.2.2.2.2.2.2
  refine j_lload K 3 dX0_put_22 rfl ?_
  refine j_ldc2 K q707 dX0_put_24 ?_
  refine j_land K dX0_put_27 ?_
  refine j_l2i K dX0_put_28 ?_
  refine j_bipush K (33 : Int32) dX0_put_29 (by decide) ?_
  refine j_bipush K (126 : Int32) dX0_put_31 (by decide) ?_
  refine j_callSi K (As := [.int ((x4 &&& (255 : Int64)).toInt32), .int (33 : Int32), .int (126 : Int32)]) (rest := []) (ctX0_isIn (l := l) (D := D) (ct := ct) (G := G) (ws := (CW ct g.2.1 fx S T tl)) hG ((x4 &&& (255 : Int64)).toInt32) (33 : Int32) (126 : Int32)) (lw_S q283 q284 q70 q285) (n := 3) (by decide +kernel) ⟨Nat.le_of_ble_eq_true rfl, Nat.le_of_ble_eq_true rfl⟩ rfl rfl (Nat.le_of_ble_eq_true rfl) dX0_put_33 (hh.room0 hm hcl hsl) (fun r_1 _ hq => ?_)
  replace h := h r_1 hq
  refine j_if_ne K 42 dX0_put_36 (by decide) (fun hc => ?_) (fun hc => ?_)
  · exact kX0_put_42 K hr hgc L5 hL5 x1 x3 x4 S mk cc sc (h.1 hc) _ _ _ hh hm hcl hsl
  · refine j_lv K [] (lv' := []) rfl ?_
    exact kX0_put_39 K hr hgc  S mk cc sc (h.2 hc) _ _ _ hh hm hcl hsl
theorem kX0_put_11 {p : Program} {l : Launch} {e : Env} {s : State} {m : MethodId} {args : Array Value} {below : List Frame} {meth : Method} {c : Code} {A : Nat → Prop} {D : va_G} {ct : Nat → ClassId} {G : gE} {g : GP} {fx : Nat → Nat} {tl : va_W} {H : HB} {T0 : TB} {post : Int32 → CS → Prop} (K : CX p s m args meth c cX0_put 7 RX0 A D ct G) (hr : meth.sig.returnType = (some .int)) (hgc : gHasC G g) (L5 : Int64 → Int32 → Int64 → CS → Bool → Nat → Nat → Prop) (hL5 : ∀ (x1 : Int64) (x3 : Int32) (x4 : Int64) (S : CS) (mk : Bool) (cc : Nat) (sc : Nat), L5 x1 x3 x4 S mk cc sc → jM p l e s m args below meth c A D ct g fx tl 6 133 7 H T0 post S mk cc sc 5 [(0, .ref (fx 0)), (1, .long x1), (3, .int x3), (4, .long x4)] []) (x1 : Int64) (x3 : Int32) (x4 : Int64) (S : CS) (mk : Bool) (cc : Nat) (sc : Nat) (h : wX0_put_11 H post L5 x1 x3 x4 S mk cc sc) : jM p l e s m args below meth c A D ct g fx tl 6 133 7 H T0 post S mk cc sc 11 [(0, .ref (fx 0)), (1, .long x1), (3, .int x3), (4, .long x4)] [] := by
  unfold wX0_put_11 at h
  intro T kc ks hh hm hcl hsl
  have hG := K.2.2.2.2.2.2.2.2.2
  refine j_lload K 3 dX0_put_11 rfl ?_
  refine j_ldc2 K q707 dX0_put_13 ?_
  refine j_land K dX0_put_16 ?_
  refine j_lconst K (0 : Int64) dX0_put_17 (by decide) ?_
  refine j_lcmp K dX0_put_18 ?_
  refine j_if_eq K 55 dX0_put_19 (by decide) (fun hc => ?_) (fun hc => ?_)
  · exact kX0_put_55 K hr hgc  x1 x3 x4 S mk cc sc (h.1 hc) _ _ _ hh hm hcl hsl
  · exact kX0_put_22 K hr hgc L5 hL5 x1 x3 x4 S mk cc sc (h.2 hc) _ _ _ hh hm hcl hsl
theorem kX0_put_5_b {p : Program} {l : Launch} {e : Env} {s : State} {m : MethodId} {args : Array Value} {below : List Frame} {meth : Method} {c : Code} {A : Nat → Prop} {D : va_G} {ct : Nat → ClassId} {G : gE} {g : GP} {fx : Nat → Nat} {tl : va_W} {H : HB} {T0 : TB} {post : Int32 → CS → Prop} (K : CX p s m args meth c cX0_put 7 RX0 A D ct G) (hr : meth.sig.returnType = (some .int)) (hgc : gHasC G g) (L5 : Int64 → Int32 → Int64 → CS → Bool → Nat → Nat → Prop) (hL5 : ∀ (x1 : Int64) (x3 : Int32) (x4 : Int64) (S : CS) (mk : Bool) (cc : Nat) (sc : Nat), L5 x1 x3 x4 S mk cc sc → jM p l e s m args below meth c A D ct g fx tl 6 133 7 H T0 post S mk cc sc 5 [(0, .ref (fx 0)), (1, .long x1), (3, .int x3), (4, .long x4)] []) (x1 : Int64) (x3 : Int32) (x4 : Int64) (S : CS) (mk : Bool) (cc : Nat) (sc : Nat) (h : wX0_put_5_b H post L5 x1 x3 x4 S mk cc sc) : jM p l e s m args below meth c A D ct g fx tl 6 133 7 H T0 post S mk cc sc 5 [(0, .ref (fx 0)), (1, .long x1), (3, .int x3), (4, .long x4)] [] := by
  unfold wX0_put_5_b at h
  intro T kc ks hh hm hcl hsl
  have hG := K.2.2.2.2.2.2.2.2.2
  refine j_iload_n K 2 dX0_put_5 rfl rfl ?_
  refine j_bipush K (8 : Int32) dX0_put_6 (by decide) ?_
  refine j_icmp_ge K 55 dX0_put_8 (by decide) (fun hc => ?_) (fun hc => ?_)
  · exact kX0_put_55 K hr hgc  x1 x3 x4 S mk cc sc (h.1 hc) _ _ _ hh hm hcl hsl
  · exact kX0_put_11 K hr hgc L5 hL5 x1 x3 x4 S mk cc sc (h.2 hc) _ _ _ hh hm hcl hsl
theorem kX0_put_5 {p : Program} {l : Launch} {e : Env} {s : State} {m : MethodId} {args : Array Value} {below : List Frame} {meth : Method} {c : Code} {A : Nat → Prop} {D : va_G} {ct : Nat → ClassId} {G : gE} {g : GP} {fx : Nat → Nat} {tl : va_W} {H : HB} {T0 : TB} {post : Int32 → CS → Prop} (K : CX p s m args meth c cX0_put 7 RX0 A D ct G) (hr : meth.sig.returnType = (some .int)) (hgc : gHasC G g)   (x1 : Int64) (x3 : Int32) (x4 : Int64) (S : CS) (mk : Bool) (cc : Nat) (sc : Nat) (h : wX0_put_5 H post  x1 x3 x4 S mk cc sc) : jM p l e s m args below meth c A D ct g fx tl 6 133 7 H T0 post S mk cc sc 5 [(0, .ref (fx 0)), (1, .long x1), (3, .int x3), (4, .long x4)] [] :=
  wloop_sound (V := Int64 × Int32 × Int64 × CS × Bool × Nat × Nat) (Wk := fun v => jM p l e s m args below meth c A D ct g fx tl 6 133 7 H T0 post v.2.2.2.1 v.2.2.2.2.1 v.2.2.2.2.2.1 v.2.2.2.2.2.2 5 [(0, .ref (fx 0)), (1, .long v.1), (3, .int v.2.1), (4, .long v.2.2.1)] []) (fun L hL v hb => kX0_put_5_b K hr hgc (fun x1 x3 x4 S mk cc sc => L (x1, x3, x4, S, mk, cc, sc)) (fun x1 x3 x4 S mk cc sc hx => hL (x1, x3, x4, S, mk, cc, sc) hx) v.1 v.2.1 v.2.2.1 v.2.2.2.1 v.2.2.2.2.1 v.2.2.2.2.2.1 v.2.2.2.2.2.2 hb) h
theorem kX0_put_0 {p : Program} {l : Launch} {e : Env} {s : State} {m : MethodId} {args : Array Value} {below : List Frame} {meth : Method} {c : Code} {A : Nat → Prop} {D : va_G} {ct : Nat → ClassId} {G : gE} {g : GP} {fx : Nat → Nat} {tl : va_W} {H : HB} {T0 : TB} {post : Int32 → CS → Prop} (K : CX p s m args meth c cX0_put 7 RX0 A D ct G) (hr : meth.sig.returnType = (some .int)) (hgc : gHasC G g)   (x1 : Int64) (S : CS) (mk : Bool) (cc : Nat) (sc : Nat) (h : wX0_put_0 H post  x1 S mk cc sc) : jM p l e s m args below meth c A D ct g fx tl 6 133 7 H T0 post S mk cc sc 0 [(0, .ref (fx 0)), (1, .long x1)] [] := by
  unfold wX0_put_0 at h
  intro T kc ks hh hm hcl hsl
  have hG := K.2.2.2.2.2.2.2.2.2
  refine j_iconst K (0 : Int32) dX0_put_0 (by decide) ?_
  refine j_istore_n K [(3, .int (0 : Int32)), (0, .ref (fx 0)), (1, .long x1)] dX0_put_1 rfl (by decide) rfl ?_
  refine j_lload_n K 2 dX0_put_2 rfl rfl ?_
  refine j_lstore K [(4, .long x1), (3, .int (0 : Int32)), (0, .ref (fx 0)), (1, .long x1)] dX0_put_3 (by decide) rfl ?_
  refine j_lv K [2, 3, 1, 0] (lv' := [(0, .ref (fx 0)), (1, .long x1), (3, .int (0 : Int32)), (4, .long x1)]) rfl ?_
  exact kX0_put_5 K hr hgc  x1 (0 : Int32) x1 S mk cc sc h _ _ _ hh hm hcl hsl
theorem ctX0_put {l : Launch} {D : va_G} {ct : Nat → ClassId} {G : gE} {g : GP} {fx : Nat → Nat} {tl : va_W} {S : CS} {T : TB} (hG : gOK G) (hgc : gHasC G g) (x1 : Int64) (hp : cOk S) (hT : tOK T) : mCi l D ct G g fx tl yX0_put (ws_ yX0_put cX0_put 7 (some .int)) 6 133 [.ref (fx 0), .long x1] S T false (ptCl x1 S) (ptSl x1 S) (fun r S' => ptPo x1 S r S') := fun sz =>
  j_met (Qc := fun A => va_Qi (fun (r : Int32) (u : CS × TB) => (fun (r : Int32) (S' : CS) => ptPo x1 S r S') r u.1 ∧ extB false (pS S) T u.2) (fun (u : CS × TB) => cB D ct A (CW ct g.2.1 fx u.1 u.2 tl)) A) (by decide) hG (Nat.le_of_ble_eq_true rfl) (fun p e s m args below meth c A K hr _ _ => kX0_put_0 (H := (false, pS S, (ptCl x1 S), (ptSl x1 S))) (T0 := T) (post := fun r S' => ptPo x1 S r S') K hr hgc x1 S false 0 0 (vcX0_put x1 hp) T 0 0 (hid.start hT) (fun z => (by cases z)) (Nat.zero_le _) (Nat.zero_le _))
