/-! FLOATS: Float.isNaN, Float.floatToIntBits, over any world -/
def fbits (x : UInt32) : Int32 := if Op.cmpValue (FP.fcmp x x) .l = 0 then x.toInt32 else 2143289344
def qJ13_isNaN (x0 : UInt32) (r : Int32) : Prop := r = b2 (decide (¬ Op.cmpValue (FP.fcmp x0 x0) .l = 0))
def qJ13_floatToIntBits (x0 : UInt32) (r : Int32) : Prop := r = fbits x0
-- isNaN(F)Z
def wJ13_isNaN_11 (post : Int32 → Unit → Prop)  (s0 : Int32)  : Prop :=
  isB s0 ∧ post s0 ()
def wJ13_isNaN_10 (post : Int32 → Unit → Prop)    : Prop :=
  wJ13_isNaN_11 post (0 : Int32)
def wJ13_isNaN_6 (post : Int32 → Unit → Prop)    : Prop :=
  wJ13_isNaN_11 post (1 : Int32)
def wJ13_isNaN_0 (post : Int32 → Unit → Prop)  (x0 : UInt32)  : Prop :=
  (((Op.cmpValue (FP.fcmp x0 x0) .l) = 0) → wJ13_isNaN_10 post) ∧ ((¬ (Op.cmpValue (FP.fcmp x0 x0) .l) = 0) → wJ13_isNaN_6 post)
theorem vcJ13_isNaN (x0 : UInt32) : wJ13_isNaN_0 (fun (r : Int32) (_ : Unit) => qJ13_isNaN x0 r) x0 := by
  unfold wJ13_isNaN_0 wJ13_isNaN_6 wJ13_isNaN_10 wJ13_isNaN_11
  refine ⟨fun h => ⟨Or.inl rfl, ?_⟩, fun h => ⟨Or.inr rfl, ?_⟩⟩
  · show (0 : Int32) = b2 _
    rw [decide_eq_false (fun z => z h)]; rfl
  · show (1 : Int32) = b2 _
    rw [decide_eq_true h]; rfl
-- J13_isNaN
theorem kJ13_isNaN_11 {p : Program} {l : Launch} {e : Env} {s : State} {m : MethodId} {args : Array Value} {below : List Frame} {meth : Method} {c : Code} {A : Nat → Prop} {D : va_G} {ct : Nat → ClassId} {G : gE} {ws : va_W} {post : Int32 → Unit → Prop} (K : CX p s m args meth c cJ13_isNaN 1 RJ13 A D ct G) (hr : meth.sig.returnType = (some .boolean))   (s0 : Int32)  (h : wJ13_isNaN_11 post  s0) : jJ p l e { frames := 0, cells := 0, slots := 0, locals := 0 } s m args below meth c (MQ below (va_Qi post (fun _ => cB D ct A ws) A) args s 0 0 A) A D 1 ws 0 0 11 [] [.int s0] := by
  unfold wJ13_isNaN_11 at h
  exact j_zret () (wf := fun _ => ws) K hr rfl h.2 h.1 (Nat.le_of_ble_eq_true rfl) (Nat.le_of_ble_eq_true rfl) dJ13_isNaN_11
theorem kJ13_isNaN_10 {p : Program} {l : Launch} {e : Env} {s : State} {m : MethodId} {args : Array Value} {below : List Frame} {meth : Method} {c : Code} {A : Nat → Prop} {D : va_G} {ct : Nat → ClassId} {G : gE} {ws : va_W} {post : Int32 → Unit → Prop} (K : CX p s m args meth c cJ13_isNaN 1 RJ13 A D ct G) (hr : meth.sig.returnType = (some .boolean))     (h : wJ13_isNaN_10 post  ) : jJ p l e { frames := 0, cells := 0, slots := 0, locals := 0 } s m args below meth c (MQ below (va_Qi post (fun _ => cB D ct A ws) A) args s 0 0 A) A D 1 ws 0 0 10 [] [] := by
  unfold wJ13_isNaN_10 at h
  refine j_iconst K (0 : Int32) dJ13_isNaN_10 (by decide) ?_
  exact kJ13_isNaN_11 K hr  (0 : Int32) h
theorem kJ13_isNaN_6 {p : Program} {l : Launch} {e : Env} {s : State} {m : MethodId} {args : Array Value} {below : List Frame} {meth : Method} {c : Code} {A : Nat → Prop} {D : va_G} {ct : Nat → ClassId} {G : gE} {ws : va_W} {post : Int32 → Unit → Prop} (K : CX p s m args meth c cJ13_isNaN 1 RJ13 A D ct G) (hr : meth.sig.returnType = (some .boolean))     (h : wJ13_isNaN_6 post  ) : jJ p l e { frames := 0, cells := 0, slots := 0, locals := 0 } s m args below meth c (MQ below (va_Qi post (fun _ => cB D ct A ws) A) args s 0 0 A) A D 1 ws 0 0 6 [] [] := by
  unfold wJ13_isNaN_6 at h
  refine j_iconst K (1 : Int32) dJ13_isNaN_6 (by decide) ?_
  refine j_goto K 11 dJ13_isNaN_7 (by decide) ?_
  exact kJ13_isNaN_11 K hr  (1 : Int32) h
theorem kJ13_isNaN_0 {p : Program} {l : Launch} {e : Env} {s : State} {m : MethodId} {args : Array Value} {below : List Frame} {meth : Method} {c : Code} {A : Nat → Prop} {D : va_G} {ct : Nat → ClassId} {G : gE} {ws : va_W} {post : Int32 → Unit → Prop} (K : CX p s m args meth c cJ13_isNaN 1 RJ13 A D ct G) (hr : meth.sig.returnType = (some .boolean))   (x0 : UInt32)  (h : wJ13_isNaN_0 post  x0) : jJ p l e { frames := 0, cells := 0, slots := 0, locals := 0 } s m args below meth c (MQ below (va_Qi post (fun _ => cB D ct A ws) A) args s 0 0 A) A D 1 ws 0 0 0 [(0, .float x0)] [] := by
  unfold wJ13_isNaN_0 at h
  refine j_fload_n K 0 dJ13_isNaN_0 rfl rfl ?_
  refine j_fload_n K 0 dJ13_isNaN_1 rfl rfl ?_
  refine j_fcmp K dJ13_isNaN_2 ?_
  refine j_if_eq K 10 dJ13_isNaN_3 (by decide) (fun hc => ?_) (fun hc => ?_)
  · refine j_lv K [] (lv' := []) rfl ?_
    exact kJ13_isNaN_10 K hr   (h.1 hc)
  · refine j_lv K [] (lv' := []) rfl ?_
    exact kJ13_isNaN_6 K hr   (h.2 hc)
theorem ctJ13_isNaN {l : Launch} {D : va_G} {ct : Nat → ClassId} {G : gE} {ws : va_W} (hG : gOK G) (x0 : UInt32) : ∀ sz, Met l yJ13_isNaN (ws_ yJ13_isNaN cJ13_isNaN 1 (some .boolean)) { frames := 0, cells := 0, slots := 0, locals := 0 } (va_Pc [.float x0] (cPre G D ct ws sz)) (va_Qi (fun (r : Int32) (_ : Unit) => qJ13_isNaN x0 r) (fun _ => cB D ct (va_A ws sz) ws) (va_A ws sz)) 0 0 (va_A ws sz) := fun sz =>
  j_metF (Qc := fun A => va_Qi (fun (r : Int32) (_ : Unit) => qJ13_isNaN x0 r) (fun _ => cB D ct A ws) A) (by decide +kernel) hG (Nat.le_of_ble_eq_true rfl) (fun p e s m args below meth c A K hr _ _ => kJ13_isNaN_0 K hr x0 (vcJ13_isNaN x0))
-- floatToIntBits(F)I
def wJ13_floatToIntBits_12 (post : Int32 → Unit → Prop)    : Prop :=
  post (2143289344 : Int32) ()
def wJ13_floatToIntBits_7 (post : Int32 → Unit → Prop)  (x0 : UInt32)  : Prop :=
  post (x0.toInt32) ()
def wJ13_floatToIntBits_0 (post : Int32 → Unit → Prop)  (x0 : UInt32)  : Prop :=
  ∀ r_1 : Int32, qJ13_isNaN x0 r_1 → ((¬ r_1 = 0) → wJ13_floatToIntBits_12 post) ∧ ((r_1 = 0) → wJ13_floatToIntBits_7 post x0)
theorem vcJ13_floatToIntBits (x0 : UInt32) : wJ13_floatToIntBits_0 (fun (r : Int32) (_ : Unit) => qJ13_floatToIntBits x0 r) x0 := by
  unfold wJ13_floatToIntBits_0 wJ13_floatToIntBits_7 wJ13_floatToIntBits_12
  intro r hr
  rw [show r = b2 (decide (¬ Op.cmpValue (FP.fcmp x0 x0) .l = 0)) from hr]
  refine ⟨fun h => ?_, fun h => ?_⟩
  · show (2143289344 : Int32) = fbits x0
    unfold fbits
    rw [if_neg]
    exact of_decide_eq_true (by cases hb : decide (¬ Op.cmpValue (FP.fcmp x0 x0) .l = 0) with | true => rfl | false => rw [hb] at h; exact absurd rfl h)
  · show x0.toInt32 = fbits x0
    unfold fbits
    rw [if_pos]
    exact Classical.byContradiction (of_decide_eq_false (by cases hb : decide (¬ Op.cmpValue (FP.fcmp x0 x0) .l = 0) with | false => rfl | true => rw [hb] at h; exact absurd h (by decide)))
-- J13_floatToIntBits
theorem kJ13_floatToIntBits_12 {p : Program} {l : Launch} {e : Env} {s : State} {m : MethodId} {args : Array Value} {below : List Frame} {meth : Method} {c : Code} {A : Nat → Prop} {D : va_G} {ct : Nat → ClassId} {G : gE} {ws : va_W} {post : Int32 → Unit → Prop} (K : CX p s m args meth c cJ13_floatToIntBits 1 RJ13 A D ct G) (hr : meth.sig.returnType = (some .int))     (h : wJ13_floatToIntBits_12 post  ) : jJ p l e { frames := 1, cells := 0, slots := 0, locals := 20 } s m args below meth c (MQ below (va_Qi post (fun _ => cB D ct A ws) A) args s 0 0 A) A D 1 ws 0 0 12 [] [] := by
  unfold wJ13_floatToIntBits_12 at h
  refine j_ldc K q698 dJ13_floatToIntBits_12 ?_
  exact j_iret () (wf := fun _ => ws) K hr rfl h (Nat.le_of_ble_eq_true rfl) (Nat.le_of_ble_eq_true rfl) dJ13_floatToIntBits_14
theorem kJ13_floatToIntBits_7 {p : Program} {l : Launch} {e : Env} {s : State} {m : MethodId} {args : Array Value} {below : List Frame} {meth : Method} {c : Code} {A : Nat → Prop} {D : va_G} {ct : Nat → ClassId} {G : gE} {ws : va_W} {post : Int32 → Unit → Prop} (K : CX p s m args meth c cJ13_floatToIntBits 1 RJ13 A D ct G) (hr : meth.sig.returnType = (some .int))   (x0 : UInt32)  (h : wJ13_floatToIntBits_7 post  x0) : jJ p l e { frames := 1, cells := 0, slots := 0, locals := 20 } s m args below meth c (MQ below (va_Qi post (fun _ => cB D ct A ws) A) args s 0 0 A) A D 1 ws 0 0 7 [(0, .float x0)] [] := by
  unfold wJ13_floatToIntBits_7 at h
  refine j_fload_n K 0 dJ13_floatToIntBits_7 rfl rfl ?_
  refine j_f2raw K q695 q697 q696 q91 (Nat.le_of_ble_eq_true rfl) (Nat.le_of_ble_eq_true rfl) dJ13_floatToIntBits_8 ?_
  exact j_iret () (wf := fun _ => ws) K hr rfl h (Nat.le_of_ble_eq_true rfl) (Nat.le_of_ble_eq_true rfl) dJ13_floatToIntBits_11
theorem kJ13_floatToIntBits_0 {p : Program} {l : Launch} {e : Env} {s : State} {m : MethodId} {args : Array Value} {below : List Frame} {meth : Method} {c : Code} {A : Nat → Prop} {D : va_G} {ct : Nat → ClassId} {G : gE} {ws : va_W} {post : Int32 → Unit → Prop} (K : CX p s m args meth c cJ13_floatToIntBits 1 RJ13 A D ct G) (hr : meth.sig.returnType = (some .int))   (x0 : UInt32)  (h : wJ13_floatToIntBits_0 post  x0) : jJ p l e { frames := 1, cells := 0, slots := 0, locals := 20 } s m args below meth c (MQ below (va_Qi post (fun _ => cB D ct A ws) A) args s 0 0 A) A D 1 ws 0 0 0 [(0, .float x0)] [] := by
  unfold wJ13_floatToIntBits_0 at h
  refine j_fload_n K 0 dJ13_floatToIntBits_0 rfl rfl ?_
  refine j_callSi K (As := [.float x0]) (rest := []) (ctJ13_isNaN (l := l) (D := D) (ct := ct) (G := G) (ws := ws) K.2.2.2.2.2.2.2.2.2 x0) (lw_S q692 q693 q91 q694) (n := 1) (by decide +kernel) ⟨Nat.le_of_ble_eq_true rfl, Nat.le_of_ble_eq_true rfl⟩ rfl rfl (Nat.le_of_ble_eq_true rfl) dJ13_floatToIntBits_1 ⟨Nat.le_of_ble_eq_true rfl, Nat.le_of_ble_eq_true rfl⟩ (fun r_1 _ hq => ?_)
  replace h := h r_1 hq
  refine j_if_ne K 12 dJ13_floatToIntBits_4 (by decide) (fun hc => ?_) (fun hc => ?_)
  · refine j_lv K [] (lv' := []) rfl ?_
    exact kJ13_floatToIntBits_12 K hr   (h.1 hc)
  · exact kJ13_floatToIntBits_7 K hr  x0 (h.2 hc)
theorem ctJ13_floatToIntBits {l : Launch} {D : va_G} {ct : Nat → ClassId} {G : gE} {ws : va_W} (hG : gOK G) (x0 : UInt32) : ∀ sz, Met l yJ13_floatToIntBits (ws_ yJ13_floatToIntBits cJ13_floatToIntBits 1 (some .int)) { frames := 1, cells := 0, slots := 0, locals := 20 } (va_Pc [.float x0] (cPre G D ct ws sz)) (va_Qi (fun (r : Int32) (_ : Unit) => qJ13_floatToIntBits x0 r) (fun _ => cB D ct (va_A ws sz) ws) (va_A ws sz)) 0 0 (va_A ws sz) := fun sz =>
  j_metF (Qc := fun A => va_Qi (fun (r : Int32) (_ : Unit) => qJ13_floatToIntBits x0 r) (fun _ => cB D ct A ws) A) (by decide +kernel) hG (Nat.le_of_ble_eq_true rfl) (fun p e s m args below meth c A K hr _ _ => kJ13_floatToIntBits_0 K hr x0 (vcJ13_floatToIntBits x0))
