/-! MORRISTABLES by wp: the judgement with the tables and the room hidden; H: whether the table may be made, its number, cells, slots -/
abbrev HB : Type := Bool × Nat × Nat × Nat
def cOk (S : CS) : Prop := cInv S ∧ S.1.2.2.2.length < 1000000
theorem hid.tok {p : Nat} {T0 T : TB} {mk : Bool} {c s kc ks : Nat} (h : hid p T0 mk c s T kc ks) : tOK T := h.1.1
theorem hid.callT {p q : Nat} {T0 T T' : TB} {mk : Bool} {c s kc ks : Nat} (h : hid p T0 mk c s T kc ks) (hq : q = p) (h' : extB true q T T') : hid p T0 true c s T' (kc + (0 + bC true q T)) (ks + (0 + bS true q T)) := by
  subst hq
  have := h.call (c' := 0) (s' := 0) h'
  rwa [Bool.or_true] at this
theorem hid.callF {p q : Nat} {T0 T T' : TB} {mk : Bool} {c s c' s' kc ks : Nat} (h : hid p T0 mk c s T kc ks) (h' : extB false q T T') : hid p T0 mk (c + c') (s + s') T' (kc + (c' + bC false q T)) (ks + (s' + bS false q T)) := by
  have e := h'.2.2.2.2 rfl
  subst e
  obtain ⟨h1, h2, h3⟩ := h
  refine ⟨h1, ?_, ?_⟩
  · show kc + (c' + 0) + _ ≤ _
    omega
  · show ks + (s' + 0) + _ ≤ _
    omega
theorem hid.callB {p q : Nat} {T0 T T' : TB} {mk b' : Bool} {c s c' s' kc ks : Nat} (h : hid p T0 mk c s T kc ks) (h' : extB b' q T T') (hq : b' = true → q = p) : hid p T0 (mk || b') (c + c') (s + s') T' (kc + (c' + bC b' q T)) (ks + (s' + bS b' q T)) := by
  cases b' with
  | true => rw [hq rfl] at h' ⊢; exact h.call h'
  | false => rw [Bool.or_false]; exact h.callF h'
theorem hid.roomB {p q : Nat} {T0 T : TB} {mk b b' : Bool} {c s c' s' C Z kc ks : Nat} (h : hid p T0 mk c s T kc ks) (hm : mk = true → b = true) (hb : b' = true → b = true ∧ q = p) (hc : c + c' ≤ C) (hs : s + s' ≤ Z) : kc + (c' + bC b' q T) ≤ C + bC b p T0 ∧ ks + (s' + bS b' q T) ≤ Z + bS b p T0 := by
  cases b' with
  | true => rw [(hb rfl).2]; exact h.room hm (fun _ => (hb rfl).1) hc hs
  | false => exact h.room (b' := false) hm (fun z => by cases z) hc hs
theorem hid.roomT {p q : Nat} {T0 T : TB} {mk b : Bool} {c s C Z kc ks : Nat} (h : hid p T0 mk c s T kc ks) (hm : mk = true → b = true) (hb : b = true ∧ q = p) (hc : c ≤ C) (hs : s ≤ Z) : kc + (0 + bC true q T) ≤ C + bC b p T0 ∧ ks + (0 + bS true q T) ≤ Z + bS b p T0 := h.roomB hm (fun _ => hb) hc hs
theorem hid.roomF {p q : Nat} {T0 T : TB} {mk b : Bool} {c s c' s' C Z kc ks : Nat} (h : hid p T0 mk c s T kc ks) (hm : mk = true → b = true) (hc : c + c' ≤ C) (hs : s + s' ≤ Z) : kc + (c' + bC false q T) ≤ C + bC b p T0 ∧ ks + (s' + bS false q T) ≤ Z + bS b p T0 := h.roomB hm (fun z => by cases z) hc hs
theorem hid.room0 {p : Nat} {T0 T : TB} {mk b : Bool} {c s C Z kc ks : Nat} (h : hid p T0 mk c s T kc ks) (hm : mk = true → b = true) (hc : c ≤ C) (hs : s ≤ Z) : kc + 0 ≤ C + bC b p T0 ∧ ks + 0 ≤ Z + bS b p T0 := h.roomF (q := p) (c' := 0) (s' := 0) hm hc hs
def jM (p : Program) (l : Launch) (e : Env) (s : State) (m : MethodId) (args : Array Value) (below : List Frame) (meth : Method) (c : Code) (A : Nat → Prop) (D : va_G) (ct : Nat → ClassId) (g : GP) (fx : Nat → Nat) (tl : va_W) (f lo nL : Nat) (H : HB) (T0 : TB) (post : Int32 → CS → Prop) (S : CS) (mk : Bool) (cc sc : Nat) (pc : Nat) (lv : List (Nat × Value)) (st : List Value) : Prop :=
  ∀ T kc ks, hid H.2.1 T0 mk cc sc T kc ks → (mk = true → H.1 = true) → cc ≤ H.2.2.1 → sc ≤ H.2.2.2 → jJ p l e { frames := f, cells := H.2.2.1 + bC H.1 H.2.1 T0, slots := H.2.2.2 + bS H.1 H.2.1 T0, locals := lo } s m args below meth c (MQ below (va_Qi (fun (r : Int32) (u : CS × TB) => post r u.1 ∧ extB H.1 H.2.1 T0 u.2) (fun (u : CS × TB) => cB D ct A (CW ct g.2.1 fx u.1 u.2 tl)) A) args s (H.2.2.1 + bC H.1 H.2.1 T0) (H.2.2.2 + bS H.1 H.2.1 T0) A) A D nL (CW ct g.2.1 fx S T tl) kc ks pc lv st
section
variable {p : Program} {l : Launch} {e : Env} {R : Room} {s : State} {m : MethodId} {args : Array Value} {below : List Frame} {meth : Method} {c : Code} {A : Nat → Prop} {D : va_G} {nL : Nat} {pc : Nat} {lv : List (Nat × Value)} {cc : ByteArray} {ct : Nat → ClassId} {G : gE} {own : String} {g : GP} {fx : Nat → Nat} {tl : va_W} {S : CS} {T T0 : TB} {H : HB} {mk : Bool} {c1 s1 kc ks : Nat} {post : Int32 → CS → Prop} {v : Int32}
theorem m_iret (K : CX p s m args meth c cc nL own A D ct G) (hr : meth.sig.returnType = some .int) (hh : hid H.2.1 T0 mk c1 s1 T kc ks) (hm : mk = true → H.1 = true) (hc : c1 ≤ H.2.2.1) (hs : s1 ≤ H.2.2.2) (h : post v S ∧ H.1 = mk) (hdg : decode cc pc = .ok (.ireturn, 1)) : jJ p l e R s m args below meth c (MQ below (va_Qi (fun (r : Int32) (u : CS × TB) => post r u.1 ∧ extB H.1 H.2.1 T0 u.2) (fun (u : CS × TB) => cB D ct A (CW ct g.2.1 fx u.1 u.2 tl)) A) args s (H.2.2.1 + bC H.1 H.2.1 T0) (H.2.2.2 + bS H.1 H.2.1 T0) A) A D nL (CW ct g.2.1 fx S T tl) kc ks pc lv [.int v] :=
  j_iret (wf := fun (u : CS × TB) => CW ct g.2.1 fx u.1 u.2 tl) (S, T) K hr rfl ⟨h.1, by rw [h.2]; exact hh.1⟩ (hh.room0 hm hc hs).1 (hh.room0 hm hc hs).2 hdg
theorem m_zret (K : CX p s m args meth c cc nL own A D ct G) (hr : meth.sig.returnType = some .boolean) (hh : hid H.2.1 T0 mk c1 s1 T kc ks) (hm : mk = true → H.1 = true) (hc : c1 ≤ H.2.2.1) (hs : s1 ≤ H.2.2.2) (h : isB v ∧ post v S ∧ H.1 = mk) (hdg : decode cc pc = .ok (.ireturn, 1)) : jJ p l e R s m args below meth c (MQ below (va_Qi (fun (r : Int32) (u : CS × TB) => post r u.1 ∧ extB H.1 H.2.1 T0 u.2) (fun (u : CS × TB) => cB D ct A (CW ct g.2.1 fx u.1 u.2 tl)) A) args s (H.2.2.1 + bC H.1 H.2.1 T0) (H.2.2.2 + bS H.1 H.2.1 T0) A) A D nL (CW ct g.2.1 fx S T tl) kc ks pc lv [.int v] :=
  j_zret (wf := fun (u : CS × TB) => CW ct g.2.1 fx u.1 u.2 tl) (S, T) K hr rfl ⟨h.2.1, by rw [h.2.2]; exact hh.1⟩ h.1 (hh.room0 hm hc hs).1 (hh.room0 hm hc hs).2 hdg
theorem pureM {y : MethodName} {wc : List Cond} {f lo : Nat} {av : List Value} {q : Int32 → Prop} (hG : gOK G) (hM : mCi l D ct G g fx tl y wc f lo av S T false 0 0 (fun r S' => q r ∧ S' = S)) : ∀ sz, Met l y wc { frames := f, cells := 0, slots := 0, locals := lo } (va_Pc av (cPre G D ct (CW ct g.2.1 fx S T tl) sz)) (va_Qi (fun (r : Int32) (_ : Unit) => q r) (fun (_ : Unit) => cB D ct (va_A (CW ct g.2.1 fx S T tl) sz) (CW ct g.2.1 fx S T tl)) (va_A (CW ct g.2.1 fx S T tl) sz)) 0 0 (va_A (CW ct g.2.1 fx S T tl) sz) :=
  met_lift_i (w2 := []) (wf' := fun (_ : Unit) => CW ct g.2.1 fx S T tl) (post' := fun (r : Int32) (_ : Unit) => q r) hG (fun _ _ _ h => h) (pm0 (List.Perm.refl _)) hM (fun r u h => ⟨(), h.1.1, [], by rw [h.1.2, h.2.2.2.2.2 rfl]⟩)
theorem tab_in {x : TX} (hp : pS S < 4) (hx : T (pS S) = some x) : ∃ i : Nat, (CW ct g.2.1 fx S T tl)[i]? = some (x.1 0, .inr (4, [.int (x.2.2 0), .int (x.2.2 1), .ref (x.1 1), .ref (x.1 2), .ref (x.1 3), .ref (x.1 4), .int (x.2.2 2)])) := by
  have h := (tab_pm (ct := ct) (g := g) (fx := fx) (tl := tl) hp hx).mem_iff (a := (x.1 0, .inr (4, [.int (x.2.2 0), .int (x.2.2 1), .ref (x.1 1), .ref (x.1 2), .ref (x.1 3), .ref (x.1 4), .int (x.2.2 2)])))
  exact List.mem_iff_getElem?.mp (h.mpr List.mem_cons_self)
theorem past_in : ∃ (i : Nat) (fs : List Value), (CW ct g.2.1 fx S T tl)[i]? = some (fx 4, .inr (6, fs)) := by
  have h := (CW_past ct g.2.1 fx S T tl).mem_iff (a := (fx 4, .inr (6, [.int S.2.2.2.2.1, .ref (match S.2.1.1 with | none => g.2.1 | some b => b), .int (nI (match S.2.1.1 with | none => 0 | some _ => (pastE S).length))])))
  cases ho : S.2.1.1 with
  | none =>
    rw [ho] at h
    obtain ⟨i, hi⟩ := List.mem_iff_getElem?.mp (h.mpr List.mem_cons_self)
    exact ⟨i, _, hi⟩
  | some b =>
    rw [ho] at h
    obtain ⟨i, hi⟩ := List.mem_iff_getElem?.mp (h.mpr List.mem_cons_self)
    exact ⟨i, _, hi⟩
end
