/-! THE TEXT "ps-m": rows -/
section
variable {p : Program} {l : Launch} {e : Env} {R : Room} {s : State} {m : MethodId} {args : Array Value} {below : List Frame} {meth : Method} {c : Code} {Q : State → Prop} {A : Nat → Prop} {D : va_G} {nL : Nat} {ws : va_W} {cells slots pc : Nat} {lv : List (Nat × Value)} {rest : List Value} {cc : ByteArray} {own : String} {ct : Nat → ClassId} {G : gE} {g : GP}
theorem CX.ks (K : CX p s m args meth c cc nL own A D ct G) (hgc : gHasC G g) : vk_S 1 [4] [[112, 115, 45, 109]] g.2.2.2.1 g.2.2.2.2 A s s.heap := (K.gc hgc).2.2.2.2.2.1
theorem j_kval (K : CX p s m args meth c cc nL "java/lang/String" A D ct G) (hgc : gHasC G g) (hdg : decode cc pc = .ok (.getfield 9, 3)) (kk : jJ p l e R s m args below meth c Q A D nL ws cells slots (pc + 3) lv (.ref (g.2.2.2.2 0) :: rest)) : jJ p l e R s m args below meth c Q A D nL ws cells slots pc lv (.ref (g.2.2.2.1 0) :: rest) := fun H locs ls h1 h2 h3 h4 =>
  vk_getf K.1 K.2.1 ((K.ks hgc).1 0 (by decide)).2.2.1 h3 K.ow (K.ts _ q1302) (fun _ h => h) hdg (kk H locs ls h1 h2 h3 h4)
theorem j_kcod (K : CX p s m args meth c cc nL "java/lang/String" A D ct G) (hgc : gHasC G g) (hdg : decode cc pc = .ok (.getfield 15, 3)) (kk : jJ p l e R s m args below meth c Q A D nL ws cells slots (pc + 3) lv (.int 0 :: rest)) : jJ p l e R s m args below meth c Q A D nL ws cells slots pc lv (.ref (g.2.2.2.1 0) :: rest) := fun H locs ls h1 h2 h3 h4 =>
  vk_getf K.1 K.2.1 ((K.ks hgc).1 0 (by decide)).2.1 h3 K.ow (K.ts _ q1301) (fun _ h => h) hdg (kk H locs ls h1 h2 h3 h4)
theorem j_klen (K : CX p s m args meth c cc nL own A D ct G) (hgc : gHasC G g) (hdg : decode cc pc = .ok (.arraylength, 1)) (kk : jJ p l e R s m args below meth c Q A D nL ws cells slots (pc + 1) lv (.int (nI 4) :: rest)) : jJ p l e R s m args below meth c Q A D nL ws cells slots pc lv (.ref (g.2.2.2.2 0) :: rest) := fun H locs ls h1 h2 h3 h4 =>
  va_tlen K.1 K.2.1 ((K.ks hgc).1 0 (by decide)).2.2.2 h3 rfl hdg (kk H locs ls h1 h2 h3 h4)
theorem j_kbyte (K : CX p s m args meth c cc nL own A D ct G) (hgc : gHasC G g) {i v : Int32} (hin : vp_in i 4) (hv : (([[112, 115, 45, 109]] : List (List Int32)).getD 0 []).getD i.toNatClampNeg 0 = v) (hdg : decode cc pc = .ok (.baload, 1)) (kk : jJ p l e R s m args below meth c Q A D nL ws cells slots (pc + 1) lv (.int v :: rest)) : jJ p l e R s m args below meth c Q A D nL ws cells slots pc lv (.int i :: .ref (g.2.2.2.2 0) :: rest) := fun H locs ls h1 h2 h3 h4 =>
  va_tb K.1 K.2.1 ((K.ks hgc).1 0 (by decide)).2.2.2 h3 hin (v := .int v) (by rw [← hv]) hdg (kk H locs ls h1 h2 h3 h4)
theorem j_ldcK (K : CX p s m args meth c cc nL "MorrisTables$Reader" A D ct G) (hgc : gHasC G g) (hdg : decode cc pc = .ok (.ldc 62, 2)) (kk : jJ p l e R s m args below meth c Q A D nL ws cells slots (pc + 2) lv (.ref (g.2.2.2.1 0) :: rest)) : jJ p l e R s m args below meth c Q A D nL ws cells slots pc lv rest := fun H locs ls h1 h2 h3 h4 =>
  va_ldcS K.1 K.2.1 K.ow (K.gc hgc).2.2.2.2.2.2.1 hdg (kk H locs ls h1 h2 h3 h4)
theorem j_callKi {S : Type} (K : CX p s m args meth c cc nL own A D ct G) (hgc : gHasC G g) {y : MethodName} {bytes : ByteArray} {maxL f mc ms L n index : Nat} {ret : Option FieldType} {As stk : List Value} {post : Int32 → S → Prop} {wf : S → va_W}
    (hM : ∀ sz, Met l y (ws_ y bytes maxL ret) { frames := f, cells := mc, slots := ms, locals := L } (va_Pc (.ref (g.2.2.2.1 0) :: As) (cPre G D ct ws sz)) (va_Qi post (fun u => cB D ct (va_A ws sz) (wf u)) (va_A ws sz)) mc ms (va_A ws sz)) (hw : GoodIn lw_all (wsV own index "java/lang/String" y (ws_ y bytes maxL ret))) (hd : y.cls = "java/lang/String" ∧ y.cls ≠ "java/lang/invoke/MethodHandle" ∧ y.cls ≠ "java/lang/invoke/VarHandle" ∧ (parseMethodDescriptor y.desc).map (fun d => d.parameters.length) = some n) (hR : f + 1 ≤ R.frames ∧ 8 + (maxL + 11) + L ≤ R.locals) (hn : As.length = n) (hst : stk = As.reverse ++ .ref (g.2.2.2.1 0) :: rest) (hrm : (rest.map fun v => v.category).sum ≤ 8) (hdg : decode cc pc = .ok (.invokevirtual index, 3)) (hf : cells + mc ≤ R.cells ∧ slots + ms ≤ R.slots)
    (kk : ∀ (r : Int32) (u : S), post r u → jJ p l e R s m args below meth c Q A D nL (wf u) (cells + mc) (slots + ms) (pc + 3) lv (.int r :: rest)) : jJ p l e R s m args below meth c Q A D nL ws cells slots pc lv stk := by
  intro H locs ls h1 h2 h3 h4
  subst hst
  refine va_calli (A1 := va_A ws H.size) (va_runV (As := As) (rest := rest) K.fix (hM H.size) (cwV n K.ts hw rfl rfl rfl hd hR) ⟨(j_preS K h1 h2 h3).1, vk_recv (K.ks hgc) (by decide) h3, (j_preS K h1 h2 h3).2⟩ rfl hn h4.1 rfl (lv_room hrm) hdg hf) h3 (fun q _ h => j_in K h2 h3 q h) (j_in K h2 h3) (fun r u t H1 locs1 ht hvm hp hB hz hk hS => ?_)
  obtain ⟨b1, b2, b3⟩ := hB
  exact kk r u hp H1 locs1 ls (by rw [← ht]; exact b1) (b3.weaken (fun k q _ h => j_in K h2 h3 _ h)) hS h4
end
def isOrd (z : Nat) : Bool := decide (z = 112 ∨ z = 115 ∨ z = 45 ∨ z = 109)
theorem ord_n {z : Nat} (hz : z < 128) (k : Nat) (hk : k < 128) (h : ¬ nI k = nI z) : ¬ z = k := fun e => h (by rw [e])
theorem ord_none {z : Nat} (hz : z < 128) (h1 : ¬ (112 : Int32) = nI z) (h2 : ¬ (115 : Int32) = nI z) (h3 : ¬ (45 : Int32) = nI z) (h4 : ¬ (109 : Int32) = nI z) : ((-1 : Int32) < 0 ↔ isOrd z = false) := by
  have e1 := ord_n hz 112 (by decide) h1
  have e2 := ord_n hz 115 (by decide) h2
  have e3 := ord_n hz 45 (by decide) h3
  have e4 := ord_n hz 109 (by decide) h4
  unfold isOrd
  constructor
  · intro _; exact decide_eq_false (by omega)
  · intro _; decide
theorem ord_some {z k : Nat} {r : Int32} (hz : z < 128) (hk : k = 112 ∨ k = 115 ∨ k = 45 ∨ k = 109) (hr : ¬ r < 0) (h : nI k = nI z) : (r < 0 ↔ isOrd z = false) := by
  have e : k = z := nI_inj h (by omega) (by omega)
  subst e
  unfold isOrd
  constructor
  · intro z; exact absurd z hr
  · intro z; exact absurd hk (of_decide_eq_false z)
