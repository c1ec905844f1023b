/-! more rows of jJ for the component: the static table LINES, calls of inherited methods, of a nest mate's static, Math -/
def lnN (j : Nat) : Nat := match j with | 0 => 7 | 1 => 56 | 2 => 448 | 3 => 73 | 4 => 146 | 5 => 292 | 6 => 273 | _ => 84
/-- the facts beside the world that Rules and Table lean on -/
def gLn (t : Nat) : gE := fun A U H => va_Z "MorrisTables" "LINES" "[I" (.ref t) A U H ∧ va_T .int t 8 (fun j => .int (nI (lnN j))) A U H ∧ va_Nw (.fieldLinkNest "MorrisTables$Rules" 15 "MorrisTables" "LINES" "[I" "MorrisTables") U ∧ va_Nw (.methodLinkNest "MorrisTables$Rules" 54 yX0_isIn "MorrisTables") U ∧ va_Nw (.selects "MorrisTables$Table" yX4_nextOf yX4_nextOf) U
theorem gLn_ok (t : Nat) : gOK (gLn t) := by
  refine ⟨fun A u U H h g => ?_, fun A u U H h g => ?_, fun A A' U H H' hq hA g => ?_⟩
  · have ha : u.vm.Alike U.vm := by rw [h]; exact Vm.Alike.refl _
    exact ⟨g.1.moved ha, g.2.1.moved ha, g.2.2.1.same rfl h, g.2.2.2.1.same rfl h, g.2.2.2.2.same rfl h⟩
  · exact ⟨g.1.moved h.alike, g.2.1.moved h.alike, g.2.2.1.warmF h, g.2.2.2.1.warmM h, word_at h (Or.inl rfl) g.2.2.2.2⟩
  · exact ⟨(g.1.kept fun a _ h => hq a h).narrow hA, (g.2.1.kept fun a _ h => hq a h).narrow hA, g.2.2.1, g.2.2.2.1, g.2.2.2.2⟩
/-- G bears what Rules and Table lean on -/
def gHas (G : gE) (t : Nat) : Prop := ∀ A U H, G A U H → gLn t A U H
theorem lw_U {own : String} {idx : Nat} {C owner : String} {x y : MethodName} {b : ByteArray} {L : Nat} {r : Option FieldType} (h1 : Cond.methodLink own idx x ∈ lw_all) (h2 : Cond.sameMethod x.cls owner x.name x.desc ∈ lw_all) (h3 : Cond.selects C x y ∈ lw_all) (h4 : Cond.instanceMethod y ∈ lw_all) (h5 : Cond.initialized y.cls ∈ lw_all) (h6 : Cond.code y b L r ∈ lw_all) : GoodIn lw_all (va_wsU own idx C owner x y (ws_ y b L r)) := by
  refine lw_app ?_ (lw_meth h6)
  intro w hw
  simp only [List.mem_cons, List.not_mem_nil, or_false] at hw
  rcases hw with e | e | e | e | e
  · rw [e]; exact h1
  · rw [e]; exact h2
  · rw [e]; exact h3
  · rw [e]; exact h4
  · rw [e]; exact h5
section
variable {p : Program} {l : Launch} {e : Env} {R : Room} {s : State} {m : MethodId} {args : Array Value} {below : List Frame} {meth : Method} {c : Code} {Q : State → Prop} {A : Nat → Prop} {D : va_G} {nL : Nat} {ws : va_W} {cells slots pc : Nat} {lv : List (Nat × Value)} {rest : List Value} {cc : ByteArray} {own : String} {ct : Nat → ClassId} {G : gE} {t : Nat}
theorem j_lines (K : CX p s m args meth c cc nL RX4 A D ct G) (hgl : gHas G t) (hdg : decode cc pc = .ok (.getstatic 15, 3)) (kk : jJ p l e R s m args below meth c Q A D nL ws cells slots (pc + 3) lv (.ref t :: rest)) : jJ p l e R s m args below meth c Q A D nL ws cells slots pc lv rest := fun H locs ls h1 h2 h3 h4 =>
  va_getsN K.1 K.2.1 (hgl _ _ _ K.2.2.2.2.2.2.2.2.1).1 h3 K.ow (va_Nw.use rfl (hgl _ _ _ K.2.2.2.2.2.2.2.2.1).2.2.1) (fun _ h => h) hdg (kk H locs ls h1 h2 h3 h4)
theorem j_line (K : CX p s m args meth c cc nL RX4 A D ct G) (hgl : gHas G t) {i : Int32} (hin : vp_in i 8) (hdg : decode cc pc = .ok (.iaload, 1)) (kk : jJ p l e R s m args below meth c Q A D nL ws cells slots (pc + 1) lv (.int (nI (lnN i.toNatClampNeg)) :: rest)) : jJ p l e R s m args below meth c Q A D nL ws cells slots pc lv (.int i :: .ref t :: rest) := fun H locs ls h1 h2 h3 h4 =>
  va_ti K.1 K.2.1 (hgl _ _ _ K.2.2.2.2.2.2.2.2.1).2.1 h3 hin rfl hdg (kk H locs ls h1 h2 h3 h4)
theorem j_lineLen (K : CX p s m args meth c cc nL RX4 A D ct G) (hgl : gHas G t) (hdg : decode cc pc = .ok (.arraylength, 1)) (kk : jJ p l e R s m args below meth c Q A D nL ws cells slots (pc + 1) lv (.int 8 :: rest)) : jJ p l e R s m args below meth c Q A D nL ws cells slots pc lv (.ref t :: rest) := fun H locs ls h1 h2 h3 h4 =>
  va_tlen K.1 K.2.1 (hgl _ _ _ K.2.2.2.2.2.2.2.2.1).2.1 h3 rfl hdg (kk H locs ls h1 h2 h3 h4)
theorem j_abs (K : CX p s m args meth c cc nL own A D ct G) {index : Nat} {x : Int32} (hlink : (Jvm.Cond.methodLink own index Lib.Math.abs.name) ∈ lw_all) (hstat : (Jvm.Cond.static Lib.Math.abs.name) ∈ lw_all) (hini : (Jvm.Cond.initialized "java/lang/Math") ∈ lw_all) (hcode : (Jvm.Cond.code Lib.Math.abs.name Lib.Math.abs.code 1 (some .int)) ∈ lw_all) (hframes : 1 ≤ R.frames) (hlocals : (rest.map fun v => v.category).sum + 13 ≤ R.locals) (hc : cells ≤ R.cells) (hs : slots ≤ R.slots) (hdg : decode cc pc = .ok (.invokestatic index, 3)) (kk : jJ p l e R s m args below meth c Q A D nL ws cells slots (pc + 3) lv (.int (if 0 ≤ x then x else 0 - x) :: rest)) : jJ p l e R s m args below meth c Q A D nL ws cells slots pc lv (.int x :: rest) := fun H locs ls h1 h2 h3 h4 =>
  va_mabs K.1 K.2.1 (K.2.2.1.trans h4.1.symm) K.ow (K.ts _ hlink) (K.ts _ hstat) (K.ts _ hini) (K.ts _ hcode) hframes hlocals hc hs hdg (kk H locs ls h1 h2 h3 h4)
theorem j_max (K : CX p s m args meth c cc nL own A D ct G) {index : Nat} {x y : Int32} (hlink : (Jvm.Cond.methodLink own index Lib.Math.max.name) ∈ lw_all) (hstat : (Jvm.Cond.static Lib.Math.max.name) ∈ lw_all) (hini : (Jvm.Cond.initialized "java/lang/Math") ∈ lw_all) (hcode : (Jvm.Cond.code Lib.Math.max.name Lib.Math.max.code 2 (some .int)) ∈ lw_all) (hframes : 1 ≤ R.frames) (hlocals : (rest.map fun v => v.category).sum + 13 ≤ R.locals) (hc : cells ≤ R.cells) (hs : slots ≤ R.slots) (hdg : decode cc pc = .ok (.invokestatic index, 3)) (kk : jJ p l e R s m args below meth c Q A D nL ws cells slots (pc + 3) lv (.int (if x < y then y else x) :: rest)) : jJ p l e R s m args below meth c Q A D nL ws cells slots pc lv (.int y :: .int x :: rest) := fun H locs ls h1 h2 h3 h4 =>
  va_mmax K.1 K.2.1 (K.2.2.1.trans h4.1.symm) K.ow (K.ts _ hlink) (K.ts _ hstat) (K.ts _ hini) (K.ts _ hcode) hframes hlocals hc hs hdg (kk H locs ls h1 h2 h3 h4)
theorem j_callUi {S : Type} (K : CX p s m args meth c cc nL own A D ct G) {x y : MethodName} {bytes : ByteArray} {maxL f mc ms L n index : Nat} {ret : Option FieldType}  {C owner : String} {a : Nat} {As stk : List Value} {post : Int32 → S → Prop} {wf : S → va_W}
    (hM : ∀ sz, Met l y (ws_ y bytes maxL ret) { frames := f, cells := mc, slots := ms, locals := L } (va_Pc (.ref a :: As) (cPre G D ct ws sz)) (va_Qi post (fun u => cB D ct (va_A ws sz) (wf u)) (va_A ws sz)) mc ms (va_A ws sz)) (hw : GoodIn lw_all (va_wsU own index C owner x y (ws_ y bytes maxL ret))) (hyx : y = ⟨owner, x.name, x.desc⟩) (hd : owner ≠ "java/lang/invoke/MethodHandle" ∧ owner ≠ "java/lang/invoke/VarHandle" ∧ (parseMethodDescriptor x.desc).map (fun d => d.parameters.length) = some n) (hR : f + 1 ≤ R.frames ∧ 8 + (maxL + 11) + L ≤ R.locals) (q0 : Nat) {ci : Nat} {fs : List Value} {q : vw_C} (he : ws[q0]? = some (a, .inr (ci, fs))) (hcl : gCl[ci]? = some q) (hqc : q.1 = C) (hn : As.length = n) (hst : stk = As.reverse ++ .ref a :: rest) (hrm : (rest.map fun v => v.category).sum ≤ 8) (hdg : decode cc pc = .ok (.invokevirtual index, 3)) (hf : cells + mc ≤ R.cells ∧ slots + ms ≤ R.slots)
    (kk : ∀ (r : Int32) (u : S), post r u → jJ p l e R s m args below meth c Q A D nL (wf u) (cells + mc) (slots + ms) (pc + 3) lv (.int r :: rest)) : jJ p l e R s m args below meth c Q A D nL ws cells slots pc lv stk := by
  intro H locs ls h1 h2 h3 h4
  subst hst
  refine va_calli (A1 := va_A ws H.size) (va_runU (As := As) (rest := rest) K.fix (hM H.size) (va_cwU n K.ts hw rfl rfl rfl hyx hd hR) ⟨(j_preS K h1 h2 h3).1, by rw [← hqc]; exact va_recv K.k h1 hcl he, (j_preS K h1 h2 h3).2⟩ rfl hn h4.1 rfl (lv_room hrm) hdg hf) h3 (fun q _ h => j_in K h2 h3 q h) (j_in K h2 h3) (fun r u t H1 locs1 ht hvm hp hB hz hk hS => ?_)
  obtain ⟨b1, b2, b3⟩ := hB
  exact kk r u hp H1 locs1 ls (by rw [← ht]; exact b1) (b3.weaken (fun k q _ h => j_in K h2 h3 _ h)) hS h4
/-- nextOf is private in Rules: the receiver is a Table -/
theorem j_callNi {S : Type} (K : CX p s m args meth c cc nL RX4 A D ct G) (hgl : gHas G t) {bytes : ByteArray} {maxL f mc ms L n index : Nat} {ret : Option FieldType} {a : Nat} {As stk : List Value} {post : Int32 → S → Prop} {wf : S → va_W}
    (hM : ∀ sz, Met l yX4_nextOf (ws_ yX4_nextOf bytes maxL ret) { frames := f, cells := mc, slots := ms, locals := L } (va_Pc (.ref a :: As) (cPre G D ct ws sz)) (va_Qi post (fun u => cB D ct (va_A ws sz) (wf u)) (va_A ws sz)) mc ms (va_A ws sz)) (hcode : Cond.code yX4_nextOf bytes maxL ret ∈ lw_all) (hlink : Cond.methodLink RX4 index yX4_nextOf ∈ lw_all) (hsame : Cond.sameMethod RX4 RX4 "nextOf" "(I)I" ∈ lw_all) (hinst : Cond.instanceMethod yX4_nextOf ∈ lw_all) (hini : Cond.initialized RX4 ∈ lw_all) (hn1 : n = 1) (hR : f + 1 ≤ R.frames ∧ 8 + (maxL + 11) + L ≤ R.locals) (q0 : Nat) {fs : List Value} (he : ws[q0]? = some (a, .inr (4, fs))) (hn : As.length = n) (hst : stk = As.reverse ++ .ref a :: rest) (hrm : (rest.map fun v => v.category).sum ≤ 8) (hdg : decode cc pc = .ok (.invokevirtual index, 3)) (hf : cells + mc ≤ R.cells ∧ slots + ms ≤ R.slots)
    (kk : ∀ (r : Int32) (u : S), post r u → jJ p l e R s m args below meth c Q A D nL (wf u) (cells + mc) (slots + ms) (pc + 3) lv (.int r :: rest)) : jJ p l e R s m args below meth c Q A D nL ws cells slots pc lv stk := by
  intro H locs ls h1 h2 h3 h4
  subst hst
  have cw : va_CU R s args RX4 RX5 RX4 index yX4_nextOf yX4_nextOf bytes maxL ret (ws_ yX4_nextOf bytes maxL ret) { frames := f, cells := mc, slots := ms, locals := L } mc ms n := by
    have hG : GoodIn lw_all (ws_ yX4_nextOf bytes maxL ret) := lw_meth hcode
    refine ⟨⟨rfl, rfl, hR.1, hR.2, pay_in K.ts hG, List.mem_cons_self⟩, K.ts _ hcode, K.ts _ hini, ⟨by decide +kernel, by decide +kernel⟩, fun sig h => ?_, K.ts _ hlink, K.ts _ hsame, va_Decl.of (K.ts _ hinst) (K.ts _ hcode), va_Nw.use rfl (hgl _ _ _ K.2.2.2.2.2.2.2.2.1).2.2.2.2, K.ts _ hinst⟩
    have h2 : (parseMethodDescriptor yX4_nextOf.desc).map (fun d => d.parameters.length) = some 1 := by decide +kernel
    rw [h] at h2
    rw [hn1]
    exact (Option.some.inj h2).symm
  refine va_calli (A1 := va_A ws H.size) (va_runU (As := As) (rest := rest) K.fix (hM H.size) cw ⟨(j_preS K h1 h2 h3).1, va_recv K.k h1 (show gCl[4]? = some (RX5, TX5, 7) from rfl) he, (j_preS K h1 h2 h3).2⟩ rfl hn h4.1 rfl (lv_room hrm) hdg hf) h3 (fun q _ h => j_in K h2 h3 q h) (j_in K h2 h3) (fun r u t H1 locs1 ht hvm hp hB hz hk hS => ?_)
  obtain ⟨b1, b2, b3⟩ := hB
  exact kk r u hp H1 locs1 ls (by rw [← ht]; exact b1) (b3.weaken (fun k q _ h => j_in K h2 h3 _ h)) hS h4
/-- a static method of a nest mate: MorrisTables.isIn out of Rules -/
theorem j_callIsIn {S : Type} (K : CX p s m args meth c cc nL RX4 A D ct G) (hgl : gHas G t) {bytes : ByteArray} {maxL f mc ms L : Nat} {ret : Option FieldType} {As stk : List Value} {post : Int32 → S → Prop} {wf : S → va_W}
    (hM : ∀ sz, Met l yX0_isIn (ws_ yX0_isIn bytes maxL ret) { frames := f, cells := mc, slots := ms, locals := L } (va_Pc As (cPre G D ct ws sz)) (va_Qi post (fun u => cB D ct (va_A ws sz) (wf u)) (va_A ws sz)) mc ms (va_A ws sz)) (hcode : Cond.code yX0_isIn bytes maxL ret ∈ lw_all) (hini : Cond.initialized RX0 ∈ lw_all) (hstat : Cond.static yX0_isIn ∈ lw_all) (hR : f + 1 ≤ R.frames ∧ 8 + (maxL + 11) + L ≤ R.locals) (hn : As.length = 3) (hst : stk = As.reverse ++ rest) (hrm : (rest.map fun v => v.category).sum ≤ 8) (hdg : decode cc pc = .ok (.invokestatic 54, 3)) (hf : cells + mc ≤ R.cells ∧ slots + ms ≤ R.slots)
    (kk : ∀ (r : Int32) (u : S), post r u → jJ p l e R s m args below meth c Q A D nL (wf u) (cells + mc) (slots + ms) (pc + 3) lv (.int r :: rest)) : jJ p l e R s m args below meth c Q A D nL ws cells slots pc lv stk := by
  intro H locs ls h1 h2 h3 h4
  subst hst
  refine va_calli (A1 := va_A ws H.size) (va_runSN (As := As) (rest := rest) K.fix (hM H.size) ⟨va_cnB 3 K.ts (lw_meth hcode) rfl rfl rfl (hgl _ _ _ K.2.2.2.2.2.2.2.2.1).2.2.2.1 (K.ts _ hini) (by decide +kernel) hR, K.ts _ hstat, trivial⟩ (j_preS K h1 h2 h3) rfl hn h4.1 rfl (lv_room hrm) hdg hf) h3 (fun q _ h => j_in K h2 h3 q h) (j_in K h2 h3) (fun r u t H1 locs1 ht hvm hp hB hz hk hS => ?_)
  obtain ⟨b1, b2, b3⟩ := hB
  exact kk r u hp H1 locs1 ls (by rw [← ht]; exact b1) (b3.weaken (fun k q _ h => j_in K h2 h3 _ h)) hS h4
end
