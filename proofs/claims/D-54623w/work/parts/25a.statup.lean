/-! a static method that is called through a class that only inherits it (Table.behind is Rules.behind) -/
theorem su_wp {Q : Unit → Pre} {E : CtlPost} {e : Env} {d : Bool} {acts : List Action} {s s₀ : State} {f : JFrame} {index ci n c : Nat} {m : MethodId} {dk ck : Class} {cf : ClassFile} {name desc : String} (ht : s.topJava?.isSome) (hp : e.platform.polymorphicOnlyByInvokevirtual = true)
    (hW : s₀.WarmedH s.vm) (hE : s₀.MethodEntryUp e s.vm f.method.cls index c m ci) (h1 : s₀.vm.classes[f.method.cls]? = some dk) (h2 : dk.cf = some cf) (h3 : cf.constantPool[index]? = some (if false then .interfaceMethodref ci n else .methodref ci n)) (h4 : cf.constantPool.nameAndType? n = some (name, desc))
    (hck : s₀.vm.classes[c]? = some ck) (hno : (ck.methods.any fun x => x.name == name && !x.isStatic && signaturePolymorphic ck x) = false) :
    wp (invokestatic.sem index) Q E e d acts (s.setTop f) ↔ wp (invokestatic.sem index) Q E e d acts ((s.setVm (s.vm.calledUp f.method.cls ci index c m)).setTop f) := by
  have cf1 := hE.classFirst
  obtain ⟨ka, hka, ea⟩ := hW.alike.2.2 _ _ h1
  obtain ⟨kb, hkb, eb⟩ := hE.warmed.alike.2.2 _ _ h1
  obtain ⟨ca, hca, eca⟩ := cf1.2.2.1.alike.2.2 _ _ hck
  obtain ⟨cb, hcb, ecb⟩ := hE.warmed.alike.2.2 _ _ hck
  have na : (ca.methods.any fun x => x.name == name && !x.isStatic && signaturePolymorphic ca x) = false := by rw [eca]; exact hno
  have nb : (cb.methods.any fun x => x.name == name && !x.isStatic && signaturePolymorphic cb x) = false := by rw [ecb]; exact hno
  have ra := memberRef_ask_via (e := e) hka (by rw [ea]; exact h2) h3 h4
  have rb := memberRef_ask_via (e := e) hkb (by rw [eb]; exact h2) h3 h4
  have tb : (s.setVm (s.vm.calledUp f.method.cls ci index c m)).topJava?.isSome := ht
  have ta : (s.setVm (s.vm.noted f.method.cls ci (.cls c))).topJava?.isSome := ht
  have hL : ∀ {Q' : ClassId → Pre} {d' : Bool} {acts' : List Action}, wp (Jvm.resolveClassAt ci) Q' E e d' acts' (s.setTop f) ↔ Q' c d' acts' ((s.setVm (s.vm.noted f.method.cls ci (.cls c))).setTop f) :=
    W.resolveClassAt_links (t := s.setTop f) (State.method?_setTop f ht) cf1.1
  have hM : ∀ {Q' : MethodId → Pre} {d' : Bool} {acts' : List Action}, wp (Jvm.resolveMethodAt index) Q' E e d' acts' ((s.setVm (s.vm.noted f.method.cls ci (.cls c))).setTop f) ↔ Q' m d' acts' ((s.setVm (s.vm.calledUp f.method.cls ci index c m)).setTop f) :=
    W.resolveMethodAt_links (t := (s.setVm (s.vm.noted f.method.cls ci (.cls c))).setTop f) (State.method?_setTop f ta) cf1.2.2.2
  simp [invokestatic.sem, hp, Seam.memberRefOf, State.method?_setTop f ht, State.method?_setTop f tb, ra, rb, hL, W.resolveClassAt_ready (s := (s.setVm (s.vm.calledUp f.method.cls ci index c m)).setTop f) (State.method?_setTop f tb) hE.classReady,
    hca, hcb, na, nb, hM, W.resolveMethodAt_ready (s := (s.setVm (s.vm.calledUp f.method.cls ci index c m)).setTop f) (State.method?_setTop f tb) hE.ready, -Array.any_eq_true]
section
variable {p : Program} {l : Launch} {e : Env} {R : Room} {s : State} {m : MethodId} {args : Array Value} {below : List Frame} {meth : Method} {c : Code}
theorem su_call {T : State} {locs : List Loc} {cells slots : Nat} (X : Stand p l e R s m args below meth c T locs cells slots) (hexec : p.tables.exec = Jvm.exec) {own owner : String} {index : Nat} {x y : MethodName} {bytes : ByteArray} {maxL : Nat} {ret : Option FieldType} (hyx : y = ⟨owner, x.name, x.desc⟩)
    (hown : s.vm.findClass own = some m.cls) (hlink : (Cond.methodLink own index x).before args s = true) (hsame : (Cond.sameMethod x.cls owner x.name x.desc).before args s = true) (hstat : (Cond.static y).before args s = true) (hinit : (Cond.initialized y.cls).before args s = true) (hcode : (Cond.code y bytes maxL ret).before args s = true) (hy : owner ≠ "java/lang/invoke/MethodHandle" ∧ owner ≠ "java/lang/invoke/VarHandle")
    {W : Nat} {Pre : Pt → Array Value → Prop} {Post : Pt → Array Value → Option Value → Pt → Prop} (hK : Back l R p e below s args y 3 W Pre Post)
    {g : JFrame} (hg : g.method = m) (hsize : g.locals.size = c.maxLocals) {argsL rest : List Value} (hlen : ∀ sig, parseMethodDescriptor y.desc = some sig → argsL.length = sig.parameters.length)
    (hstack : g.stack = argsL.reverse ++ rest) (hW : 2 * g.monitorRoom + (rest.map fun v => v.category).sum ≤ W) (hdg : decode c.code g.pc = .ok (.invokestatic index, 3))
    (hpre : ∀ vm₁, s.WarmedH vm₁ → Pre ⟨T.setVm vm₁, locs, cells, slots⟩ argsL.toArray) :
    ∃ (v : Option Value) (vm₁ : Vm) (B : Pt), s.WarmedH vm₁ ∧ Stand p l e R s m args below meth c B.U B.locs B.cells B.slots ∧ Post ⟨T.setVm vm₁, locs, cells, slots⟩ argsL.toArray v B ∧
      ∀ target, Steps p.tables e below (B.U.setTop { g with pc := g.pc + 3, stack := v.toList ++ rest }) target → Steps p.tables e below (T.setTop g) target := by
  obtain ⟨mk, hnamed⟩ := Cond.code_named hcode
  obtain ⟨mM, cM, hmM, -, -, -, -, -, -, hsig⟩ := Cond.code_spec hnamed hcode
  have hst : mM.isStatic = true := Cond.static_spec hnamed hmM hstat
  obtain ⟨kP, hkP, hnx⟩ := className_of_methodNamed hnamed
  have hinP : kP.init = .initialized := Cond.initialized_spec (findClass_of_methodNamed hnamed) hkP hinit
  have hnamed2 := hnamed
  subst hyx
  have hpl : e.platform.magicAccessors = ({} : Platform).magicAccessors := by rw [X.admits.platform]
  have hpv : e.platform.polymorphicOnlyByInvokevirtual = true := by rw [X.admits.platform]
  obtain ⟨cn, ck, r1, hcn, hck, hni, hfd, hn1⟩ := Cond.sameMethod_found hsame
  cases hnamed.symm.trans hn1
  obtain ⟨ci, hl, hright⟩ := Cond.methodLink_specUp hown hcn hck hni hfd hlink e.platform hpl (by rw [X.admits.platform])
  have hE : s.MethodEntryUp e T.vm m.cls index cn mk ci := State.methodEntryUp X.warmed hl hright
  obtain ⟨dk, cfile, nt, mname, mdesc, ck', _, _, hd, hcf, hcp, hnt, -, -, hck', -, hnop, -⟩ := hl.here
  cases hck.symm.trans hck'
  have al := hE.warmed.alike
  obtain ⟨dk₂, hdk₂, ed₂⟩ := al.2.2 _ _ hd
  obtain ⟨k₂, hk₂, ek₂⟩ := al.2.2 _ _ hkP
  obtain ⟨ck₂, hck₂, ec₂⟩ := al.2.2 _ _ hck
  have hno : (ck.methods.any fun z => z.name == mname && !z.isStatic && signaturePolymorphic ck z) = false := by simp [hnop]
  have hno₂ : (ck₂.methods.any fun z => z.name == mname && !z.isStatic && signaturePolymorphic ck₂ z) = false := by rw [ec₂]; exact hno
  have hcp' : cfile.constantPool[index]? = some (if false then .interfaceMethodref ci nt else .methodref ci nt) := hcp
  have hstep : ∀ target, (∀ acts, Steps p.tables e below (doInvoke e ((T.setVm (T.vm.calledUp m.cls ci index cn mk)).setTop { g with stack := rest }) acts mk argsL.toArray).1 target) → Steps p.tables e below (T.setTop g) target := by
    intro target hrest
    subst hg
    jvm_step X.here [hexec, hdg, su_wp (e := e) (s := T) (s₀ := s) (f := g) X.here.top hpv X.warmed hE hd hcf hcp' hnt hck hno,
      invokestatic.wp_ready (e := e) (s := T.setVm (T.vm.calledUp g.method.cls ci index cn mk)) (k := k₂) (meth := mM) (m := mk) (args := argsL) (rest := rest) (f := g)
        X.here.top ⟨ci, mname, mdesc, false, cn, ck₂, memberRef_ask_via (e := e) hdk₂ (by rw [ed₂]; exact hcf) hcp' hnt, hE.classReady, hck₂, hno₂⟩ hE.ready hk₂
        (by show (T.vm.calledUp g.method.cls ci index cn mk).method? mk = some mM; rw [al.method?]; exact hmM)
        (by rw [ek₂]; show signaturePolymorphic kP mM = false; simp [signaturePolymorphic, hnx, hy.1, hy.2]) hst (by rw [ek₂]; exact hinP) (hlen _ hsig) hstack]
    exact fun acts => hrest _
  have X₁ : Stand p l e R s m args below meth c (T.setVm (T.vm.calledUp m.cls ci index cn mk)) locs cells slots := X.noted hE.warmed
  obtain ⟨v, B, X', hpost, hsteps⟩ := hK m meth c ⟨T.setVm (T.vm.calledUp m.cls ci index cn mk), locs, cells, slots⟩ { g with stack := rest } (.invokestatic index) mk argsL.toArray X₁ hg hsize hdg hW (X₁.named hnamed2) (hpre _ hE.warmed)
  exact ⟨v, _, B, hE.warmed, X', hpost, fun target h => hstep _ fun acts => by rw [doInvoke_state]; exact hsteps.trans h⟩
end
section
variable {p : Program} {l : Launch} {e : Env} {R : Room} {s : State} {m : MethodId} {args : Array Value} {below : List Frame} {meth : Method} {c : Code} {Q : State → Prop} {A : Nat → Prop} {D : va_G} {nL : Nat} {ws : va_W} {cells slots pc : Nat} {lv : List (Nat × Value)} {rest : List Value} {cc : ByteArray} {own : String} {ct : Nat → ClassId} {G : gE}
theorem su_run {H : Heap} {locs : List Loc} {x y : MethodName} {bytes : ByteArray} {maxL mc ms n index : Nat} {ret : Option FieldType} {wz : List Cond} {rm : Room} {Pc : Array Value → State → Prop} {Qc : Array Value → State → Outcome → State → Prop} {free : Addr → Prop} {Ts : List Cond} {owner : String} {As : List Value} {g : JFrame}
    (S : CallFix p m c cc nL s args Ts own) (hM : Met l y wz rm Pc Qc mc ms free) (hyx : y = ⟨owner, x.name, x.desc⟩) (hG : GoodIn Ts wz) (hcw : Cond.code y bytes maxL ret ∈ wz) (hrc : rm.cells = mc) (hrs : rm.slots = ms) (hfr : rm.frames + 1 ≤ R.frames) (hlo : 8 + (maxL + 11) + rm.locals ≤ R.locals)
    (hlink : (Cond.methodLink own index x).before args s = true) (hsame : (Cond.sameMethod x.cls owner x.name x.desc).before args s = true) (hstat : (Cond.static y).before args s = true) (hini : (Cond.initialized y.cls).before args s = true) (hy : owner ≠ "java/lang/invoke/MethodHandle" ∧ owner ≠ "java/lang/invoke/VarHandle") (hpar : (parseMethodDescriptor y.desc).map (fun d => d.parameters.length) = some n) (hp : PreS s H Pc As)
    (hg : g.method = m) (hn : As.length = n) (hsize : g.locals.size = nL) (hstack : g.stack = As.reverse ++ rest) (hW : 2 * g.monitorRoom + (rest.map fun v => v.category).sum ≤ 8) (hdg : decode cc g.pc = .ok (.invokestatic index, 3)) (hf : cells + mc ≤ R.cells ∧ slots + ms ≤ R.slots) :
    va_Run p l e R s m args below meth c H locs cells slots mc ms g rest (Qc As.toArray) (free) := by
  have hK : Back l R p e below s args y 3 8 (PreOf R mc ms Pc) (PostOf Qc mc ms free) := back_of (bytes := bytes) (maxL := maxL) (ret := ret) hM hp.1 hrc hrs hfr hlo (pay_in S.2.2.2.2 hG) hcw (fun a' U hW => word_at hW (Or.inl (by first | rfl | simp [Cond.onTables, Cond.keeps, Cond.steady])) hini)
  have hcode := S.2.2.2.2 _ (hG _ hcw).1
  obtain ⟨hx, hb, hml, ho, -⟩ := S
  have hPc := hp.2
  intro T hT X
  obtain ⟨v, vm₁, ⟨U', l2, c2, s2⟩, hW₁, X', ⟨g', mk, t, L, e1, e2, hq, h1, hL, h2, h3⟩, st⟩ := su_call X hx (bytes := bytes) (maxL := maxL) (ret := ret) hyx ho hlink hsame hstat hini hcode hy hK hg (hsize.trans hml.symm) (argsL := As) (rest := rest) (fun sig h => by rw [h] at hpar; exact hn.trans (Option.some.inj hpar).symm) hstack hW (by rw [hb]; exact hdg)
    (fun vm₁ hW₁ => ⟨hf.1, hf.2, hPc (T.setVm vm₁) hT hW₁⟩)
  dsimp only [Pt.U, Pt.locs, Pt.cells, Pt.slots] at X' e1 e2 h1 h2 h3 st
  subst h1; subst h2; subst h3
  exact ⟨v, (T.setVm vm₁).calling g' mk As.toArray, t, U', L, hT, X', hL, e1, e2, hq, st⟩
theorem j_callSUi {S : Type} (K : CX p s m args meth c cc nL own A D ct G) {x y : MethodName} {bytes : ByteArray} {maxL f mc ms L n index : Nat} {ret : Option FieldType} {owner : String} {As stk : List Value} {post : Int32 → S → Prop} {wf : S → va_W}
    (hM : ∀ sz, Met l y (ws_ y bytes maxL ret) { frames := f, cells := mc, slots := ms, locals := L } (va_Pc As (cPre G D ct ws sz)) (va_Qi post (fun u => cB D ct (va_A ws sz) (wf u)) (va_A ws sz)) mc ms (va_A ws sz)) (hyx : y = ⟨owner, x.name, x.desc⟩) (hcode : Cond.code y bytes maxL ret ∈ lw_all) (hlink : Cond.methodLink own index x ∈ lw_all) (hsame : Cond.sameMethod x.cls owner x.name x.desc ∈ lw_all) (hstat : Cond.static y ∈ lw_all) (hini : Cond.initialized y.cls ∈ lw_all) (hd : owner ≠ "java/lang/invoke/MethodHandle" ∧ owner ≠ "java/lang/invoke/VarHandle") (hpar : (parseMethodDescriptor y.desc).map (fun d => d.parameters.length) = some n) (hR : f + 1 ≤ R.frames ∧ 8 + (maxL + 11) + L ≤ R.locals) (hn : As.length = n) (hst : stk = As.reverse ++ rest) (hrm : (rest.map fun v => v.category).sum ≤ 8) (hdg : decode cc pc = .ok (.invokestatic index, 3)) (hf : cells + mc ≤ R.cells ∧ slots + ms ≤ R.slots)
    (kk : ∀ (r : Int32) (u : S), post r u → jJ p l e R s m args below meth c Q A D nL (wf u) (cells + mc) (slots + ms) (pc + 3) lv (.int r :: rest)) : jJ p l e R s m args below meth c Q A D nL ws cells slots pc lv stk := by
  intro H locs ls h1 h2 h3 h4
  subst hst
  refine va_calli (A1 := va_A ws H.size) (su_run (As := As) (rest := rest) K.fix (hM H.size) hyx (lw_meth hcode) List.mem_cons_self rfl rfl hR.1 hR.2 (K.ts _ hlink) (K.ts _ hsame) (K.ts _ hstat) (K.ts _ hini) hd hpar (j_preS K h1 h2 h3) rfl hn h4.1 rfl (lv_room hrm) hdg hf) h3 (fun q _ h => j_in K h2 h3 q h) (j_in K h2 h3) (fun r u t H1 locs1 ht hvm hp hB hz hk hS => ?_)
  obtain ⟨b1, b2, b3⟩ := hB
  exact kk r u hp H1 locs1 ls (by rw [← ht]; exact b1) (b3.weaken (fun k q _ h => j_in K h2 h3 _ h)) hS h4
end
