/-! rows for references, new cells put ahead of the world, calls; contracts by consequence, in another order, with a frame -/
theorem met_conseq {l : Launch} {y : MethodName} {ws : List Cond} {rm : Room} {Pc Pc' : Array Value → State → Prop} {Qc Qc' : Array Value → State → Outcome → State → Prop} {mc ms : Nat} {free free' : Addr → Prop} (hM : Met l y ws rm Pc Qc mc ms free) (hP : ∀ a U, Pc' a U → Pc a U) (hQ : ∀ a st o t, Pc' a st → Qc a st o t → Qc' a st o t) (hF : ∀ q, free q → free' q) : Met l y ws rm Pc' Qc' mc ms free' := by
  intro p e h1 h2 h3 s m args below h4 h5 h6 h7
  obtain ⟨n, o, g1, g2, g3, g4, L, g5, g6⟩ := hM p e h1 h2 h3 s m args below h4 h5 (hP _ _ h6) h7
  exact ⟨n, o, g1, g2, g3, hQ _ _ _ _ h6 g4, L, g5, fun q hq => hF _ (g6 q hq)⟩
theorem va_A_mem {w : va_W} {sz q : Nat} : va_A w sz q ↔ (∃ e, (q, e) ∈ w) ∨ sz ≤ q := by
  constructor
  · rintro (⟨k, e, h⟩ | h)
    · exact Or.inl ⟨e, List.mem_of_getElem? h⟩
    · exact Or.inr h
  · rintro (⟨e, h⟩ | h)
    · obtain ⟨i, hi⟩ := List.mem_iff_getElem?.mp h
      exact Or.inl ⟨i, e, hi⟩
    · exact Or.inr h
theorem va_P_mem {D : va_G} {w : va_W} {H : Heap} : va_P D gCl w H ↔ ∀ q ∈ w, va_at D gCl q H := by
  constructor
  · intro h q hq
    obtain ⟨i, hi⟩ := List.mem_iff_getElem?.mp hq
    exact h i q hi
  · intro h k q hk
    exact h q (List.mem_of_getElem? hk)
theorem va_D_mem {A : Nat → Prop} {w : va_W} : va_D A w ↔ (w.map Prod.fst).Nodup ∧ ∀ q ∈ w, A q.1 := by
  constructor
  · intro h
    refine ⟨h.nodup, fun q hq => ?_⟩
    obtain ⟨i, hi⟩ := List.mem_iff_getElem?.mp hq
    exact h.2 i q hi
  · intro h
    exact va_D.of_nodup h.1 h.2
theorem va_P.sublist {D : va_G} {w w' : va_W} {H : Heap} (hs : w'.Sublist w) (h : va_P D gCl w H) : va_P D gCl w' H := va_P_mem.mpr fun q hq => va_P_mem.mp h q (hs.mem hq)
theorem va_D.sublist {A : Nat → Prop} {w w' : va_W} (hs : w'.Sublist w) (h : va_D A w) : va_D A w' := va_D_mem.mpr ⟨(va_D_mem.mp h).1.sublist (hs.map _), fun q hq => (va_D_mem.mp h).2 q (hs.mem hq)⟩
/-- a part of a world's start -/
theorem cPre.part {G G' : gE} {D : va_G} {ct : Nat → ClassId} {w0 w1 w2 : va_W} {sz : Nat} {U : State} (hG : gOK G) (hGG : ∀ A U H, G' A U H → G A U H) (hp : w0.Perm (w1 ++ w2)) (h : cPre G' D ct w0 sz U) : cPre G D ct w1 sz U := by
  obtain ⟨h1, h2, h3, h4, h5⟩ := h
  refine ⟨h1, (h2.perm hp).sublist (List.sublist_append_left _ _), h3, (h4.perm hp).sublist (List.sublist_append_left _ _), ?_⟩
  refine hG.2.2 _ _ U _ _ (fun _ _ => rfl) (fun q hq => ?_) (hGG _ _ _ h5)
  rcases va_A_mem.mp hq with ⟨e, he⟩ | he
  · exact va_A_mem.mpr (Or.inl ⟨e, hp.mem_iff.mpr (List.mem_append_left _ he)⟩)
  · exact Or.inr he
/-- behind a call over a part: the rest is as it was -/
theorem cB.frame {G : gE} {D : va_G} {ct : Nat → ClassId} {w0 w1 w2 w : va_W} {sz : Nat} {st t : State} (hp : w0.Perm (w1 ++ w2)) (hpre : cPre G D ct w0 sz st) (hB : cB D ct (va_A w1 sz) w t) (hF : va_F (va_A w1 sz) st t) : cB D ct (va_A w0 sz) (w ++ w2) t ∧ va_F (va_A w0 sz) st t := by
  obtain ⟨h1, h2, h3, h4, h5⟩ := hpre
  have hA : ∀ q, va_A w1 sz q → va_A w0 sz q := by
    intro q hq
    rcases va_A_mem.mp hq with ⟨e, he⟩ | he
    · exact va_A_mem.mpr (Or.inl ⟨e, hp.mem_iff.mpr (List.mem_append_left _ he)⟩)
    · exact Or.inr he
  have hP := va_P_mem.mp (h2.perm hp)
  have hD := va_D_mem.mp (h4.perm hp)
  rw [List.map_append, List.nodup_append] at hD
  obtain ⟨⟨n1, n2, n3⟩, -⟩ := hD
  have apart : ∀ q ∈ w2, q.1 < st.heap.size ∧ ¬ va_A w1 sz q.1 := by
    intro q hq
    have hlt := (hP q (List.mem_append_right _ hq)).lt
    refine ⟨hlt, fun hz => ?_⟩
    rcases va_A_mem.mp hz with ⟨e, he⟩ | he
    · exact n3 q.1 (List.mem_map.mpr ⟨_, he, rfl⟩) q.1 (List.mem_map.mpr ⟨_, hq, rfl⟩) rfl
    · omega
  obtain ⟨b1, b2, b3⟩ := hB
  have hb3 := va_D_mem.mp b3
  refine ⟨⟨va_P_mem.mpr fun q hq => ?_, b2, va_D_mem.mpr ⟨?_, fun q hq => ?_⟩⟩, ⟨hF.1, fun q h6 h7 => hF.2 q h6 (fun z => h7 (hA q z))⟩⟩
  · rcases List.mem_append.mp hq with h | h
    · exact va_P_mem.mp b1 q h
    · exact (hP q (List.mem_append_right _ h)).kept (hF.2 q.1 (apart q h).1 (apart q h).2)
  · rw [List.map_append, List.nodup_append]
    refine ⟨hb3.1, n2, fun a ha b hb hab => ?_⟩
    obtain ⟨x, hx, rfl⟩ := List.mem_map.mp ha
    obtain ⟨y, hy, rfl⟩ := List.mem_map.mp hb
    exact (apart y hy).2 (by rw [← hab]; exact hb3.2 x hx)
  · rcases List.mem_append.mp hq with h | h
    · exact hA _ (hb3.2 q h)
    · exact va_A_mem.mpr (Or.inl ⟨q.2, hp.mem_iff.mpr (List.mem_append_right _ h)⟩)
theorem cB.to {D : va_G} {ct : Nat → ClassId} {A : Nat → Prop} {w w' w3 : va_W} {t : State} (hp : w.Perm (w' ++ w3)) (h : cB D ct A w t) : cB D ct A w' t := ⟨(h.1.perm hp).sublist (List.sublist_append_left _ _), h.2.1, (h.2.2.perm hp).sublist (List.sublist_append_left _ _)⟩
theorem met_lift_i {l : Launch} {D : va_G} {ct : Nat → ClassId} {S S' : Type} {y : MethodName} {wc : List Cond} {rm : Room} {av : List Value} {mc ms : Nat} {w0 w1 w2 : va_W} {G G' : gE} {wf : S → va_W} {wf' : S' → va_W} {post : Int32 → S → Prop} {post' : Int32 → S' → Prop} (hG : gOK G) (hGG : ∀ A U H, G' A U H → G A U H) (hpm : w0.Perm (w1 ++ w2)) (hM : ∀ sz, Met l y wc rm (va_Pc av (cPre G D ct w1 sz)) (va_Qi post (fun u => cB D ct (va_A w1 sz) (wf u)) (va_A w1 sz)) mc ms (va_A w1 sz)) (hfin : ∀ (r : Int32) (u : S), post r u → ∃ u', post' r u' ∧ ∃ w3, (wf u ++ w2).Perm (wf' u' ++ w3)) : ∀ sz, Met l y wc rm (va_Pc av (cPre G' D ct w0 sz)) (va_Qi post' (fun u => cB D ct (va_A w0 sz) (wf' u)) (va_A w0 sz)) mc ms (va_A w0 sz) := by
  intro sz
  refine met_conseq (hM sz) (fun a U h => ⟨h.1, h.2.part hG hGG hpm⟩) (fun a st o t hpre hq => ?_) (fun q hq => ?_)
  · obtain ⟨⟨r, u, ho, hp, hb⟩, hf⟩ := hq
    obtain ⟨u', hp', w3, hw⟩ := hfin r u hp
    have hh := cB.frame hpm hpre.2 hb hf
    exact ⟨⟨r, u', ho, hp', hh.1.to hw⟩, hh.2⟩
  · rcases va_A_mem.mp hq with ⟨e, he⟩ | he
    · exact va_A_mem.mpr (Or.inl ⟨e, hpm.mem_iff.mpr (List.mem_append_left _ he)⟩)
    · exact Or.inr he
theorem met_lift_v {l : Launch} {D : va_G} {ct : Nat → ClassId} {S S' : Type} {y : MethodName} {wc : List Cond} {rm : Room} {av : List Value} {mc ms : Nat} {w0 w1 w2 : va_W} {G G' : gE} {wf : S → va_W} {wf' : S' → va_W} {post : S → Prop} {post' : S' → Prop} (hG : gOK G) (hGG : ∀ A U H, G' A U H → G A U H) (hpm : w0.Perm (w1 ++ w2)) (hM : ∀ sz, Met l y wc rm (va_Pc av (cPre G D ct w1 sz)) (va_Qv post (fun u => cB D ct (va_A w1 sz) (wf u)) (va_A w1 sz)) mc ms (va_A w1 sz)) (hfin : ∀ (u : S), post u → ∃ u', post'  u' ∧ ∃ w3, (wf u ++ w2).Perm (wf' u' ++ w3)) : ∀ sz, Met l y wc rm (va_Pc av (cPre G' D ct w0 sz)) (va_Qv post' (fun u => cB D ct (va_A w0 sz) (wf' u)) (va_A w0 sz)) mc ms (va_A w0 sz) := by
  intro sz
  refine met_conseq (hM sz) (fun a U h => ⟨h.1, h.2.part hG hGG hpm⟩) (fun a st o t hpre hq => ?_) (fun q hq => ?_)
  · obtain ⟨⟨u, ho, hp, hb⟩, hf⟩ := hq
    obtain ⟨u', hp', w3, hw⟩ := hfin u hp
    have hh := cB.frame hpm hpre.2 hb hf
    exact ⟨⟨u', ho, hp', hh.1.to hw⟩, hh.2⟩
  · rcases va_A_mem.mp hq with ⟨e, he⟩ | he
    · exact va_A_mem.mpr (Or.inl ⟨e, hpm.mem_iff.mpr (List.mem_append_left _ he)⟩)
    · exact Or.inr he
theorem met_lift_q {l : Launch} {D : va_G} {ct : Nat → ClassId} {S S' : Type} {y : MethodName} {wc : List Cond} {rm : Room} {av : List Value} {mc ms : Nat} {w0 w1 w2 : va_W} {G G' : gE} {wf : S → va_W} {wf' : S' → va_W} {post : Option Nat → S → Prop} {post' : Option Nat → S' → Prop} (hG : gOK G) (hGG : ∀ A U H, G' A U H → G A U H) (hpm : w0.Perm (w1 ++ w2)) (hM : ∀ sz, Met l y wc rm (va_Pc av (cPre G D ct w1 sz)) (va_Qq post (fun u => cB D ct (va_A w1 sz) (wf u)) (va_A w1 sz)) mc ms (va_A w1 sz)) (hfin : ∀ (r : Option Nat) (u : S), post r u → ∃ u', post' r u' ∧ ∃ w3, (wf u ++ w2).Perm (wf' u' ++ w3)) : ∀ sz, Met l y wc rm (va_Pc av (cPre G' D ct w0 sz)) (va_Qq post' (fun u => cB D ct (va_A w0 sz) (wf' u)) (va_A w0 sz)) mc ms (va_A w0 sz) := by
  intro sz
  refine met_conseq (hM sz) (fun a U h => ⟨h.1, h.2.part hG hGG hpm⟩) (fun a st o t hpre hq => ?_) (fun q hq => ?_)
  · obtain ⟨⟨r, u, ho, hp, hb⟩, hf⟩ := hq
    obtain ⟨u', hp', w3, hw⟩ := hfin r u hp
    have hh := cB.frame hpm hpre.2 hb hf
    exact ⟨⟨r, u', ho, hp', hh.1.to hw⟩, hh.2⟩
  · rcases va_A_mem.mp hq with ⟨e, he⟩ | he
    · exact va_A_mem.mpr (Or.inl ⟨e, hpm.mem_iff.mpr (List.mem_append_left _ he)⟩)
    · exact Or.inr he
/-- two entries that say the same of every heap -/
def sameE (x y : Nat × va_E) : Prop := x.1 = y.1 ∧ ∀ (D : va_G) (H : Heap), va_at D gCl x H → va_at D gCl y H
theorem sameE.refl (x : Nat × va_E) : sameE x x := ⟨rfl, fun _ _ h => h⟩
theorem arrV_cg {cA : ClassId} {n : Nat} {f g : Nat → Value} (h : ∀ i, i < n → f i = g i) : arrV cA n f = arrV cA n g := by
  unfold arrV
  congr 1
  congr 1
  funext j
  exact h j.val j.isLt
theorem sameE.ints {a n : Nat} {cA : ClassId} {f g : Nat → Int32} (h : ∀ i, i < n → f i = g i) : sameE (a, .inl (cA, n, .inl f)) (a, .inl (cA, n, .inl g)) := ⟨rfl, fun _ H hh => by
  show H[a]? = some (vp_cell _ _)
  have hh : H[a]? = some (vp_cell cA (n, .inl f)) := hh
  rw [hh, vp_cell_i, vp_cell_i, arrV_cg (f := fun j => .int (f j)) (g := fun j => .int (g j)) (fun i hi => by rw [h i hi])]⟩
theorem sameE.refs {a n : Nat} {cA : ClassId} {f g : Nat → Option Nat} (h : ∀ i, i < n → f i = g i) : sameE (a, .inl (cA, n, .inr (.inr (.inr (.inr f))))) (a, .inl (cA, n, .inr (.inr (.inr (.inr g))))) := ⟨rfl, fun _ H hh => by
  show H[a]? = some (vp_cell _ _)
  have hh : H[a]? = some (vp_cell cA (n, .inr (.inr (.inr (.inr f))))) := hh
  rw [hh, vp_cell_q, vp_cell_q, arrV_cg (f := fun j => va_rf (f j)) (g := fun j => va_rf (g j)) (fun i hi => by rw [h i hi])]⟩
/-- worlds that say the same, entry by entry -/
def sameW : va_W → va_W → Prop
  | [], [] => True
  | x :: xs, y :: ys => sameE x y ∧ sameW xs ys
  | _, _ => False
theorem sameW.refl : ∀ w : va_W, sameW w w
  | [] => trivial
  | x :: xs => ⟨sameE.refl x, sameW.refl xs⟩
theorem sameW.P {D : va_G} {H : Heap} : ∀ {w w' : va_W}, sameW w w' → va_P D gCl w H → va_P D gCl w' H := by
  intro w w' h hP
  rw [va_P_mem] at hP ⊢
  induction w generalizing w' with
  | nil =>
    cases w' with
    | nil => exact hP
    | cons y ys => exact absurd h id
  | cons x xs ih =>
    cases w' with
    | nil => exact absurd h id
    | cons y ys =>
      intro q hq
      rcases List.mem_cons.mp hq with rfl | hq
      · exact h.1.2 D H (hP x List.mem_cons_self)
      · exact ih h.2 (fun q hq => hP q (List.mem_cons_of_mem _ hq)) q hq
theorem sameW.fst : ∀ {w w' : va_W}, sameW w w' → w.map Prod.fst = w'.map Prod.fst := by
  intro w w' h
  induction w generalizing w' with
  | nil =>
    cases w' with
    | nil => rfl
    | cons y ys => exact absurd h id
  | cons x xs ih =>
    cases w' with
    | nil => exact absurd h id
    | cons y ys => rw [List.map_cons, List.map_cons, ih h.2, h.1.1]
theorem sameW.D {A : Nat → Prop} {w w' : va_W} (h : sameW w w') (hD : va_D A w) : va_D A w' := by
  rw [va_D_mem] at hD ⊢
  refine ⟨by rw [← h.fst]; exact hD.1, fun q hq => ?_⟩
  have h1 : q.1 ∈ w.map Prod.fst := by rw [h.fst]; exact List.mem_map.mpr ⟨q, hq, rfl⟩
  obtain ⟨x, hx, e⟩ := List.mem_map.mp h1
  rw [← e]
  exact hD.2 x hx
section
variable {p : Program} {l : Launch} {e : Env} {R : Room} {s : State} {m : MethodId} {args : Array Value} {below : List Frame} {meth : Method} {c : Code} {Q : State → Prop} {A : Nat → Prop} {D : va_G} {nL : Nat} {ws : va_W} {cells slots pc : Nat} {lv : List (Nat × Value)} {rest : List Value} {cc : ByteArray} {own : String} {ct : Nat → ClassId} {G : gE}
theorem j_same {ws' : va_W} {st : List Value} (h : sameW ws ws') (kk : jJ p l e R s m args below meth c Q A D nL ws' cells slots pc lv st) : jJ p l e R s m args below meth c Q A D nL ws cells slots pc lv st := fun H locs ls h1 h2 h3 h4 => kk H locs ls (h.P h1) (h.D h2) h3 h4
theorem j_sub {ws' : va_W} {st : List Value} (h : ws'.Sublist ws) (kk : jJ p l e R s m args below meth c Q A D nL ws' cells slots pc lv st) : jJ p l e R s m args below meth c Q A D nL ws cells slots pc lv st := fun H locs ls h1 h2 h3 h4 => kk H locs ls (h1.sublist h) (h2.sublist h) h3 h4
theorem j_wsT (is : List Nat) {wx ws' tl : va_W} {st : List Value} (hs : is.map (fun i => wx[i]?) = ws'.map some) (hn : va_nd is = true) (kk : jJ p l e R s m args below meth c Q A D nL (ws' ++ tl) cells slots pc lv st) : jJ p l e R s m args below meth c Q A D nL (wx ++ tl) cells slots pc lv st := fun H locs ls h1 h2 h3 h4 => kk H locs ls (h1.part is hs) (h2.part is hn hs) h3 h4
theorem j_null (K : CX p s m args meth c cc nL own A D ct G) (hdg : decode cc pc = .ok (.aconst_null, 1)) (kk : jJ p l e R s m args below meth c Q A D nL ws cells slots (pc + 1) lv (.null :: rest)) : jJ p l e R s m args below meth c Q A D nL ws cells slots pc lv rest := fun H locs ls h1 h2 h3 h4 => lv_null K.1 K.2.1 hdg (kk H locs ls h1 h2 h3 h4)
theorem j_aload_nN (K : CX p s m args meth c cc nL own A D ct G) {k : Fin 4} (j : Nat) {i : Nat} (hdg : decode cc pc = .ok (.aload_n k, 1)) (hi : (k : Nat) = i) (hj : lv[j]? = some (i, .null)) (kk : jJ p l e R s m args below meth c Q A D nL ws cells slots (pc + 1) lv (.null :: rest)) : jJ p l e R s m args below meth c Q A D nL ws cells slots pc lv rest := fun H locs ls h1 h2 h3 h4 => lv_aload_nN K.1 K.2.1 hdg hi (lv_at h4 j hj) (kk H locs ls h1 h2 h3 h4)
theorem j_astore_nN (K : CX p s m args meth c cc nL own A D ct G) {k : Fin 4} {i : Nat} (lv' : List (Nat × Value)) (hdg : decode cc pc = .ok (.astore_n k, 1)) (hi : (k : Nat) = i) (hn : i < nL) (hl : (i, Value.null) :: lv.filter (fun q => !(q.1 == i) && !(q.1 + 1 == i && q.2.category == 2)) = lv') (kk : jJ p l e R s m args below meth c Q A D nL ws cells slots (pc + 1) lv' rest) : jJ p l e R s m args below meth c Q A D nL ws cells slots pc lv (.null :: rest) := fun H locs ls h1 h2 h3 h4 => lv_astore_nN K.1 K.2.1 hdg hi h4 hn hl (fun ls h4 => kk H locs ls h1 h2 h3 h4)
theorem j_ifnull (K : CX p s m args meth c cc nL own A D ct G) {x : Nat} {off : Int} (hdg : decode cc pc = .ok (.ifnull off, 3)) (kk : jJ p l e R s m args below meth c Q A D nL ws cells slots (pc + 3) lv rest) : jJ p l e R s m args below meth c Q A D nL ws cells slots pc lv (.ref x :: rest) := fun H locs ls h1 h2 h3 h4 => lv_ifnull K.1 K.2.1 hdg (kk H locs ls h1 h2 h3 h4)
theorem j_ifnullN (K : CX p s m args meth c cc nL own A D ct G) {off : Int} (tgt : Nat) (hdg : decode cc pc = .ok (.ifnull off, 3)) (ht : (pc : Int) + off = (tgt : Int)) (kk : jJ p l e R s m args below meth c Q A D nL ws cells slots tgt lv rest) : jJ p l e R s m args below meth c Q A D nL ws cells slots pc lv (.null :: rest) := fun H locs ls h1 h2 h3 h4 => lv_ifnullN K.1 K.2.1 hdg ht (kk H locs ls h1 h2 h3 h4)
theorem j_ifnonnull (K : CX p s m args meth c cc nL own A D ct G) {x : Nat} {off : Int} (tgt : Nat) (hdg : decode cc pc = .ok (.ifnonnull off, 3)) (ht : (pc : Int) + off = (tgt : Int)) (kk : jJ p l e R s m args below meth c Q A D nL ws cells slots tgt lv rest) : jJ p l e R s m args below meth c Q A D nL ws cells slots pc lv (.ref x :: rest) := fun H locs ls h1 h2 h3 h4 => lv_ifnonnull K.1 K.2.1 hdg ht (kk H locs ls h1 h2 h3 h4)
theorem j_ifnonnullN (K : CX p s m args meth c cc nL own A D ct G) {off : Int} (hdg : decode cc pc = .ok (.ifnonnull off, 3)) (kk : jJ p l e R s m args below meth c Q A D nL ws cells slots (pc + 3) lv rest) : jJ p l e R s m args below meth c Q A D nL ws cells slots pc lv (.null :: rest) := fun H locs ls h1 h2 h3 h4 => lv_ifnonnullN K.1 K.2.1 hdg (kk H locs ls h1 h2 h3 h4)
theorem j_acmp_eq (K : CX p s m args meth c cc nL own A D ct G) {x y : Nat} {off : Int} (tgt : Nat) (hdg : decode cc pc = .ok (.if_acmp .eq off, 3)) (ht : (pc : Int) + off = (tgt : Int)) (kt : x = y → jJ p l e R s m args below meth c Q A D nL ws cells slots tgt lv rest) (kf : ¬ x = y → jJ p l e R s m args below meth c Q A D nL ws cells slots (pc + 3) lv rest) : jJ p l e R s m args below meth c Q A D nL ws cells slots pc lv (.ref y :: .ref x :: rest) := fun H locs ls h1 h2 h3 h4 => lv_acmp_eq (rx := some x) (ry := some y) K.1 K.2.1 hdg ht (fun z => kt (Option.some.inj z) H locs ls h1 h2 h3 h4) (fun z => kf (fun w => z (by rw [w])) H locs ls h1 h2 h3 h4)
theorem j_acmp_ne (K : CX p s m args meth c cc nL own A D ct G) {x y : Nat} {off : Int} (tgt : Nat) (hdg : decode cc pc = .ok (.if_acmp .ne off, 3)) (ht : (pc : Int) + off = (tgt : Int)) (kt : ¬ x = y → jJ p l e R s m args below meth c Q A D nL ws cells slots tgt lv rest) (kf : x = y → jJ p l e R s m args below meth c Q A D nL ws cells slots (pc + 3) lv rest) : jJ p l e R s m args below meth c Q A D nL ws cells slots pc lv (.ref y :: .ref x :: rest) := fun H locs ls h1 h2 h3 h4 => lv_acmp_ne (rx := some x) (ry := some y) K.1 K.2.1 hdg ht (fun z => kt (fun w => z (by rw [w])) H locs ls h1 h2 h3 h4) (fun z => kf (Option.some.inj z) H locs ls h1 h2 h3 h4)
theorem j_newF (K : CX p s m args meth c cc nL own A D ct G) {C : String} {T : u_T} {N ci index : Nat} (hin : ∀ w ∈ u_ws C T N, w ∈ lw_all) (ty : Nat → FieldType) (hty : ∀ k, k < N → parseFieldDescriptor (T k).2.2.1 = some (ty k)) (hcl : (Jvm.Cond.classLink own index C) ∈ lw_all) (hinst : (Jvm.Cond.instantiable C N) ∈ lw_all) (hini : (Jvm.Cond.initialized C) ∈ lw_all) (hc : gCl[ci]? = some (C, T, N)) (fs : List Value) (hfs : ∀ j, j < N → defaultValue (ty j) = vp_V fs j) (hcells : cells + 1 ≤ R.cells) (hslots : slots + N ≤ R.slots) (hdg : decode cc pc = .ok (.new index, 3)) (kk : ∀ q : Nat, jJ p l e R s m args below meth c Q A D nL ((q, .inr (ci, fs)) :: ws) (cells + 1) (slots + N) (pc + 3) lv (.ref q :: rest)) : jJ p l e R s m args below meth c Q A D nL ws cells slots pc lv rest := j_new K hin ty hty hcl hinst hini hc fs hfs hcells hslots hdg (fun q => j_perm (List.perm_append_singleton _ _) (kk q))
theorem j_newaF (K : CX p s m args meth c cc nL own A D ct G) {n : Int32} (N : Nat) (hn : ¬ n < 0) (hN : n.toNatClampNeg = N) (hbytes : N * 4 ≤ 536870912) (hcells : cells + 1 ≤ R.cells) (hslots : slots + N ≤ R.slots) (hdg : decode cc pc = .ok (.newarray .int, 2)) (kk : ∀ q : Nat, jJ p l e R s m args below meth c Q A D nL ((q, .inl (ct 0, N, .inl (fun _ => 0))) :: ws) (cells + 1) (slots + N) (pc + 2) lv (.ref q :: rest)) : jJ p l e R s m args below meth c Q A D nL ws cells slots pc lv (.int n :: rest) := j_newa K (atype := .int) (ty := .int) q226 rfl 0 rfl (fun _ h => h) (N' := N) (a0 := (N, .inl (fun _ => 0))) (vz_int N) hn hN hbytes hcells hslots hdg (fun q => j_perm (List.perm_append_singleton _ _) (kk q))
theorem j_newbF (K : CX p s m args meth c cc nL own A D ct G) {n : Int32} (N : Nat) (hn : ¬ n < 0) (hN : n.toNatClampNeg = N) (hbytes : N * 1 ≤ 536870912) (hcells : cells + 1 ≤ R.cells) (hslots : slots + N ≤ R.slots) (hdg : decode cc pc = .ok (.newarray .byte, 2)) (kk : ∀ q : Nat, jJ p l e R s m args below meth c Q A D nL ((q, .inl (ct 2, N, .inl (fun _ => 0))) :: ws) (cells + 1) (slots + N) (pc + 2) lv (.ref q :: rest)) : jJ p l e R s m args below meth c Q A D nL ws cells slots pc lv (.int n :: rest) := j_newa K (atype := .byte) (ty := .byte) q261 rfl 2 rfl (fun _ h => h) (N' := N) (a0 := (N, .inl (fun _ => 0))) (fun _ => rfl) hn hN hbytes hcells hslots hdg (fun q => j_perm (List.perm_append_singleton _ _) (kk q))
theorem j_newqF (K : CX p s m args meth c cc nL own A D ct G) {C : String} {index : Nat} (hcl : (Jvm.Cond.classLink own index C) ∈ lw_all) (hover : va_AO C s) (t0 : Nat) {cT : ClassId} (ht : (gTys ct)[t0]? = some (cT, .object C)) {n : Int32} (N : Nat) (hn : ¬ n < 0) (hN : n.toNatClampNeg = N) (hbytes : N * 4 ≤ 536870912) (hcells : cells + 1 ≤ R.cells) (hslots : slots + N ≤ R.slots) (hdg : decode cc pc = .ok (.anewarray index, 3)) (kk : ∀ q : Nat, jJ p l e R s m args below meth c Q A D nL ((q, .inl (cT, N, .inr (.inr (.inr (.inr (fun _ => none)))))) :: ws) (cells + 1) (slots + N) (pc + 3) lv (.ref q :: rest)) : jJ p l e R s m args below meth c Q A D nL ws cells slots pc lv (.int n :: rest) := by
  intro H locs ls h1 h2 h3 h4
  refine va_newq K.1 K.2.1 K.ow (K.ts _ hcl) hover K.k h1 h2 h3 K.up hn hN hbytes hcells hslots hdg (fun q cA H1 hK' hP hD hS => ?_)
  have e1 : s.vm.findClass ("[" ++ (FieldType.object C).toString) = some cA := va_nmO (hK'.2 (gTys ct).length (cA, .object C) (by rw [List.getElem?_append_right (Nat.le_refl _)]; simp)).2 rfl
  have e2 : s.vm.findClass ("[" ++ (FieldType.object C).toString) = some cT := va_nmO (K.k.2 t0 _ ht).2 rfl
  have e3 : cA = cT := Option.some.inj (e1.symm.trans e2)
  subst e3
  exact kk q H1 locs ls (hP.perm (List.perm_append_singleton _ _)) (hD.perm (List.perm_append_singleton _ _)) hS h4
theorem j_cloneIF (K : CX p s m args meth c cc nL own A D ct G) {index : Nat} (hlink : (Jvm.Cond.methodLink own index ⟨"[I", "clone", "()Ljava/lang/Object;"⟩) ∈ lw_all) (hcl : va_Nw (.castable "[I" "java/lang/Cloneable") s) (q0 : Nat) {a N : Nat} {f : Nat → Int32} (ha : ws[q0]? = some (a, .inl (ct 0, N, .inl f))) (hframes : 1 ≤ R.frames) (hlocals : (rest.map fun v => v.category).sum + 14 ≤ R.locals) (hcells : cells + 1 ≤ R.cells) (hslots : slots + N ≤ R.slots) (hdg : decode cc pc = .ok (.invokevirtual index, 3)) (kk : ∀ q : Nat, jJ p l e R s m args below meth c Q A D nL ((q, .inl (ct 0, N, .inl f)) :: ws) (cells + 1) (slots + N) (pc + 3) lv (.ref q :: rest)) : jJ p l e R s m args below meth c Q A D nL ws cells slots pc lv (.ref a :: rest) := fun H locs ls h1 h2 h3 h4 =>
  va_clone K.1 K.2.1 (K.2.2.1.trans h4.1.symm) K.ow (K.ts _ hlink) (K.ts _ q330) (K.ts _ q331) (K.ts _ q332) (K.ts _ q333) hcl K.k h1 h2 h3 K.up q0 0 ha rfl (K.k.2 0 _ rfl).2 (fun i v hv => by
    have hlt : i < (vp_cell (ct 0) (N, .inl f)).slots.size := (Array.getElem?_eq_some_iff.mp hv).1
    rw [vp_cell_i, arrV_size] at hlt
    rw [vp_cell_i, arrV_read _ _ hlt] at hv
    cases hv; rfl) hframes hlocals hcells hslots hdg (fun q H1 _ hP hD hS => kk q H1 locs ls (hP.perm (List.perm_append_singleton _ _)) (hD.perm (List.perm_append_singleton _ _)) hS h4)
theorem j_aldq (K : CX p s m args meth c cc nL own A D ct G) (q0 t0 : Nat) {cA : ClassId} {C : String} {n a : Nat} {f : Nat → Option Nat} (ha : ws[q0]? = some (a, .inl (cA, n, .inr (.inr (.inr (.inr f)))))) (ht : (gTys ct)[t0]? = some (cA, .object C)) {i : Int32} (hin : vp_in i n) (hdg : decode cc pc = .ok (.aaload, 1)) (kk : jJ p l e R s m args below meth c Q A D nL ws cells slots (pc + 1) lv (va_rf (f i.toNatClampNeg) :: rest)) : jJ p l e R s m args below meth c Q A D nL ws cells slots pc lv (.int i :: .ref a :: rest) := fun H locs ls h1 h2 h3 h4 => va_aldq K.1 K.2.1 K.k h1 q0 t0 ha ht hin hdg (kk H locs ls h1 h2 h3 h4)
theorem j_astq (K : CX p s m args meth c cc nL own A D ct G) (q0 t0 qk ci : Nat) {cA : ClassId} {r : vw_C} {n v a : Nat} {vs : List Value} {f : Nat → Option Nat} (ha : ws[q0]? = some (a, .inl (cA, n, .inr (.inr (.inr (.inr f)))))) (ht : (gTys ct)[t0]? = some (cA, .object r.1)) (hv : ws[qk]? = some (v, .inr (ci, vs))) (hc : gCl[ci]? = some r) {i : Int32} (hin : vp_in i n) (hdg : decode cc pc = .ok (.aastore, 1)) (kk : jJ p l e R s m args below meth c Q A D nL (ws.set q0 (a, .inl (cA, n, .inr (.inr (.inr (.inr (va_up f i.toNatClampNeg (some v)))))))) cells slots (pc + 1) lv rest) : jJ p l e R s m args below meth c Q A D nL ws cells slots pc lv (.ref v :: .int i :: .ref a :: rest) := fun H locs ls h1 h2 h3 h4 => va_astq K.1 K.2.1 K.k h1 h2 h3 q0 t0 qk ci ha ht hv hc hin hdg (fun H locs h1 h2 h3 => kk H locs ls h1 h2 h3 h4)
theorem j_astqN (K : CX p s m args meth c cc nL own A D ct G) (q0 t0 : Nat) {cA : ClassId} {C : String} {n a : Nat} {f : Nat → Option Nat} (ha : ws[q0]? = some (a, .inl (cA, n, .inr (.inr (.inr (.inr f)))))) (ht : (gTys ct)[t0]? = some (cA, .object C)) {i : Int32} (hin : vp_in i n) (hdg : decode cc pc = .ok (.aastore, 1)) (kk : jJ p l e R s m args below meth c Q A D nL (ws.set q0 (a, .inl (cA, n, .inr (.inr (.inr (.inr (va_up f i.toNatClampNeg none))))))) cells slots (pc + 1) lv rest) : jJ p l e R s m args below meth c Q A D nL ws cells slots pc lv (.null :: .int i :: .ref a :: rest) := fun H locs ls h1 h2 h3 h4 => va_astqN K.1 K.2.1 K.k h1 h2 h3 q0 t0 ha ht hin hdg (fun H locs h1 h2 h3 => kk H locs ls h1 h2 h3 h4)
theorem j_astqM (K : CX p s m args meth c cc nL own A D ct G) (q0 t0 : Nat) {E : String} {cA : ClassId} {n v a : Nat} {f : Nat → Option Nat} (ha : ws[q0]? = some (a, .inl (cA, n, .inr (.inr (.inr (.inr f)))))) (ht : (gTys ct)[t0]? = some (cA, .object E)) (hr : ∀ H : Heap, va_P D gCl ws H → va_Any E s H v) {i : Int32} (hin : vp_in i n) (hdg : decode cc pc = .ok (.aastore, 1)) (kk : jJ p l e R s m args below meth c Q A D nL (ws.set q0 (a, .inl (cA, n, .inr (.inr (.inr (.inr (va_up f i.toNatClampNeg (some v)))))))) cells slots (pc + 1) lv rest) : jJ p l e R s m args below meth c Q A D nL ws cells slots pc lv (.ref v :: .int i :: .ref a :: rest) := fun H locs ls h1 h2 h3 h4 => va_astqM K.1 K.2.1 K.k h1 h2 h3 q0 t0 ha ht (hr H h1) hin hdg (fun H locs h1 h2 h3 => kk H locs ls h1 h2 h3 h4)
theorem j_bast (K : CX p s m args meth c cc nL own A D ct G) (q0 : Nat) {n a : Nat} {f : Nat → Int32} (ha : ws[q0]? = some (a, .inl (ct 2, n, .inl f))) {i x : Int32} (hin : vp_in i n) (hdg : decode cc pc = .ok (.bastore, 1)) (kk : jJ p l e R s m args below meth c Q A D nL (ws.set q0 (a, .inl (ct 2, n, .inl (upd f i.toNatClampNeg (vp_nar .byte x))))) cells slots (pc + 1) lv rest) : jJ p l e R s m args below meth c Q A D nL ws cells slots pc lv (.int x :: .int i :: .ref a :: rest) := fun H locs ls h1 h2 h3 h4 => va_bast K.1 K.2.1 K.k h1 h2 h3 q0 2 ha rfl hin hdg (fun H locs h1 h2 h3 => kk H locs ls h1 h2 h3 h4)
theorem j_castY (K : CX p s m args meth c cc nL own A D ct G) {C nm : String} {index : Nat} (hlink : (Jvm.Cond.classLink own index nm) ∈ lw_all) (hc : va_Nw (.castable C nm) s) (q0 : Nat) {ci a : Nat} {fs : List Value} {q : vw_C} (he : ws[q0]? = some (a, .inr (ci, fs))) (hcl : gCl[ci]? = some q) (hqc : q.1 = C) (hdg : decode cc pc = .ok (.checkcast index, 3)) (kk : jJ p l e R s m args below meth c Q A D nL ws cells slots (pc + 3) lv (.ref a :: rest)) : jJ p l e R s m args below meth c Q A D nL ws cells slots pc lv (.ref a :: rest) := fun H locs ls h1 h2 h3 h4 => va_castY K.1 K.2.1 K.ow (K.ts _ hlink) hc (by rw [← hqc]; exact va_recv K.k h1 hcl he) hdg (kk H locs ls h1 h2 h3 h4)
theorem j_castS (K : CX p s m args meth c cc nL own A D ct G) {nm : String} {index : Nat} (hlink : (Jvm.Cond.classLink own index nm) ∈ lw_all) (q0 : Nat) {ci a : Nat} {fs : List Value} {q : vw_C} (he : ws[q0]? = some (a, .inr (ci, fs))) (hcl : gCl[ci]? = some q) (hqc : q.1 = nm) (hdg : decode cc pc = .ok (.checkcast index, 3)) (kk : jJ p l e R s m args below meth c Q A D nL ws cells slots (pc + 3) lv (.ref a :: rest)) : jJ p l e R s m args below meth c Q A D nL ws cells slots pc lv (.ref a :: rest) := fun H locs ls h1 h2 h3 h4 => va_castS (cC := D.1 ci) K.1 K.2.1 K.ow (K.ts _ hlink) (by rw [← hqc]; exact (K.k.1 ci q hcl).2) (by rw [← hqc]; exact va_recv K.k h1 hcl he) hdg (kk H locs ls h1 h2 h3 h4)
theorem j_castA (K : CX p s m args meth c cc nL own A D ct G) {index : Nat} (hlink : (Jvm.Cond.classLink own index "[I") ∈ lw_all) (q0 : Nat) {a : Nat} {x : vp_A} (ha : ws[q0]? = some (a, .inl (ct 0, x))) (hdg : decode cc pc = .ok (.checkcast index, 3)) (kk : jJ p l e R s m args below meth c Q A D nL ws cells slots (pc + 3) lv (.ref a :: rest)) : jJ p l e R s m args below meth c Q A D nL ws cells slots pc lv (.ref a :: rest) := fun H locs ls h1 h2 h3 h4 => va_castA K.1 K.2.1 K.ow (K.ts _ hlink) h1 q0 ha (K.k.2 0 _ rfl).2 hdg (kk H locs ls h1 h2 h3 h4)
theorem j_copyi (K : CX p s m args meth c cc nL own A D ct G) {index : Nat} (hlink : (Jvm.Cond.methodLink own index arraycopyName) ∈ lw_all) (q0 q1 : Nat) {a0 a n0 n1 : Nat} {f g : Nat → Int32} (ha0 : ws[q0]? = some (a0, .inl (ct 0, n0, .inl f))) (ha1 : ws[q1]? = some (a, .inl (ct 0, n1, .inl g))) {sp dp n : Int32} (g1 : ¬ sp < 0) (g2 : ¬ dp < 0) (g3 : ¬ n < 0) (g4 : sp.toNatClampNeg + n.toNatClampNeg ≤ n0) (g5 : dp.toNatClampNeg + n.toNatClampNeg ≤ n1) (hframes : 1 ≤ R.frames) (hlocals : (rest.map fun v => v.category).sum + (nativeFrameWords "java/lang/System" "arraycopy" 5 + 11) ≤ R.locals) (hdg : decode cc pc = .ok (.invokestatic index, 3)) (kk : jJ p l e R s m args below meth c Q A D nL (ws.set q1 (a, .inl (ct 0, n1, .inl (va_cpy f g sp.toNatClampNeg dp.toNatClampNeg n.toNatClampNeg)))) cells slots (pc + 3) lv rest) : jJ p l e R s m args below meth c Q A D nL ws cells slots pc lv (.int n :: .int dp :: .ref a :: .int sp :: .ref a0 :: rest) := fun H locs ls h1 h2 h3 h4 => va_copyi K.1 K.2.1 (K.2.2.1.trans h4.1.symm) K.ow (K.ts _ hlink) (K.ts _ q193) (K.ts _ q192) (K.ts _ q78) K.k h1 h2 h3 q0 q1 0 0 ha0 ha1 rfl rfl rfl g1 g2 g3 g4 g5 (fun _ _ => rfl) hframes hlocals hdg (fun H locs h1 h2 h3 => kk H locs ls h1 h2 h3 h4)
theorem j_copyb (K : CX p s m args meth c cc nL own A D ct G) {index : Nat} (hlink : (Jvm.Cond.methodLink own index arraycopyName) ∈ lw_all) (q0 q1 : Nat) {a0 a n0 n1 : Nat} {f g : Nat → Int32} (ha0 : ws[q0]? = some (a0, .inl (ct 2, n0, .inl f))) (ha1 : ws[q1]? = some (a, .inl (ct 2, n1, .inl g))) {sp dp n : Int32} (g1 : ¬ sp < 0) (g2 : ¬ dp < 0) (g3 : ¬ n < 0) (g4 : sp.toNatClampNeg + n.toNatClampNeg ≤ n0) (g5 : dp.toNatClampNeg + n.toNatClampNeg ≤ n1) (hfit : ∀ i, i < n.toNatClampNeg → fits .byte (.int (f (sp.toNatClampNeg + i))) = true) (hframes : 1 ≤ R.frames) (hlocals : (rest.map fun v => v.category).sum + (nativeFrameWords "java/lang/System" "arraycopy" 5 + 11) ≤ R.locals) (hdg : decode cc pc = .ok (.invokestatic index, 3)) (kk : jJ p l e R s m args below meth c Q A D nL (ws.set q1 (a, .inl (ct 2, n1, .inl (va_cpy f g sp.toNatClampNeg dp.toNatClampNeg n.toNatClampNeg)))) cells slots (pc + 3) lv rest) : jJ p l e R s m args below meth c Q A D nL ws cells slots pc lv (.int n :: .int dp :: .ref a :: .int sp :: .ref a0 :: rest) := fun H locs ls h1 h2 h3 h4 => va_copyi K.1 K.2.1 (K.2.2.1.trans h4.1.symm) K.ow (K.ts _ hlink) (K.ts _ q193) (K.ts _ q192) (K.ts _ q78) K.k h1 h2 h3 q0 q1 2 2 ha0 ha1 rfl rfl rfl g1 g2 g3 g4 g5 hfit hframes hlocals hdg (fun H locs h1 h2 h3 => kk H locs ls h1 h2 h3 h4)
theorem j_copyM (K : CX p s m args meth c cc nL own A D ct G) {index : Nat} (hlink : (Jvm.Cond.methodLink own index arraycopyName) ∈ lw_all) (q0 q1 : Nat) {a0 a n0 n1 : Nat} {f g : Nat → Option Nat} (ha0 : ws[q0]? = some (a0, .inl (ct 3, n0, .inr (.inr (.inr (.inr f)))))) (ha1 : ws[q1]? = some (a, .inl (ct 3, n1, .inr (.inr (.inr (.inr g)))))) {sp dp n : Int32} (g1 : ¬ sp < 0) (g2 : ¬ dp < 0) (g3 : ¬ n < 0) (g4 : sp.toNatClampNeg + n.toNatClampNeg ≤ n0) (g5 : dp.toNatClampNeg + n.toNatClampNeg ≤ n1) (hel : ∀ H : Heap, va_P D gCl ws H → ∀ i : Nat, i < n.toNatClampNeg → ∀ y : Nat, f (sp.toNatClampNeg + i) = some y → va_Any "java/lang/Object" s H y) (hframes : 1 ≤ R.frames) (hlocals : (rest.map fun v => v.category).sum + (nativeFrameWords "java/lang/System" "arraycopy" 5 + 11) ≤ R.locals) (hdg : decode cc pc = .ok (.invokestatic index, 3)) (kk : jJ p l e R s m args below meth c Q A D nL (ws.set q1 (a, .inl (ct 3, n1, .inr (.inr (.inr (.inr (va_cpy f g sp.toNatClampNeg dp.toNatClampNeg n.toNatClampNeg))))))) cells slots (pc + 3) lv rest) : jJ p l e R s m args below meth c Q A D nL ws cells slots pc lv (.int n :: .int dp :: .ref a :: .int sp :: .ref a0 :: rest) := fun H locs ls h1 h2 h3 h4 => va_copyM K.1 K.2.1 (K.2.2.1.trans h4.1.symm) K.ow (K.ts _ hlink) (K.ts _ q193) (K.ts _ q192) (K.ts _ q78) K.k h1 h2 h3 q0 q1 3 3 ha0 ha1 rfl rfl g1 g2 g3 g4 g5 (hel H h1) hframes hlocals hdg (fun H locs h1 h2 h3 => kk H locs ls h1 h2 h3 h4)
theorem j_getN (K : CX p s m args meth c cc nL own A D ct G) {C ref host : String} {T : u_T} {N ci i a : Nat} (hin : ∀ w ∈ u_ws C T N, w ∈ lw_all) (q0 : Nat) {fs : List Value} (he : ws[q0]? = some (a, .inr (ci, fs))) (hc : gCl[ci]? = some (C, T, N)) (k : Nat) (hk : k < N) (hlink : va_Nw (.fieldLinkNest own i ref (T k).2.1 (T k).2.2.1 host) s) (hsame : ref = (T k).1) {v : Value} (hv : fs[k]? = some v) (hdg : decode cc pc = .ok (.getfield i, 3)) (kk : jJ p l e R s m args below meth c Q A D nL ws cells slots (pc + 3) lv (v :: rest)) : jJ p l e R s m args below meth c Q A D nL ws cells slots pc lv (.ref a :: rest) := fun H locs ls h1 h2 h3 h4 => va_getN (T := T) (N := N) K.1 K.2.1 K.ts hin K.ow K.k h1 q0 he hc k hk (va_Nw.use rfl hlink) (fun _ h => by rw [hsame]; exact h) hv hdg (kk H locs ls h1 h2 h3 h4)
theorem j_gets (K : CX p s m args meth c cc nL own A D ct G) {C n d ref : String} {v : Value} {index : Nat} (hZ : va_Z C n d v A s s.heap) (hlink : (Jvm.Cond.fieldLink own index ref n d) ∈ lw_all) (hsame : ref = C) (hdg : decode cc pc = .ok (.getstatic index, 3)) (kk : jJ p l e R s m args below meth c Q A D nL ws cells slots (pc + 3) lv (v :: rest)) : jJ p l e R s m args below meth c Q A D nL ws cells slots pc lv rest := fun H locs ls h1 h2 h3 h4 => va_gets K.1 K.2.1 hZ h3 K.ow (K.ts _ hlink) (fun _ h => by rw [hsame]; exact h) hdg (kk H locs ls h1 h2 h3 h4)
theorem j_aretq {S : Type} {post : Option Nat → S → Prop} {wf : S → va_W} {mc ms : Nat} {rt : FieldType} {r : Option Nat} (u : S) (K : CX p s m args meth c cc nL own A D ct G) (hr : meth.sig.returnType = some rt) (hrt : (∃ n, rt = .object n) ∨ ∃ t, rt = .array t) (hw : ws = wf u) (hp : post r u) (hc : cells ≤ mc) (hs : slots ≤ ms) (hdg : decode cc pc = .ok (.areturn, 1)) : jJ p l e R s m args below meth c (MQ below (va_Qq post (fun u => cB D ct A (wf u)) A) args s mc ms A) A D nL ws cells slots pc lv [va_rf r] := fun H locs ls h1 h2 h3 h4 => W.widen hc hs (W.aret (v := va_rf r) K.1 K.2.1 hr hrt (by cases r; exact Or.inl rfl; exact Or.inr ⟨_, rfl⟩) (fun t ht hW => ⟨⟨r, u, rfl, hp, by rw [ht, ← hw]; exact h1, va_K.moved hW.alike K.k, by rw [← hw]; exact h2⟩, h3.F ht⟩) h3.2.2 hdg K.2.2.2.2.2.1)
theorem j_callVq {S : Type} (K : CX p s m args meth c cc nL own A D ct G) {y : MethodName} {bytes : ByteArray} {maxL f mc ms L n index : Nat} {ret : Option FieldType} {C : String} {a : Nat} {As stk : List Value} {post : Option Nat → S → Prop} {wf : S → va_W}
    (hM : ∀ sz, Met l y (ws_ y bytes maxL ret) { frames := f, cells := mc, slots := ms, locals := L } (va_Pc (.ref a :: As) (cPre G D ct ws sz)) (va_Qq post (fun u => cB D ct (va_A ws sz) (wf u)) (va_A ws sz)) mc ms (va_A ws sz)) (hw : GoodIn lw_all (wsV own index C y (ws_ y bytes maxL ret))) (hd : y.cls = C ∧ y.cls ≠ "java/lang/invoke/MethodHandle" ∧ y.cls ≠ "java/lang/invoke/VarHandle" ∧ (parseMethodDescriptor y.desc).map (fun d => d.parameters.length) = some n) (hR : f + 1 ≤ R.frames ∧ 8 + (maxL + 11) + L ≤ R.locals) (q0 : Nat) {ci : Nat} {fs : List Value} {q : vw_C} (he : ws[q0]? = some (a, .inr (ci, fs))) (hcl : gCl[ci]? = some q) (hqc : q.1 = C) (hn : As.length = n) (hst : stk = As.reverse ++ .ref a :: rest) (hrm : (rest.map fun v => v.category).sum ≤ 8) (hdg : decode cc pc = .ok (.invokevirtual index, 3)) (hf : cells + mc ≤ R.cells ∧ slots + ms ≤ R.slots)
    (kk : ∀ (r : Option Nat) (u : S), post r u → jJ p l e R s m args below meth c Q A D nL (wf u) (cells + mc) (slots + ms) (pc + 3) lv (va_rf r :: rest)) : jJ p l e R s m args below meth c Q A D nL ws cells slots pc lv stk := by
  intro H locs ls h1 h2 h3 h4
  subst hst
  refine va_callq (A1 := va_A ws H.size) (va_runV (As := As) (rest := rest) K.fix (hM H.size) (cwV n K.ts hw rfl rfl rfl hd hR) ⟨(j_preS K h1 h2 h3).1, by rw [← hqc]; exact va_recv K.k h1 hcl he, (j_preS K h1 h2 h3).2⟩ rfl hn h4.1 rfl (lv_room hrm) hdg hf) h3 (fun q _ h => j_in K h2 h3 q h) (j_in K h2 h3) (fun r u t H1 locs1 ht hvm hp hB hz hk hS => ?_)
  obtain ⟨b1, b2, b3⟩ := hB
  exact kk r u hp H1 locs1 ls (by rw [← ht]; exact b1) (b3.weaken (fun k q _ h => j_in K h2 h3 _ h)) hS h4
theorem j_callSq {S : Type} (K : CX p s m args meth c cc nL own A D ct G) {y : MethodName} {bytes : ByteArray} {maxL f mc ms L n index : Nat} {ret : Option FieldType} {As stk : List Value} {post : Option Nat → S → Prop} {wf : S → va_W}
    (hM : ∀ sz, Met l y (ws_ y bytes maxL ret) { frames := f, cells := mc, slots := ms, locals := L } (va_Pc As (cPre G D ct ws sz)) (va_Qq post (fun u => cB D ct (va_A ws sz) (wf u)) (va_A ws sz)) mc ms (va_A ws sz)) (hw : GoodIn lw_all (va_wsS own index y (ws_ y bytes maxL ret))) (hd : y.cls ≠ "java/lang/invoke/MethodHandle" ∧ y.cls ≠ "java/lang/invoke/VarHandle" ∧ (parseMethodDescriptor y.desc).map (fun d => d.parameters.length) = some n) (hR : f + 1 ≤ R.frames ∧ 8 + (maxL + 11) + L ≤ R.locals) (hn : As.length = n) (hst : stk = As.reverse ++ rest) (hrm : (rest.map fun v => v.category).sum ≤ 8) (hdg : decode cc pc = .ok (.invokestatic index, 3)) (hf : cells + mc ≤ R.cells ∧ slots + ms ≤ R.slots)
    (kk : ∀ (r : Option Nat) (u : S), post r u → jJ p l e R s m args below meth c Q A D nL (wf u) (cells + mc) (slots + ms) (pc + 3) lv (va_rf r :: rest)) : jJ p l e R s m args below meth c Q A D nL ws cells slots pc lv stk := by
  intro H locs ls h1 h2 h3 h4
  subst hst
  refine va_callq (A1 := va_A ws H.size) (va_runS (As := As) (rest := rest) K.fix (hM H.size) (va_cwS n K.ts hw rfl rfl rfl hd hR) (j_preS K h1 h2 h3) rfl hn h4.1 rfl (lv_room hrm) hdg hf) h3 (fun q _ h => j_in K h2 h3 q h) (j_in K h2 h3) (fun r u t H1 locs1 ht hvm hp hB hz hk hS => ?_)
  obtain ⟨b1, b2, b3⟩ := hB
  exact kk r u hp H1 locs1 ls (by rw [← ht]; exact b1) (b3.weaken (fun k q _ h => j_in K h2 h3 _ h)) hS h4
theorem j_callFi {S : Type} (K : CX p s m args meth c cc nL own A D ct G) {y : MethodName} {bytes : ByteArray} {maxL f mc ms L n index : Nat} {ret : Option FieldType} {x : MethodName} {C : String} {a count : Nat} {As stk : List Value} {post : Int32 → S → Prop} {wf : S → va_W}
    (hM : ∀ sz, Met l y (ws_ y bytes maxL ret) { frames := f, cells := mc, slots := ms, locals := L } (va_Pc (.ref a :: As) (cPre G D ct ws sz)) (va_Qi post (fun u => cB D ct (va_A ws sz) (wf u)) (va_A ws sz)) mc ms (va_A ws sz)) (hw : GoodIn lw_all (va_wsF own index C x y (ws_ y bytes maxL ret))) (hF : va_Fw C x y s) (hd : x.cls ≠ "java/lang/invoke/MethodHandle" ∧ x.cls ≠ "java/lang/invoke/VarHandle" ∧ (parseMethodDescriptor x.desc).map (fun d => d.parameters.length) = some n) (hR : f + 1 ≤ R.frames ∧ 8 + (maxL + 11) + L ≤ R.locals) (q0 : Nat) {ci : Nat} {fs : List Value} {q : vw_C} (he : ws[q0]? = some (a, .inr (ci, fs))) (hcl : gCl[ci]? = some q) (hqc : q.1 = C) (hn : As.length = n) (hst : stk = As.reverse ++ .ref a :: rest) (hrm : (rest.map fun v => v.category).sum ≤ 8) (hdg : decode cc pc = .ok (.invokeinterface index count, 5)) (hf : cells + mc ≤ R.cells ∧ slots + ms ≤ R.slots)
    (kk : ∀ (r : Int32) (u : S), post r u → jJ p l e R s m args below meth c Q A D nL (wf u) (cells + mc) (slots + ms) (pc + 5) lv (.int r :: rest)) : jJ p l e R s m args below meth c Q A D nL ws cells slots pc lv stk := by
  intro H locs ls h1 h2 h3 h4
  subst hst
  refine va_callFi (A1 := va_A ws H.size) (va_runF (C := C) (As := As) (rest := rest) (cC := D.1 ci) (by rw [← hqc]; exact (K.k.1 ci q hcl).2) K.fix (hM H.size) (va_cwF n K.ts hw rfl rfl rfl hF hd hR) ⟨(j_preS K h1 h2 h3).1, by rw [← hqc]; exact va_recv K.k h1 hcl he, (j_preS K h1 h2 h3).2⟩ rfl hn h4.1 rfl (lv_room hrm) hdg hf) h3 (fun q _ h => j_in K h2 h3 q h) (j_in K h2 h3) (fun r u t H1 locs1 ht hvm hp hB hz hk hS => ?_)
  obtain ⟨b1, b2, b3⟩ := hB
  exact kk r u hp H1 locs1 ls (by rw [← ht]; exact b1) (b3.weaken (fun k q _ h => j_in K h2 h3 _ h)) hS h4
theorem j_callFq {S : Type} (K : CX p s m args meth c cc nL own A D ct G) {y : MethodName} {bytes : ByteArray} {maxL f mc ms L n index : Nat} {ret : Option FieldType} {x : MethodName} {C : String} {a count : Nat} {As stk : List Value} {post : Option Nat → S → Prop} {wf : S → va_W}
    (hM : ∀ sz, Met l y (ws_ y bytes maxL ret) { frames := f, cells := mc, slots := ms, locals := L } (va_Pc (.ref a :: As) (cPre G D ct ws sz)) (va_Qq post (fun u => cB D ct (va_A ws sz) (wf u)) (va_A ws sz)) mc ms (va_A ws sz)) (hw : GoodIn lw_all (va_wsF own index C x y (ws_ y bytes maxL ret))) (hF : va_Fw C x y s) (hd : x.cls ≠ "java/lang/invoke/MethodHandle" ∧ x.cls ≠ "java/lang/invoke/VarHandle" ∧ (parseMethodDescriptor x.desc).map (fun d => d.parameters.length) = some n) (hR : f + 1 ≤ R.frames ∧ 8 + (maxL + 11) + L ≤ R.locals) (q0 : Nat) {ci : Nat} {fs : List Value} {q : vw_C} (he : ws[q0]? = some (a, .inr (ci, fs))) (hcl : gCl[ci]? = some q) (hqc : q.1 = C) (hn : As.length = n) (hst : stk = As.reverse ++ .ref a :: rest) (hrm : (rest.map fun v => v.category).sum ≤ 8) (hdg : decode cc pc = .ok (.invokeinterface index count, 5)) (hf : cells + mc ≤ R.cells ∧ slots + ms ≤ R.slots)
    (kk : ∀ (r : Option Nat) (u : S), post r u → jJ p l e R s m args below meth c Q A D nL (wf u) (cells + mc) (slots + ms) (pc + 5) lv (va_rf r :: rest)) : jJ p l e R s m args below meth c Q A D nL ws cells slots pc lv stk := by
  intro H locs ls h1 h2 h3 h4
  subst hst
  refine va_callFq (A1 := va_A ws H.size) (va_runF (C := C) (As := As) (rest := rest) (cC := D.1 ci) (by rw [← hqc]; exact (K.k.1 ci q hcl).2) K.fix (hM H.size) (va_cwF n K.ts hw rfl rfl rfl hF hd hR) ⟨(j_preS K h1 h2 h3).1, by rw [← hqc]; exact va_recv K.k h1 hcl he, (j_preS K h1 h2 h3).2⟩ rfl hn h4.1 rfl (lv_room hrm) hdg hf) h3 (fun q _ h => j_in K h2 h3 q h) (j_in K h2 h3) (fun r u t H1 locs1 ht hvm hp hB hz hk hS => ?_)
  obtain ⟨b1, b2, b3⟩ := hB
  exact kk r u hp H1 locs1 ls (by rw [← ht]; exact b1) (b3.weaken (fun k q _ h => j_in K h2 h3 _ h)) hS h4
theorem j_callFv {S : Type} (K : CX p s m args meth c cc nL own A D ct G) {y : MethodName} {bytes : ByteArray} {maxL f mc ms L n index : Nat} {ret : Option FieldType} {x : MethodName} {C : String} {a count : Nat} {As stk : List Value} {post : S → Prop} {wf : S → va_W}
    (hM : ∀ sz, Met l y (ws_ y bytes maxL ret) { frames := f, cells := mc, slots := ms, locals := L } (va_Pc (.ref a :: As) (cPre G D ct ws sz)) (va_Qv post (fun u => cB D ct (va_A ws sz) (wf u)) (va_A ws sz)) mc ms (va_A ws sz)) (hw : GoodIn lw_all (va_wsF own index C x y (ws_ y bytes maxL ret))) (hF : va_Fw C x y s) (hd : x.cls ≠ "java/lang/invoke/MethodHandle" ∧ x.cls ≠ "java/lang/invoke/VarHandle" ∧ (parseMethodDescriptor x.desc).map (fun d => d.parameters.length) = some n) (hR : f + 1 ≤ R.frames ∧ 8 + (maxL + 11) + L ≤ R.locals) (q0 : Nat) {ci : Nat} {fs : List Value} {q : vw_C} (he : ws[q0]? = some (a, .inr (ci, fs))) (hcl : gCl[ci]? = some q) (hqc : q.1 = C) (hn : As.length = n) (hst : stk = As.reverse ++ .ref a :: rest) (hrm : (rest.map fun v => v.category).sum ≤ 8) (hdg : decode cc pc = .ok (.invokeinterface index count, 5)) (hf : cells + mc ≤ R.cells ∧ slots + ms ≤ R.slots)
    (kk : ∀ (u : S), post u → jJ p l e R s m args below meth c Q A D nL (wf u) (cells + mc) (slots + ms) (pc + 5) lv rest) : jJ p l e R s m args below meth c Q A D nL ws cells slots pc lv stk := by
  intro H locs ls h1 h2 h3 h4
  subst hst
  refine va_callFv (A1 := va_A ws H.size) (va_runF (C := C) (As := As) (rest := rest) (cC := D.1 ci) (by rw [← hqc]; exact (K.k.1 ci q hcl).2) K.fix (hM H.size) (va_cwF n K.ts hw rfl rfl rfl hF hd hR) ⟨(j_preS K h1 h2 h3).1, by rw [← hqc]; exact va_recv K.k h1 hcl he, (j_preS K h1 h2 h3).2⟩ rfl hn h4.1 rfl (lv_room hrm) hdg hf) h3 (fun q _ h => j_in K h2 h3 q h) (j_in K h2 h3) (fun u t H1 locs1 ht hvm hp hB hz hk hS => ?_)
  obtain ⟨b1, b2, b3⟩ := hB
  exact kk u hp H1 locs1 ls (by rw [← ht]; exact b1) (b3.weaken (fun k q _ h => j_in K h2 h3 _ h)) hS h4
theorem j_callSUi_ {S : Type} (K : CX p s m args meth c cc nL own A D ct G) {y : MethodName} {bytes : ByteArray} {maxL f mc ms L n index : Nat} {ret : Option FieldType} {C : String} {a : Nat} {As stk : List Value} {post : Int32 → S → Prop} {wf : S → va_W}
    (hM : ∀ sz, Met l y (ws_ y bytes maxL ret) { frames := f, cells := mc, slots := ms, locals := L } (va_Pc (.ref a :: As) (cPre G D ct ws sz)) (va_Qi post (fun u => cB D ct (va_A ws sz) (wf u)) (va_A ws sz)) mc ms (va_A ws sz)) (hw : GoodIn lw_all (va_wsSU own index y (ws_ y bytes maxL ret))) (hd : y.name ≠ "<init>" ∧ (parseMethodDescriptor y.desc).map (fun d => d.parameters.length) = some n) (hR : f + 1 ≤ R.frames ∧ 8 + (maxL + 11) + L ≤ R.locals) (q0 : Nat) {ci : Nat} {fs : List Value} {q : vw_C} (he : ws[q0]? = some (a, .inr (ci, fs))) (hcl : gCl[ci]? = some q) (hqc : q.1 = C) (hn : As.length = n) (hst : stk = As.reverse ++ .ref a :: rest) (hrm : (rest.map fun v => v.category).sum ≤ 8) (hdg : decode cc pc = .ok (.invokespecial index, 3)) (hf : cells + mc ≤ R.cells ∧ slots + ms ≤ R.slots)
    (kk : ∀ (r : Int32) (u : S), post r u → jJ p l e R s m args below meth c Q A D nL (wf u) (cells + mc) (slots + ms) (pc + 3) lv (.int r :: rest)) : jJ p l e R s m args below meth c Q A D nL ws cells slots pc lv stk := by
  intro H locs ls h1 h2 h3 h4
  subst hst
  refine va_calli (A1 := va_A ws H.size) (va_runSU (C := C) (As := As) (rest := rest) (cC := D.1 ci) (by rw [← hqc]; exact (K.k.1 ci q hcl).2) K.fix (hM H.size) (va_cwSU n K.ts hw rfl rfl rfl hd hR) ⟨(j_preS K h1 h2 h3).1, by rw [← hqc]; exact va_recv K.k h1 hcl he, (j_preS K h1 h2 h3).2⟩ rfl hn h4.1 rfl (lv_room hrm) hdg hf) h3 (fun q _ h => j_in K h2 h3 q h) (j_in K h2 h3) (fun r u t H1 locs1 ht hvm hp hB hz hk hS => ?_)
  obtain ⟨b1, b2, b3⟩ := hB
  exact kk r u hp H1 locs1 ls (by rw [← ht]; exact b1) (b3.weaken (fun k q _ h => j_in K h2 h3 _ h)) hS h4
theorem j_callSUq_ {S : Type} (K : CX p s m args meth c cc nL own A D ct G) {y : MethodName} {bytes : ByteArray} {maxL f mc ms L n index : Nat} {ret : Option FieldType} {C : String} {a : Nat} {As stk : List Value} {post : Option Nat → S → Prop} {wf : S → va_W}
    (hM : ∀ sz, Met l y (ws_ y bytes maxL ret) { frames := f, cells := mc, slots := ms, locals := L } (va_Pc (.ref a :: As) (cPre G D ct ws sz)) (va_Qq post (fun u => cB D ct (va_A ws sz) (wf u)) (va_A ws sz)) mc ms (va_A ws sz)) (hw : GoodIn lw_all (va_wsSU own index y (ws_ y bytes maxL ret))) (hd : y.name ≠ "<init>" ∧ (parseMethodDescriptor y.desc).map (fun d => d.parameters.length) = some n) (hR : f + 1 ≤ R.frames ∧ 8 + (maxL + 11) + L ≤ R.locals) (q0 : Nat) {ci : Nat} {fs : List Value} {q : vw_C} (he : ws[q0]? = some (a, .inr (ci, fs))) (hcl : gCl[ci]? = some q) (hqc : q.1 = C) (hn : As.length = n) (hst : stk = As.reverse ++ .ref a :: rest) (hrm : (rest.map fun v => v.category).sum ≤ 8) (hdg : decode cc pc = .ok (.invokespecial index, 3)) (hf : cells + mc ≤ R.cells ∧ slots + ms ≤ R.slots)
    (kk : ∀ (r : Option Nat) (u : S), post r u → jJ p l e R s m args below meth c Q A D nL (wf u) (cells + mc) (slots + ms) (pc + 3) lv (va_rf r :: rest)) : jJ p l e R s m args below meth c Q A D nL ws cells slots pc lv stk := by
  intro H locs ls h1 h2 h3 h4
  subst hst
  refine va_callq (A1 := va_A ws H.size) (va_runSU (C := C) (As := As) (rest := rest) (cC := D.1 ci) (by rw [← hqc]; exact (K.k.1 ci q hcl).2) K.fix (hM H.size) (va_cwSU n K.ts hw rfl rfl rfl hd hR) ⟨(j_preS K h1 h2 h3).1, by rw [← hqc]; exact va_recv K.k h1 hcl he, (j_preS K h1 h2 h3).2⟩ rfl hn h4.1 rfl (lv_room hrm) hdg hf) h3 (fun q _ h => j_in K h2 h3 q h) (j_in K h2 h3) (fun r u t H1 locs1 ht hvm hp hB hz hk hS => ?_)
  obtain ⟨b1, b2, b3⟩ := hB
  exact kk r u hp H1 locs1 ls (by rw [← ht]; exact b1) (b3.weaken (fun k q _ h => j_in K h2 h3 _ h)) hS h4
theorem j_callSUv_ {S : Type} (K : CX p s m args meth c cc nL own A D ct G) {y : MethodName} {bytes : ByteArray} {maxL f mc ms L n index : Nat} {ret : Option FieldType} {C : String} {a : Nat} {As stk : List Value} {post : S → Prop} {wf : S → va_W}
    (hM : ∀ sz, Met l y (ws_ y bytes maxL ret) { frames := f, cells := mc, slots := ms, locals := L } (va_Pc (.ref a :: As) (cPre G D ct ws sz)) (va_Qv post (fun u => cB D ct (va_A ws sz) (wf u)) (va_A ws sz)) mc ms (va_A ws sz)) (hw : GoodIn lw_all (va_wsSU own index y (ws_ y bytes maxL ret))) (hd : y.name ≠ "<init>" ∧ (parseMethodDescriptor y.desc).map (fun d => d.parameters.length) = some n) (hR : f + 1 ≤ R.frames ∧ 8 + (maxL + 11) + L ≤ R.locals) (q0 : Nat) {ci : Nat} {fs : List Value} {q : vw_C} (he : ws[q0]? = some (a, .inr (ci, fs))) (hcl : gCl[ci]? = some q) (hqc : q.1 = C) (hn : As.length = n) (hst : stk = As.reverse ++ .ref a :: rest) (hrm : (rest.map fun v => v.category).sum ≤ 8) (hdg : decode cc pc = .ok (.invokespecial index, 3)) (hf : cells + mc ≤ R.cells ∧ slots + ms ≤ R.slots)
    (kk : ∀ (u : S), post u → jJ p l e R s m args below meth c Q A D nL (wf u) (cells + mc) (slots + ms) (pc + 3) lv rest) : jJ p l e R s m args below meth c Q A D nL ws cells slots pc lv stk := by
  intro H locs ls h1 h2 h3 h4
  subst hst
  refine va_callv (A1 := va_A ws H.size) (va_runSU (C := C) (As := As) (rest := rest) (cC := D.1 ci) (by rw [← hqc]; exact (K.k.1 ci q hcl).2) K.fix (hM H.size) (va_cwSU n K.ts hw rfl rfl rfl hd hR) ⟨(j_preS K h1 h2 h3).1, by rw [← hqc]; exact va_recv K.k h1 hcl he, (j_preS K h1 h2 h3).2⟩ rfl hn h4.1 rfl (lv_room hrm) hdg hf) h3 (fun q _ h => j_in K h2 h3 q h) (j_in K h2 h3) (fun u t H1 locs1 ht hvm hp hB hz hk hS => ?_)
  obtain ⟨b1, b2, b3⟩ := hB
  exact kk u hp H1 locs1 ls (by rw [← ht]; exact b1) (b3.weaken (fun k q _ h => j_in K h2 h3 _ h)) hS h4
theorem j_callUv {S : Type} (K : CX p s m args meth c cc nL own A D ct G) {y : MethodName} {bytes : ByteArray} {maxL f mc ms L n index : Nat} {ret : Option FieldType} {x : MethodName} {C owner : String} {a : Nat} {As stk : List Value} {post : S → Prop} {wf : S → va_W}
    (hM : ∀ sz, Met l y (ws_ y bytes maxL ret) { frames := f, cells := mc, slots := ms, locals := L } (va_Pc (.ref a :: As) (cPre G D ct ws sz)) (va_Qv post (fun u => cB D ct (va_A ws sz) (wf u)) (va_A ws sz)) mc ms (va_A ws sz)) (hw : GoodIn lw_all (va_wsU own index C owner x y (ws_ y bytes maxL ret))) (hyx : y = ⟨owner, x.name, x.desc⟩) (hd : owner ≠ "java/lang/invoke/MethodHandle" ∧ owner ≠ "java/lang/invoke/VarHandle" ∧ (parseMethodDescriptor x.desc).map (fun d => d.parameters.length) = some n) (hR : f + 1 ≤ R.frames ∧ 8 + (maxL + 11) + L ≤ R.locals) (q0 : Nat) {ci : Nat} {fs : List Value} {q : vw_C} (he : ws[q0]? = some (a, .inr (ci, fs))) (hcl : gCl[ci]? = some q) (hqc : q.1 = C) (hn : As.length = n) (hst : stk = As.reverse ++ .ref a :: rest) (hrm : (rest.map fun v => v.category).sum ≤ 8) (hdg : decode cc pc = .ok (.invokevirtual index, 3)) (hf : cells + mc ≤ R.cells ∧ slots + ms ≤ R.slots)
    (kk : ∀ (u : S), post u → jJ p l e R s m args below meth c Q A D nL (wf u) (cells + mc) (slots + ms) (pc + 3) lv rest) : jJ p l e R s m args below meth c Q A D nL ws cells slots pc lv stk := by
  intro H locs ls h1 h2 h3 h4
  subst hst
  refine va_callv (A1 := va_A ws H.size) (va_runU (As := As) (rest := rest) K.fix (hM H.size) (va_cwU n K.ts hw rfl rfl rfl hyx hd hR) ⟨(j_preS K h1 h2 h3).1, by rw [← hqc]; exact va_recv K.k h1 hcl he, (j_preS K h1 h2 h3).2⟩ rfl hn h4.1 rfl (lv_room hrm) hdg hf) h3 (fun q _ h => j_in K h2 h3 q h) (j_in K h2 h3) (fun u t H1 locs1 ht hvm hp hB hz hk hS => ?_)
  obtain ⟨b1, b2, b3⟩ := hB
  exact kk u hp H1 locs1 ls (by rw [← ht]; exact b1) (b3.weaken (fun k q _ h => j_in K h2 h3 _ h)) hS h4
theorem j_callUq {S : Type} (K : CX p s m args meth c cc nL own A D ct G) {y : MethodName} {bytes : ByteArray} {maxL f mc ms L n index : Nat} {ret : Option FieldType} {x : MethodName} {C owner : String} {a : Nat} {As stk : List Value} {post : Option Nat → S → Prop} {wf : S → va_W}
    (hM : ∀ sz, Met l y (ws_ y bytes maxL ret) { frames := f, cells := mc, slots := ms, locals := L } (va_Pc (.ref a :: As) (cPre G D ct ws sz)) (va_Qq post (fun u => cB D ct (va_A ws sz) (wf u)) (va_A ws sz)) mc ms (va_A ws sz)) (hw : GoodIn lw_all (va_wsU own index C owner x y (ws_ y bytes maxL ret))) (hyx : y = ⟨owner, x.name, x.desc⟩) (hd : owner ≠ "java/lang/invoke/MethodHandle" ∧ owner ≠ "java/lang/invoke/VarHandle" ∧ (parseMethodDescriptor x.desc).map (fun d => d.parameters.length) = some n) (hR : f + 1 ≤ R.frames ∧ 8 + (maxL + 11) + L ≤ R.locals) (q0 : Nat) {ci : Nat} {fs : List Value} {q : vw_C} (he : ws[q0]? = some (a, .inr (ci, fs))) (hcl : gCl[ci]? = some q) (hqc : q.1 = C) (hn : As.length = n) (hst : stk = As.reverse ++ .ref a :: rest) (hrm : (rest.map fun v => v.category).sum ≤ 8) (hdg : decode cc pc = .ok (.invokevirtual index, 3)) (hf : cells + mc ≤ R.cells ∧ slots + ms ≤ R.slots)
    (kk : ∀ (r : Option Nat) (u : S), post r u → jJ p l e R s m args below meth c Q A D nL (wf u) (cells + mc) (slots + ms) (pc + 3) lv (va_rf r :: rest)) : jJ p l e R s m args below meth c Q A D nL ws cells slots pc lv stk := by
  intro H locs ls h1 h2 h3 h4
  subst hst
  refine va_callq (A1 := va_A ws H.size) (va_runU (As := As) (rest := rest) K.fix (hM H.size) (va_cwU n K.ts hw rfl rfl rfl hyx hd hR) ⟨(j_preS K h1 h2 h3).1, by rw [← hqc]; exact va_recv K.k h1 hcl he, (j_preS K h1 h2 h3).2⟩ rfl hn h4.1 rfl (lv_room hrm) hdg hf) h3 (fun q _ h => j_in K h2 h3 q h) (j_in K h2 h3) (fun r u t H1 locs1 ht hvm hp hB hz hk hS => ?_)
  obtain ⟨b1, b2, b3⟩ := hB
  exact kk r u hp H1 locs1 ls (by rw [← ht]; exact b1) (b3.weaken (fun k q _ h => j_in K h2 h3 _ h)) hS h4
theorem j_callINv {S : Type} (K : CX p s m args meth c cc nL own A D ct G) {y : MethodName} {bytes : ByteArray} {maxL f mc ms L n index : Nat} {a : Nat} {host : String} {As stk : List Value} {post : S → Prop} {wf : S → va_W}
    (hM : ∀ sz, Met l y (ws_ y bytes maxL none) { frames := f, cells := mc, slots := ms, locals := L } (va_Pc (.ref a :: As) (cPre G D ct ws sz)) (va_Qv post (fun u => cB D ct (va_A ws sz) (wf u)) (va_A ws sz)) mc ms (va_A ws sz)) (hcode : (Jvm.Cond.code y bytes maxL none) ∈ lw_all) (hin : (Jvm.Cond.initialized y.cls) ∈ lw_all) (hli : va_Nw (.methodLinkNest own index y host) s) (him : (Jvm.Cond.instanceMethod y) ∈ lw_all) (hy1 : y.name = "<init>") (hd : y.cls ≠ "java/lang/invoke/MethodHandle" ∧ y.cls ≠ "java/lang/invoke/VarHandle" ∧ (parseMethodDescriptor y.desc).map (fun d => d.parameters.length) = some n) (hR : f + 1 ≤ R.frames ∧ 8 + (maxL + 11) + L ≤ R.locals) (hn : As.length = n) (hst : stk = As.reverse ++ .ref a :: rest) (hrm : (rest.map fun v => v.category).sum ≤ 8) (hdg : decode cc pc = .ok (.invokespecial index, 3)) (hf : cells + mc ≤ R.cells ∧ slots + ms ≤ R.slots)
    (kk : ∀ (u : S), post u → jJ p l e R s m args below meth c Q A D nL (wf u) (cells + mc) (slots + ms) (pc + 3) lv rest) : jJ p l e R s m args below meth c Q A D nL ws cells slots pc lv stk := by
  intro H locs ls h1 h2 h3 h4
  subst hst
  refine va_callv (A1 := va_A ws H.size) (va_runIN (As := As) (rest := rest) K.fix (hM H.size) ⟨va_cnB n K.ts (lw_meth hcode) rfl rfl rfl hli (K.ts _ hin) hd hR, hy1, K.ts _ him⟩ (j_preS K h1 h2 h3) rfl hn h4.1 rfl (lv_room hrm) hdg hf) h3 (fun q _ h => j_in K h2 h3 q h) (j_in K h2 h3) (fun u t H1 locs1 ht hvm hp hB hz hk hS => ?_)
  obtain ⟨b1, b2, b3⟩ := hB
  exact kk u hp H1 locs1 ls (by rw [← ht]; exact b1) (b3.weaken (fun k q _ h => j_in K h2 h3 _ h)) hS h4
end
theorem lw_F {own : String} {idx : Nat} {C : String} {x y : MethodName} {b : ByteArray} {L : Nat} {r : Option FieldType} (h1 : Cond.methodLink own idx x ∈ lw_all) (h3 : Cond.selects C x y ∈ lw_all) (h4 : Cond.instanceMethod y ∈ lw_all) (h5 : Cond.initialized y.cls ∈ lw_all) (h6 : Cond.code y b L r ∈ lw_all) : GoodIn lw_all (va_wsF own idx C x y (ws_ y b L r)) := by
  refine lw_app ?_ (lw_meth h6)
  intro w hw
  simp only [List.mem_cons, List.not_mem_nil, or_false] at hw
  rcases hw with e | e | e | e
  · rw [e]; exact h1
  · rw [e]; exact h3
  · rw [e]; exact h4
  · rw [e]; exact h5
theorem lw_SU {own : String} {idx : Nat} {y : MethodName} {b : ByteArray} {L : Nat} {r : Option FieldType} (h1 : Cond.methodLink own idx y ∈ lw_all) (h2 : Cond.sameMethod y.cls y.cls y.name y.desc ∈ lw_all) (h3 : Cond.superclass own y.cls ∈ lw_all) (h4 : Cond.instanceMethod y ∈ lw_all) (h5 : Cond.initialized y.cls ∈ lw_all) (h6 : Cond.code y b L r ∈ lw_all) : GoodIn lw_all (va_wsSU own idx y (ws_ y b L r)) := by
  refine lw_app ?_ (lw_meth h6)
  intro w hw
  simp only [List.mem_cons, List.not_mem_nil, or_false] at hw
  rcases hw with e | e | e | e | e
  · rw [e]; exact h1
  · rw [e]; exact h2
  · rw [e]; exact h3
  · rw [e]; exact h4
  · rw [e]; exact h5
