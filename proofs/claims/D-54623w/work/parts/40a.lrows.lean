/-! LISTS: rows and the world of an ArrayList -/
section
variable {p : Program} {l : Launch} {e : Env} {R : Room} {s : State} {m : MethodId} {args : Array Value} {below : List Frame} {meth : Method} {c : Code} {Q : State → Prop} {A : Nat → Prop} {D : va_G} {nL : Nat} {ws : va_W} {cells slots pc : Nat} {lv : List (Nat × Value)} {rest : List Value} {cc : ByteArray} {own : String} {ct : Nat → ClassId} {G : gE} {g : GP}
theorem j_e0len (K : CX p s m args meth c cc nL own A D ct G) (hgc : gHasC G g) (hdg : decode cc pc = .ok (.arraylength, 1)) (kk : jJ p l e R s m args below meth c Q A D nL ws cells slots (pc + 1) lv (.int (nI 0) :: rest)) : jJ p l e R s m args below meth c Q A D nL ws cells slots pc lv (.ref g.2.1 :: rest) := fun H locs ls h1 h2 h3 h4 =>
  va_tlen K.1 K.2.1 (K.gc hgc).2.2.1 h3 rfl hdg (kk H locs ls h1 h2 h3 h4)
theorem j_ldcM (K : CX p s m args meth c cc nL own A D ct G) (hgc : gHasC G g) {index : Nat} (hlink : (Jvm.Cond.classLink own index "[Ljava/lang/Object;") ∈ lw_all) (hdg : decode cc pc = .ok (.ldc index, 2)) (kk : jJ p l e R s m args below meth c Q A D nL ws cells slots (pc + 2) lv (.ref g.2.2.1 :: rest)) : jJ p l e R s m args below meth c Q A D nL ws cells slots pc lv rest := fun H locs ls h1 h2 h3 h4 =>
  va_ldcM K.1 K.2.1 K.ow (K.ts _ hlink) (K.gc hgc).2.2.2.2.2.2.2.2.2.2.1 hdg (kk H locs ls h1 h2 h3 h4)
theorem j_getCA (K : CX p s m args meth c cc nL own A D ct G) (hgc : gHasC G g) {index : Nat} (hlink : (Jvm.Cond.methodLink own index ⟨"java/lang/Object", "getClass", "()Ljava/lang/Class;"⟩) ∈ lw_all) (q0 : Nat) {a : Nat} {x : vp_A} (ha : ws[q0]? = some (a, .inl (ct 3, x))) (hframes : 1 ≤ R.frames) (hlocals : (rest.map fun v => v.category).sum + 14 ≤ R.locals) (hdg : decode cc pc = .ok (.invokevirtual index, 3)) (kk : jJ p l e R s m args below meth c Q A D nL ws cells slots (pc + 3) lv (.ref g.2.2.1 :: rest)) : jJ p l e R s m args below meth c Q A D nL ws cells slots pc lv (.ref a :: rest) := fun H locs ls h1 h2 h3 h4 => by
  have hc : H[a]? = some (vp_cell (ct 3) x) := h1 q0 _ ha
  have h0 : (vp_cell (ct 3) x).cls = ct 3 ∧ (vp_cell (ct 3) x).vm = .none := by
    obtain ⟨n, f | f | f | f | f⟩ := x <;> exact ⟨rfl, rfl⟩
  exact va_getC (C := "[Ljava/lang/Object;") K.1 K.2.1 (K.2.2.1.trans h4.1.symm) K.ow (K.ts _ hlink) (va_Dc.use (K.gc hgc).2.2.2.2.2.2.2.2.2.1) (K.ts _ q1294) (K.ts _ q171) (K.ts _ q181) (K.gc hgc).2.2.2.2.2.2.2.2.2.2.1 ⟨_, hc, by rw [h0.2]; rfl, by rw [h0.1]; exact va_nmO (K.k.2 3 _ rfl).2 rfl⟩ hframes hlocals hdg (kk H locs ls h1 h2 h3 h4)
end
def lsF (es : List (Option Nat)) : Nat → Option Nat := fun j => es.getD j none
/-- a list with room for cap elements: its address, its array's, how often it changed -/
def lW (ct : Nat → ClassId) (a b : Nat) (mo : Int32) (cap : Nat) (es : List (Option Nat)) : va_W := [(a, .inr (6, [.int mo, .ref b, .int (nI es.length)])), (b, .inl (ct 3, cap, .inr (.inr (.inr (.inr (lsF es))))))]
/-- what stands in a list stands in the world -/
def elW (ct : Nat → ClassId) (es : List (Option Nat)) (tl : va_W) : Prop := ∀ y, some y ∈ es → ∃ e, (y, e) ∈ tl ∧ okE ct e
def elQ (ct : Nat → ClassId) (q : Option Nat) (tl : va_W) : Prop := ∀ y, q = some y → ∃ e, (y, e) ∈ tl ∧ okE ct e
theorem lsF_lt {es : List (Option Nat)} {i y : Nat} (h : lsF es i = some y) : some y ∈ es := by
  unfold lsF at h
  rw [List.getD_eq_getElem?_getD] at h
  cases hi : es[i]? with
  | none => rw [hi] at h; cases h
  | some x =>
    rw [hi] at h
    have h : x = some y := h
    rw [← h]
    exact List.mem_of_getElem? hi
theorem ls_add (es : List (Option Nat)) (q : Option Nat) : ∀ i, va_up (lsF es) es.length q i = lsF (es ++ [q]) i := by
  intro i
  unfold va_up lsF
  rw [List.getD_eq_getElem?_getD, List.getD_eq_getElem?_getD]
  split
  · rename_i h
    subst h
    rw [List.getElem?_append_right (Nat.le_refl _), Nat.sub_self]; rfl
  · rename_i h
    rcases Nat.lt_or_ge i es.length with hl | hl
    · rw [List.getElem?_append_left hl]
    · rw [List.getElem?_append_right hl, List.getElem?_eq_none hl, List.getElem?_eq_none (by simp; omega)]
theorem ls_set {es : List (Option Nat)} {x : Nat} (q : Option Nat) (hx : x < es.length) : ∀ i, va_up (lsF es) x q i = lsF (es.set x q) i := by
  intro i
  unfold va_up lsF
  rw [List.getD_eq_getElem?_getD, List.getD_eq_getElem?_getD, List.getElem?_set]
  split
  · rename_i h
    subst h
    simp [hx]
  · rename_i h
    rw [if_neg (fun z => h z.symm)]
theorem ls_tail {es : List (Option Nat)} : ∀ i, va_up (va_cpy (lsF es) (lsF es) 1 0 (es.length - 1)) (es.length - 1) none i = lsF es.tail i := by
  intro i
  cases es with
  | nil =>
    unfold va_up va_cpy lsF
    split <;> simp
  | cons x es =>
    unfold va_up va_cpy
    show (if i = es.length then none else if 0 ≤ i ∧ i < 0 + es.length then lsF (x :: es) (1 + (i - 0)) else lsF (x :: es) i) = lsF es i
    unfold lsF
    simp only [List.getD_eq_getElem?_getD]
    split
    · rename_i h
      subst h
      rw [List.getElem?_eq_none (Nat.le_refl _)]; rfl
    · split
      · rw [Nat.sub_zero, Nat.add_comm 1 i, List.getElem?_cons_succ]
      · rw [List.getElem?_eq_none (by simp; omega), List.getElem?_eq_none (by omega)]
theorem ls_last {es : List (Option Nat)} : ∀ i, va_up (lsF es) (es.length - 1) none i = lsF es.dropLast i := by
  intro i
  unfold va_up lsF
  simp only [List.getD_eq_getElem?_getD, List.getElem?_dropLast]
  split
  · rename_i h
    rw [if_neg (by omega)]; rfl
  · split
    · rfl
    · rw [List.getElem?_eq_none (by omega)]
theorem ls_cpy {es : List (Option Nat)} {n : Nat} (hn : es.length ≤ n) : ∀ i, va_cpy (lsF es) (fun _ => none) 0 0 n i = lsF es i := by
  intro i
  unfold va_cpy lsF
  simp only [List.getD_eq_getElem?_getD]
  split
  · rw [Nat.sub_zero, Nat.zero_add]
  · rw [List.getElem?_eq_none (by omega)]; rfl
theorem nI_nn9 {N : Nat} (h : N < 2000000000) : ¬ nI N < 0 := fun z => absurd (nl_of (show nI N < nI 0 from z) (by omega) (by omega)) (Nat.not_lt_zero _)
