/-! two rows more, and the world in another order -/
section
variable {p : Program} {l : Launch} {e : Env} {R : Room} {s : State} {m : MethodId} {args : Array Value} {below : List Frame} {meth : Method} {c : Code} {Q : State → Prop} {A : Nat → Prop} {D : va_G} {nL : Nat} {ws : va_W} {cells slots pc : Nat} {lv : List (Nat × Value)} {rest : List Value} {cc : ByteArray} {own : String} {ct : Nat → ClassId} {G : gE}
theorem j_iushr (K : CX p s m args meth c cc nL own A D ct G) {x y : Int32} (hdg : decode cc pc = .ok (.iushr, 1)) (k : jJ p l e R s m args below meth c Q A D nL ws cells slots (pc + 1) lv (.int (x.toUInt32 >>> (y.toUInt32 &&& Int32.toUInt32 31)).toInt32 :: rest)) : jJ p l e R s m args below meth c Q A D nL ws cells slots pc lv (.int y :: .int x :: rest) := fun H locs ls h1 h2 h3 h4 => lv_iushr K.1 K.2.1 hdg rfl (k H locs ls h1 h2 h3 h4)
theorem j_ldc_w (K : CX p s m args meth c cc nL own A D ct G) {i : Nat} {v : Int32} (hc : (Jvm.Cond.constant own i v) ∈ lw_all) (hdg : decode cc pc = .ok (.ldc_w i, 3)) (k : jJ p l e R s m args below meth c Q A D nL ws cells slots (pc + 3) lv (.int v :: rest)) : jJ p l e R s m args below meth c Q A D nL ws cells slots pc lv rest := fun H locs ls h1 h2 h3 h4 => lv_ldcw K.1 K.2.1 K.ow (K.ts _ hc) hdg (k H locs ls h1 h2 h3 h4)
theorem va_P.perm {w1 w2 : va_W} {H : Heap} (h : w1.Perm w2) (hP : va_P D gCl w1 H) : va_P D gCl w2 H := by
  intro k q hk
  have h1 : q ∈ w1 := h.mem_iff.mpr (List.mem_of_getElem? hk)
  obtain ⟨i, hi⟩ := List.mem_iff_getElem?.mp h1
  exact hP i q hi
theorem va_D.nodup {w : va_W} (h : va_D A w) : (w.map Prod.fst).Nodup := by
  unfold List.Nodup
  rw [List.pairwise_iff_getElem]
  intro i j hi hj hij e
  rw [List.getElem_map, List.getElem_map] at e
  have := h.1 i j _ _ (List.getElem?_eq_getElem (by simpa using hi)) (List.getElem?_eq_getElem (by simpa using hj)) e
  omega
theorem va_D.of_nodup {w : va_W} (h : (w.map Prod.fst).Nodup) (hA : ∀ q ∈ w, A q.1) : va_D A w := by
  refine ⟨fun i j p q hi hj e => ?_, fun k q hk => hA q (List.mem_of_getElem? hk)⟩
  have hi' := (List.getElem?_eq_some_iff.mp hi)
  have hj' := (List.getElem?_eq_some_iff.mp hj)
  obtain ⟨li, ei⟩ := hi'
  obtain ⟨lj, ej⟩ := hj'
  unfold List.Nodup at h
  rw [List.pairwise_iff_getElem] at h
  rcases Nat.lt_trichotomy i j with g | g | g
  · exact absurd (by rw [List.getElem_map, List.getElem_map, ei, ej]; exact e) (h i j (by simpa using li) (by simpa using lj) g)
  · exact g
  · exact absurd (by rw [List.getElem_map, List.getElem_map, ei, ej]; exact e.symm) (h j i (by simpa using lj) (by simpa using li) g)
theorem va_D.perm {w1 w2 : va_W} (h : w1.Perm w2) (hD : va_D A w1) : va_D A w2 := by
  refine va_D.of_nodup ((h.map Prod.fst).nodup_iff.mp hD.nodup) (fun q hq => ?_)
  obtain ⟨i, hi⟩ := List.mem_iff_getElem?.mp (h.mem_iff.mpr hq)
  exact hD.2 i q hi
/-- the world in another order -/
theorem j_perm {ws' : va_W} (h : ws.Perm ws') {st : List Value} (kk : jJ p l e R s m args below meth c Q A D nL ws' cells slots pc lv st) : jJ p l e R s m args below meth c Q A D nL ws cells slots pc lv st := fun H locs ls h1 h2 h3 h4 => kk H locs ls (h1.perm h) (h2.perm h) h3 h4
end
