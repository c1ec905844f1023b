/-! GAME: its world, by its addresses and the pure game -/
theorem sameE.obj {a ci : Nat} {fs fs' : List Value} (h : fs = fs') : sameE (a, .inr (ci, fs)) (a, .inr (ci, fs')) := by
  subst h
  exact sameE.refl _
theorem sameE.intsN {a n n' : Nat} {cA : ClassId} {f g : Nat → Int32} (hn : n = n') (h : ∀ i, i < n → f i = g i) : sameE (a, .inl (cA, n, .inl f)) (a, .inl (cA, n', .inl g)) := by
  subst hn
  exact sameE.ints h
def ad4 (a b c d : Nat) : Nat → Nat := fun k => if k = 0 then a else if k = 1 then b else if k = 2 then c else d
def set2 (a b : Nat) : Nat → Int32 := fun j => if j = 0 then nI a else nI b
def bdI (bs : List Bd) : Nat → Int32 := fun j => nI (pkB (bs.getD j (0, 0, 0)))
def brdI (f : Nat → Int32) (mv : Int32) : Int32 := (f 0 ||| (f 1 <<< ((9 : Int32) &&& 31))) ||| (mv <<< ((18 : Int32) &&& 31))
def gW (ct : Nat → ClassId) (ad : Nat → Nat) (k : Gm) : va_W := [(ad 0, .inr (2, [.ref (ad 1), .ref (ad 2), .int (nI (cur k).2.2), .ref (ad 3), .int (nI (nmv k))])), (ad 1, .inl (ct 0, 2, .inl (set2 k.1 k.2.1))), (ad 2, .inl (ct 0, 2, .inl (set2 (cur k).1 (cur k).2.1))), (ad 3, .inl (ct 0, k.2.2.length, .inl (bdI k.2.2)))]
theorem mk_e1 {k : Gm} (hok : bokB (cur k)) (q : Nat) : (1 : Int32) - nI (cur k).2.2 = nI (cur (goG k q)).2.2 := by
  rw [cur_go]
  have h : (cur k).2.2 < 2 := hok.2.2.2
  unfold nxb
  rcases (show (cur k).2.2 = 0 ∨ (cur k).2.2 = 1 by omega) with e | e
  · rw [e, if_pos rfl]
    show (1 : Int32) - nI 0 = nI 1
    decide
  · rw [e, if_neg (by decide)]
    show (1 : Int32) - nI 1 = nI 0
    decide
theorem mk_e2 {k : Gm} (hne : k.2.2 ≠ []) (q : Nat) : nI (nmv k) + (1 : Int32) = nI (nmv (goG k q)) := by
  have h : 0 < k.2.2.length := List.length_pos_iff.mpr hne
  rw [nI_up]
  unfold nmv goG
  rw [List.length_append]
  congr 1
  show k.2.2.length - 1 + 1 = k.2.2.length + 1 - 1
  omega
theorem mk_e3 (k : Gm) (q : Nat) : k.2.2.length + 1 = (goG k q).2.2.length := by
  unfold goG
  rw [List.length_append]; rfl
theorem mk_me {k : Gm} (hok : bokB (cur k)) : set2 (cur k).1 (cur k).2.1 (nI (cur k).2.2).toNatClampNeg = nI (meB (cur k)) := by
  have h : (cur k).2.2 < 2 := hok.2.2.2
  rw [nI_clamp (by omega)]
  unfold set2 meB sid
  split <;> rfl
theorem mk_r {k : Gm} {q : Nat} {r : Int32} (hok : bokB (cur k)) (hkm : okm (meB (cur k)) (otB (cur k)) q) (h : qX4_behind (set2 (cur k).1 (cur k).2.1 (nI (cur k).2.2).toNatClampNeg) (nI q) r) : r = nI (app (meB (cur k)) q) := h _ (meB_lt hok) q (Nat.lt_succ_of_le (okm_le hkm)) (mk_me hok) rfl
theorem mk_men {k : Gm} {q : Nat} {r : Int32} (hok : bokB (cur k)) (hkm : okm (meB (cur k)) (otB (cur k)) q) (h : qX4_behind (set2 (cur k).1 (cur k).2.1 (nI (cur k).2.2).toNatClampNeg) (nI q) r) : ∀ i, i < 2 → upd (set2 (cur k).1 (cur k).2.1) (nI (cur k).2.2).toNatClampNeg r i = set2 (cur (goG k q)).1 (cur (goG k q)).2.1 i := by
  have hr := mk_r hok hkm h
  subst hr
  have hm : (cur k).2.2 < 2 := hok.2.2.2
  rw [cur_go]
  intro i hi
  rw [nI_clamp (by omega)]
  unfold nxb meB sid
  rcases (show (cur k).2.2 = 0 ∨ (cur k).2.2 = 1 by omega) with e | e
  · rw [e, if_pos rfl, if_pos rfl]
    rcases (show i = 0 ∨ i = 1 by omega) with rfl | rfl
    · exact pk_us
    · rw [pk_un (by decide)]; rfl
  · rw [e, if_neg (by decide), if_neg (by decide)]
    rcases (show i = 0 ∨ i = 1 by omega) with rfl | rfl
    · rw [pk_un (by decide)]; rfl
    · exact pk_us
theorem brd_pk {b : Bd} (hb : bokB b) {f : Nat → Int32} {mv : Int32} (h0 : f 0 = nI b.1) (h1 : f 1 = nI b.2.1) (h2 : mv = nI b.2.2) : brdI f mv = nI (pkB b) := by
  unfold brdI
  rw [h0, h1, h2]
  exact pk_nat hb.1 hb.2.1 hb.2.2.2
theorem mk_brd {k : Gm} {q : Nat} {r : Int32} (hok : bokB (cur k)) (hkm : okm (meB (cur k)) (otB (cur k)) q) (h : qX4_behind (set2 (cur k).1 (cur k).2.1 (nI (cur k).2.2).toNatClampNeg) (nI q) r) : brdI (upd (set2 (cur k).1 (cur k).2.1) (nI (cur k).2.2).toNatClampNeg r) ((1 : Int32) - nI (cur k).2.2) = nI (pkB (nxb (cur k) q)) := by
  have hm := mk_men hok hkm h
  rw [cur_go] at hm
  refine brd_pk (nxb_bok hok hkm) (hm 0 (by decide)) (hm 1 (by decide)) ?_
  rw [mk_e1 hok q, cur_go]
theorem mk_came {k : Gm} {q : Nat} {r : Int32} (hlen : k.2.2.length < 1000000) (h : r = nI (pkB (nxb (cur k) q))) : ∀ i, i < k.2.2.length + 1 → upd (va_cpy (bdI k.2.2) (fun _ => 0) (0 : Int32).toNatClampNeg (0 : Int32).toNatClampNeg (nI k.2.2.length).toNatClampNeg) (nI k.2.2.length).toNatClampNeg r i = bdI (goG k q).2.2 i := by
  intro i hi
  rw [nI_clamp (by omega)]
  subst h
  show upd _ k.2.2.length _ i = nI (pkB ((k.2.2 ++ [nxb (cur k) q]).getD i (0, 0, 0)))
  by_cases e : i = k.2.2.length
  · subst e
    rw [pk_us, List.getD_eq_getElem?_getD, List.getElem?_append_right (Nat.le_refl _), Nat.sub_self]; rfl
  · rw [pk_un e, List.getD_eq_getElem?_getD, List.getElem?_append_left (by omega)]
    show va_cpy (bdI k.2.2) (fun _ => 0) 0 0 k.2.2.length i = _
    unfold va_cpy
    rw [if_pos ⟨Nat.zero_le _, by omega⟩, Nat.sub_zero, Nat.zero_add]
    unfold bdI
    rw [List.getD_eq_getElem?_getD]
