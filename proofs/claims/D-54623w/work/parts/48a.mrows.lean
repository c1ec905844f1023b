/-! MORRISTABLES: lemmas for its leaves -/
theorem mk_ot {k : Gm} (hok : bokB (cur k)) : set2 (cur k).1 (cur k).2.1 (nI (1 - (cur k).2.2)).toNatClampNeg = nI (otB (cur k)) := by
  have h : (cur k).2.2 < 2 := hok.2.2.2
  rw [nI_clamp (by omega)]
  unfold set2 otB sid
  split <;> rfl
theorem tbE_at (T : TB) {p : Nat} (hp : p < 4) : lsF (tbE T) p = (T p).map (fun t => t.1 0) := by
  rcases (show p = 0 ∨ p = 1 ∨ p = 2 ∨ p = 3 by omega) with rfl | rfl | rfl | rfl <;> rfl
theorem tbE_up (T : TB) (x : TX) {p : Nat} (hp : p < 4) : tbE (va_up T p (some x)) = (tbE T).set p (some (x.1 0)) := by
  rcases (show p = 0 ∨ p = 1 ∨ p = 2 ∨ p = 3 by omega) with rfl | rfl | rfl | rfl <;> rfl
theorem tsX_up (ct : Nat → ClassId) (T : TB) (x : TX) {p : Nat} (hp : p < 4) : tsX ct (va_up T p (some x)) p = tsX ct T p := by
  rcases (show p = 0 ∨ p = 1 ∨ p = 2 ∨ p = 3 by omega) with rfl | rfl | rfl | rfl <;> rfl
theorem va_up_s {α : Type} (f : Nat → α) (k : Nat) (v : α) : va_up f k v k = v := if_pos rfl
theorem va_up_n {α : Type} {f : Nat → α} {k j : Nat} {v : α} (h : j ≠ k) : va_up f k v j = f j := if_neg h
def cPast (S : CS) (x : Option Nat × List GX) (mo : Int32) : CS := (S.1, x, S.2.2.1, S.2.2.2.1, mo, S.2.2.2.2.2)
/-- the state behind record -/
def recX (S : CS) (u : Nat → Nat) (b : Nat) (mo : Int32) : CS := cPast S (some b, (if S.2.1.2.length = 6 then S.2.1.2.tail else S.2.1.2) ++ [(u, S.1.2)]) mo
section
variable {ct : Nat → ClassId} {g : GP} {fx : Nat → Nat} {tl : va_W} {S : CS} {T : TB}
theorem gsW_app (L : List GX) (x : GX) : gsW ct (L ++ [x]) = gsW ct L ++ gW ct x.1 x.2 := by
  unfold gsW
  rw [List.flatMap_append]
  simp
theorem rec_pm {u : Nat → Nat} {b : Nat} {mo : Int32} {o : Option Nat} {L : List GX} {mo0 : Int32} {es : List (Option Nat)} (he : es = L.map (fun x => some (x.1 0))) : (cP ct fx S T ++ (lW ct (fx 4) b mo 10 (es ++ [some (u 0)]) ++ (gW ct u S.1.2 ++ cG ct (cPast S (o, L) mo0) T tl))).Perm (CW ct g.2.1 fx (cPast S (some b, L ++ [(u, S.1.2)]) mo) T tl) := by
  subst he
  unfold CW
  refine List.Perm.append_left _ ?_
  show (lW ct (fx 4) b mo 10 (L.map (fun x => some (x.1 0)) ++ [some (u 0)]) ++ (gW ct u S.1.2 ++ (gsW ct L ++ ((ogW ct (S.2.2.1 0) ++ ogW ct (S.2.2.1 1)) ++ (tsW ct T ++ tl))))).Perm (lW ct (fx 4) b mo 10 ((L ++ [(u, S.1.2)]).map (fun x => some (x.1 0))) ++ (gsW ct (L ++ [(u, S.1.2)]) ++ ((ogW ct (S.2.2.1 0) ++ ogW ct (S.2.2.1 1)) ++ (tsW ct T ++ tl))))
  rw [List.map_append, gsW_app, List.append_assoc (gsW ct L)]
  refine List.Perm.append_left _ ?_
  exact List.perm_append_comm_assoc _ _ _
theorem past_el : elW ct (pastE S) (cG ct S T tl) := by
  intro y hy
  unfold pastE at hy
  obtain ⟨x, hx, e⟩ := List.mem_map.mp hy
  cases e
  refine ⟨.inr (2, [.ref (x.1 1), .ref (x.1 2), .int (nI (cur x.2).2.2), .ref (x.1 3), .int (nI (nmv x.2))]), List.mem_append_left _ ?_, Or.inl ⟨_, rfl⟩⟩
  exact List.mem_flatMap.mpr ⟨x, hx, List.mem_cons_self⟩
theorem cG_tail {o : Option Nat} {mo : Int32} : (cG ct (cPast S (o, S.2.1.2.tail) mo) T tl).Sublist (cG ct S T tl) := by
  show (gsW ct S.2.1.2.tail ++ _).Sublist (gsW ct S.2.1.2 ++ _)
  refine List.Sublist.append ?_ (List.Sublist.refl _)
  cases S.2.1.2 with
  | nil => exact List.Sublist.refl _
  | cons x L => exact List.sublist_append_right _ _
theorem tR_up {x : TX} {p : Nat} (hp : p < 4) : tR ct g.2.1 fx S (va_up T p (some x)) p tl = ([(fx 0, .inr (0, [.ref (fx 1), .ref (S.1.1 0), .ref (fx 4), .ref (fx 5), .ref (fx 6)])), (fx 1, .inr (1, [.ref (fx 2)])), (fx 2, .inr (6, [.int 4, .ref (fx 3), .int (nI ((tbE T).set p (some (x.1 0))).length)])), (fx 3, .inl (ct 3, 10, .inr (.inr (.inr (.inr (lsF ((tbE T).set p (some (x.1 0))))))))), (fx 5, .inl (ct 4, 2, .inr (.inr (.inr (.inr (svF S.2.2.1)))))), (fx 6, .inr (7, [.ref S.2.2.2.1.1, .int 0, .int S.2.2.2.2.2, .int (nI S.2.2.2.1.2.2.2.length)])), (S.2.2.2.1.1, .inl (ct 2, S.2.2.2.1.2.1, .inl S.2.2.2.1.2.2.1))] ++ gW ct S.1.1 S.1.2) ++ (lWo ct g.2.1 (fx 4) S.2.1.1 S.2.2.2.2.1 10 (pastE S) ++ (gsW ct S.2.1.2 ++ ((ogW ct (S.2.2.1 0) ++ ogW ct (S.2.2.1 1)) ++ (tsX ct T p ++ tl)))) := by
  unfold tR cP
  rw [tbE_up T x hp, tsX_up ct T x hp]
end
theorem tOK_up {T : TB} {x : TX} {p : Nat} (h : tOK T) (hx : tabF (p / 2) (p % 2) x.2) : tOK (va_up T p (some x)) := by
  intro k y hk hy
  by_cases e : k = p
  · subst e
    rw [va_up_s] at hy
    cases hy
    exact hx
  · rw [va_up_n e] at hy
    exact h k y hk hy
theorem extB_up {T : TB} {x : TX} {p : Nat} (h : tOK T) (hn : T p = none) (hx : tabF (p / 2) (p % 2) x.2) : extB true p T (va_up T p (some x)) := ⟨tOK_up h hx, fun _ hk => va_up_n hk, fun z => absurd hn z, fun _ => (by rw [va_up_s]; exact fun z => (by cases z)), fun z => (by cases z)⟩
theorem extB_made {T : TB} {p : Nat} (h : tOK T) (hn : T p ≠ none) : extB true p T T := ⟨h, fun _ _ => rfl, fun _ => rfl, fun _ => hn, fun z => (by cases z)⟩
/-- the invariant of the component's state -/
def cInv (S : CS) : Prop := gok S.1.2 ∧ (∀ x ∈ S.2.1.2, gok x.2) ∧ S.2.1.2.length ≤ 6 ∧ (S.2.1.1 = none → S.2.1.2 = []) ∧ (∀ k x, S.2.2.1 k = some x → gok x.2) ∧ pdOK S.2.2.2.1.2.2.2 S.2.2.2.1.2.2.1 S.2.2.2.1.2.1 ∧ fBy S.2.2.2.1.2.2.1 S.2.2.2.1.2.1
theorem pS_lt {S : CS} (h : cInv S) : pS S < 4 := by
  have h1 := h.1.1
  have h2 := h.1.2.1
  unfold pS
  omega
theorem pS_d {S : CS} (h : cInv S) : pS S / 2 = S.1.2.1 ∧ pS S % 2 = S.1.2.2.1 := by
  have h1 := h.1.1
  have h2 := h.1.2.1
  unfold pS
  omega
