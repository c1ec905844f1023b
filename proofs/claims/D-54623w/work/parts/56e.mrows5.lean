/-! MORRISTABLES: the world with the past's last game ahead -/
def uX (ct : Nat → ClassId) (S : CS) (T : TB) (L : List GX) (tl : va_W) : va_W := gsW ct L ++ ((ogW ct (S.2.2.1 0) ++ ogW ct (S.2.2.1 1)) ++ (tsW ct T ++ tl))
theorem und_pm {ct : Nat → ClassId} {g : GP} {fx : Nat → Nat} {tl : va_W} {S : CS} {T : TB} {pb : Nat} {L : List GX} {x : GX} (hb : S.2.1.1 = some pb) (hL : S.2.1.2 = L ++ [x]) : (CW ct g.2.1 fx S T tl).Perm (gW ct x.1 x.2 ++ (cP ct fx S T ++ (lW ct (fx 4) pb S.2.2.2.2.1 10 (pastE S) ++ uX ct S T L tl))) := by
  have up : ∀ {a b c d : va_W}, b.Perm (c ++ d) → (a ++ b).Perm (c ++ (a ++ d)) := by
    intro a b c d h
    exact (List.Perm.append_left a h).trans (List.perm_append_comm_assoc a c d)
  unfold CW cR cG uX
  rw [hL, hb, gsW_app, List.append_assoc (gsW ct L)]
  exact up (up (up (List.Perm.refl _)))
theorem past_drop {S : CS} {L : List GX} {x : GX} (hL : S.2.1.2 = L ++ [x]) : (pastE S).dropLast = L.map (fun x => some (x.1 0)) := by
  unfold pastE
  rw [hL, List.map_append]
  exact List.dropLast_concat
theorem past_last {S : CS} {L : List GX} {x : GX} (hL : S.2.1.2 = L ++ [x]) : (pastE S).length = L.length + 1 ∧ lsF (pastE S) ((pastE S).length - 1) = some (x.1 0) := by
  have h1 : (pastE S).length = L.length + 1 := by
    unfold pastE
    rw [hL, List.length_map, List.length_append]
    rfl
  refine ⟨h1, ?_⟩
  rw [h1]
  unfold pastE lsF
  rw [hL, List.map_append]
  show ((L.map (fun x => some (x.1 0)) ++ [some (x.1 0)])[L.length + 1 - 1]?).getD none = _
  rw [show L.length + 1 - 1 = (L.map (fun x : GX => some (x.1 0))).length by rw [List.length_map]; rfl, List.getElem?_append_right (Nat.le_refl _), Nat.sub_self]
  rfl
