/-! MORRISTABLES: saved games, the past's last game: worlds -/
def cSav (S : CS) (n : Nat) (x : GX) : CS := (S.1, S.2.1, va_up S.2.2.1 n (some x), S.2.2.2)
theorem svF_up (v : Nat → Option GX) (n : Nat) (x : GX) : svF (va_up v n (some x)) = va_up (svF v) n (some (x.1 0)) := by
  funext j
  unfold svF va_up
  split <;> rfl
section
variable {ct : Nat → ClassId} {g : GP} {fx : Nat → Nat} {tl : va_W} {S : CS} {T : TB}
/-- the world with a copy ahead holds the world with the copy saved -/
theorem sav_sub {n : Nat} {x : GX} (hn : n < 2) : ∃ w1 : va_W, w1.Sublist (gW ct x.1 x.2 ++ (cP ct fx (cSav S n x) T ++ cR ct g.2.1 fx S T tl)) ∧ w1.Perm (CW ct g.2.1 fx (cSav S n x) T tl) := by
  have up : ∀ {a b c d : va_W}, b.Perm (c ++ d) → (a ++ b).Perm (c ++ (a ++ d)) := by
    intro a b c d h
    exact (List.Perm.append_left a h).trans (List.perm_append_comm_assoc a c d)
  rcases (show n = 0 ∨ n = 1 by omega) with rfl | rfl
  · refine ⟨gW ct x.1 x.2 ++ (cP ct fx (cSav S 0 x) T ++ (lWo ct g.2.1 (fx 4) S.2.1.1 S.2.2.2.2.1 10 (pastE S) ++ (gsW ct S.2.1.2 ++ (ogW ct (S.2.2.1 1) ++ (tsW ct T ++ tl))))), ?_, ?_⟩
    · refine List.Sublist.append (List.Sublist.refl _) (List.Sublist.append (List.Sublist.refl _) ?_)
      unfold cR cG
      refine List.Sublist.append (List.Sublist.refl _) (List.Sublist.append (List.Sublist.refl _) ?_)
      rw [List.append_assoc]
      exact List.sublist_append_right _ _
    · refine List.Perm.symm ?_
      show (cP ct fx (cSav S 0 x) T ++ (lWo ct g.2.1 (fx 4) S.2.1.1 S.2.2.2.2.1 10 (pastE S) ++ (gsW ct S.2.1.2 ++ ((gW ct x.1 x.2 ++ ogW ct (S.2.2.1 1)) ++ (tsW ct T ++ tl))))).Perm _
      rw [List.append_assoc (gW ct x.1 x.2)]
      exact up (up (up (List.Perm.refl _)))
  · refine ⟨gW ct x.1 x.2 ++ (cP ct fx (cSav S 1 x) T ++ (lWo ct g.2.1 (fx 4) S.2.1.1 S.2.2.2.2.1 10 (pastE S) ++ (gsW ct S.2.1.2 ++ (ogW ct (S.2.2.1 0) ++ (tsW ct T ++ tl))))), ?_, ?_⟩
    · refine List.Sublist.append (List.Sublist.refl _) (List.Sublist.append (List.Sublist.refl _) ?_)
      unfold cR cG
      refine List.Sublist.append (List.Sublist.refl _) (List.Sublist.append (List.Sublist.refl _) ?_)
      exact List.Sublist.append (List.sublist_append_left _ _) (List.Sublist.refl _)
    · refine List.Perm.symm ?_
      show (cP ct fx (cSav S 1 x) T ++ (lWo ct g.2.1 (fx 4) S.2.1.1 S.2.2.2.2.1 10 (pastE S) ++ (gsW ct S.2.1.2 ++ ((ogW ct (S.2.2.1 0) ++ gW ct x.1 x.2) ++ (tsW ct T ++ tl))))).Perm _
      rw [List.append_assoc (ogW ct (S.2.2.1 0))]
      exact up (up (up (up (List.Perm.refl _))))
end
theorem cInv_sav {S : CS} {n : Nat} {x : GX} (h : cInv S) (hx : gok x.2) : cInv (cSav S n x) := by
  obtain ⟨h1, h2, h3, h4, h5, h6, h7⟩ := h
  refine ⟨h1, h2, h3, h4, fun k y hy => ?_, h6, h7⟩
  have hy : va_up S.2.2.1 n (some x) k = some y := hy
  by_cases e : k = n
  · subst e
    rw [va_up_s] at hy
    cases hy
    exact hx
  · rw [va_up_n e] at hy
    exact h5 k y hy
