/-! MORRISTABLES: the world with a saved game ahead -/
def rX (ct : Nat → ClassId) (e0 : Nat) (fx : Nat → Nat) (S : CS) (T : TB) (n : Nat) (tl : va_W) : va_W := lWo ct e0 (fx 4) S.2.1.1 S.2.2.2.2.1 10 (pastE S) ++ (gsW ct S.2.1.2 ++ (ogW ct (S.2.2.1 (1 - n)) ++ (tsW ct T ++ tl)))
theorem rst_pm {ct : Nat → ClassId} {g : GP} {fx : Nat → Nat} {tl : va_W} {S : CS} {T : TB} {n : Nat} {x : GX} (hn : n < 2) (hx : S.2.2.1 n = some x) : (CW ct g.2.1 fx S T tl).Perm (gW ct x.1 x.2 ++ (cP ct fx S T ++ rX ct g.2.1 fx S T n tl)) := by
  have up : ∀ {a b c d : va_W}, b.Perm (c ++ d) → (a ++ b).Perm (c ++ (a ++ d)) := by
    intro a b c d h
    exact (List.Perm.append_left a h).trans (List.perm_append_comm_assoc a c d)
  unfold CW cR cG rX
  rcases (show n = 0 ∨ n = 1 by omega) with rfl | rfl
  · rw [hx, List.append_assoc (ogW ct (some x))]
    exact up (up (up (List.Perm.refl _)))
  · rw [hx, List.append_assoc (ogW ct (S.2.2.1 0))]
    exact up (up (up (up (List.Perm.refl _))))
