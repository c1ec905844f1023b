/-! the world with a new table -/
theorem new_pm {ct : Nat → ClassId} {g : GP} {fx : Nat → Nat} {tl : va_W} {S : CS} {T : TB} {u : TX} (hp : pS S < 4) (hn : T (pS S) = none) : (TW ct u.1 (([(fx 0, .inr (0, [.ref (fx 1), .ref (S.1.1 0), .ref (fx 4), .ref (fx 5), .ref (fx 6)])), (fx 1, .inr (1, [.ref (fx 2)])), (fx 2, .inr (6, [.int 4, .ref (fx 3), .int (nI ((tbE T).set (pS S) (some (u.1 0))).length)])), (fx 3, .inl (ct 3, 10, .inr (.inr (.inr (.inr (lsF ((tbE T).set (pS S) (some (u.1 0))))))))), (fx 5, .inl (ct 4, 2, .inr (.inr (.inr (.inr (svF S.2.2.1)))))), (fx 6, .inr (7, [.ref S.2.2.2.1.1, .int 0, .int S.2.2.2.2.2, .int (nI S.2.2.2.1.2.2.2.length)])), (S.2.2.2.1.1, .inl (ct 2, S.2.2.2.1.2.1, .inl S.2.2.2.1.2.2.1))] ++ gW ct S.1.1 S.1.2) ++ cR ct g.2.1 fx S T tl) u.2).Perm (CW ct g.2.1 fx S (va_up T (pS S) (some u)) tl) := by
  have h1 := tab_pm (ct := ct) (g := g) (fx := fx) (tl := tl) (S := S) (T := va_up T (pS S) (some u)) (x := u) hp (va_up_s _ _ _)
  rw [tR_up hp] at h1
  refine List.Perm.trans ?_ h1.symm
  have h2 : (tsW ct T).Perm (tsX ct T (pS S)) := by
    have := tsX_perm ct T hp
    rw [hn] at this
    exact this
  have h3 : ∀ {a b : va_W}, a.Perm b → (TW ct u.1 a u.2).Perm (TW ct u.1 b u.2) := fun h => (((((h.cons _).cons _).cons _).cons _).cons _)
  refine h3 ?_
  refine List.Perm.append_left _ ?_
  unfold cR cG
  exact List.Perm.append_left _ (List.Perm.append_left _ (List.Perm.append_left _ (h2.append_right tl)))
