/-! MORRISTABLES: begin, set: what they leave, what they cost -/
def setG (k : Gm) (i v : Nat) : Gm := (if i = 0 then v else k.1, if i = 0 then k.2.1 else v, k.2.2)
theorem setG_at (k : Gm) {i v : Nat} (hi : i < 2) : ∀ j, j < 2 → upd (set2 k.1 k.2.1) (nI i).toNatClampNeg (nI v) j = set2 (setG k i v).1 (setG k i v).2.1 j := by
  intro j hj
  rw [nI_clamp (by omega)]
  rcases (show i = 0 ∨ i = 1 by omega) with rfl | rfl <;> rcases (show j = 0 ∨ j = 1 by omega) with rfl | rfl <;> rfl
section
variable {p : Program} {l : Launch} {e : Env} {R : Room} {s : State} {m : MethodId} {args : Array Value} {below : List Frame} {meth : Method} {c : Code} {Q : State → Prop} {A : Nat → Prop} {D : va_G} {nL : Nat} {pc : Nat} {lv : List (Nat × Value)} {rest : List Value} {cc : ByteArray} {ct : Nat → ClassId} {G : gE} {own : String} {g : GP} {fx : Nat → Nat} {tl : va_W} {S : CS} {T : TB} {kc ks : Nat}
theorem m_sett (K : CX p s m args meth c cc nL own A D ct G) {i v : Nat} {xi xv : Int32} (hi : i < 2) (ei : xi = nI i) (ev : xv = nI v) (hdg : decode cc pc = .ok (.iastore, 1)) (kk : jJ p l e R s m args below meth c Q A D nL (CW ct g.2.1 fx ((S.1.1, setG S.1.2 i v), S.2) T tl) kc ks (pc + 1) lv rest) : jJ p l e R s m args below meth c Q A D nL (CW ct g.2.1 fx S T tl) kc ks pc lv (.int xv :: .int xi :: .ref (S.1.1 1) :: rest) := by
  subst ei
  subst ev
  refine j_iast K 8 0 rfl rfl (vin hi) hdg ?_
  refine j_wsEq (ws' := (((fx 0), .inr (0, [.ref (fx 1), .ref (S.1.1 0), .ref (fx 4), .ref (fx 5), .ref (fx 6)])) :: ((fx 1), .inr (1, [.ref (fx 2)])) :: ((fx 2), .inr (6, [.int (4 : Int32), .ref (fx 3), .int (nI (tbE T).length)])) :: ((fx 3), .inl (ct 3, 10, .inr (.inr (.inr (.inr (lsF (tbE T))))))) :: ((fx 5), .inl (ct 4, 2, .inr (.inr (.inr (.inr (svF S.2.2.1)))))) :: ((fx 6), .inr (7, [.ref S.2.2.2.1.1, .int (0 : Int32), .int S.2.2.2.2.2, .int (nI S.2.2.2.1.2.2.2.length)])) :: (S.2.2.2.1.1, .inl (ct 2, S.2.2.2.1.2.1, .inl S.2.2.2.1.2.2.1)) :: ((S.1.1 0), .inr (2, [.ref (S.1.1 1), .ref (S.1.1 2), .int (nI (cur S.1.2).2.2), .ref (S.1.1 3), .int (nI (nmv S.1.2))])) :: ((S.1.1 1), .inl (ct 0, 2, .inl (upd (set2 S.1.2.1 S.1.2.2.1) (nI i).toNatClampNeg (nI v)))) :: ((S.1.1 2), .inl (ct 0, 2, .inl (set2 (cur S.1.2).1 (cur S.1.2).2.1))) :: ((S.1.1 3), .inl (ct 0, S.1.2.2.2.length, .inl (bdI S.1.2.2.2))) :: (cR ct g.2.1 fx S T tl))) rfl ?_
  refine j_same (ws' := CW ct g.2.1 fx ((S.1.1, setG S.1.2 i v), S.2) T tl) ?_ kk
  exact ⟨sameE.refl _, sameE.refl _, sameE.refl _, sameE.refl _, sameE.refl _, sameE.refl _, sameE.refl _, sameE.refl _, sameE.ints (setG_at S.1.2 hi), sameE.refl _, sameE.refl _, sameW.refl _⟩
end
def seCl (x y : Int32) (S : CS) : Nat := if in01 x && in01 y then rcC S + 2 else 0
def seSl (x y : Int32) (S : CS) : Nat := if in01 x && in01 y then rcS S + 3 else 0
def sePo (x y : Int32) (S : CS) (r : Int32) (S' : CS) : Prop := ((in01 x && in01 y) = false → r = -2 ∧ S' = S) ∧ ((in01 x && in01 y) = true → (x = 0 → r = nI S.1.2.1 ∧ stT 1 S S' (gNew y.toInt.toNat S.1.2.2.1)) ∧ (¬ x = 0 → r = nI S.1.2.2.1 ∧ stT 1 S S' (gNew S.1.2.1 y.toInt.toNat)))
