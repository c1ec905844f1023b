/-! calls of parts, said over the component's world -/
section
variable {l : Launch} {D : va_G} {ct : Nat → ClassId} {G : gE} {g : GP} {fx : Nat → Nat} {tl : va_W} {S : CS} {T : TB}
theorem extB.rf {p : Nat} (h : tOK T) : extB false p T T := ⟨h, fun _ _ => rfl, fun _ => rfl, fun z => (by cases z), fun _ => rfl⟩
theorem pm0 {a b : va_W} (h : a.Perm b) : a.Perm (b ++ []) := by rw [List.append_nil]; exact h
theorem pm1 {a b : va_W} (h : b.Perm a) : (a ++ []).Perm (b ++ []) := by rw [List.append_nil, List.append_nil]; exact h.symm
theorem ctC_times (hG : gOK G) (hT : tOK T) (hp : pX2_times S.1.2) : mCi l D ct G g fx tl yX2_times (ws_ yX2_times cX2_times 6 (some .int)) 1 20 [.ref (S.1.1 0)] S T false 0 0 (fun r S' => r = nI (oftG S.1.2) ∧ S' = S) :=
  met_lift_i (w2 := []) hG (fun _ _ _ h => h) (pm0 (CW_now ct g.2.1 fx S T tl)) (ctX2_times (tl := nR ct g.2.1 fx S T tl) hG hp) (fun r u h => ⟨(S, T), ⟨⟨h, rfl⟩, extB.rf hT⟩, [], pm1 (CW_now ct g.2.1 fx S T tl)⟩)
theorem nR_now {u : Nat → Nat} {k : Gm} (h : u 0 = S.1.1 0) : nR ct g.2.1 fx ((u, k), S.2) T tl = nR ct g.2.1 fx S T tl := by
  unfold nR
  dsimp only
  rw [h]
  rfl
theorem now_pm {u : Nat → Nat} {k : Gm} (h : u 0 = S.1.1 0) : ((gW ct u k ++ nR ct g.2.1 fx S T tl) ++ []).Perm (CW ct g.2.1 fx ((u, k), S.2) T tl ++ []) := by
  have := pm1 (CW_now ct g.2.1 fx ((u, k), S.2) T tl)
  rw [nR_now h] at this
  exact this
theorem ctC_make {q : Nat} (hG : gOK G) (hT : tOK T) (hok : bokB (cur S.1.2)) (hkm : okm (meB (cur S.1.2)) (otB (cur S.1.2)) q) (hne : S.1.2.2.2 ≠ []) (hlen : S.1.2.2.2.length < 1000000) : mCv l D ct G g fx tl yX2_make (ws_ yX2_make cX2_make 3 none) 1 32 [.ref (S.1.1 0), .int (nI q)] S T false 1 (S.1.2.2.2.length + 1) (fun S' => ∃ u : Nat → Nat, u 0 = S.1.1 0 ∧ S' = ((u, goG S.1.2 q), S.2)) :=
  met_lift_v (w2 := []) hG (fun _ _ _ h => h) (pm0 (CW_now ct g.2.1 fx S T tl)) (ctX2_make (tl := nR ct g.2.1 fx S T tl) hG hok hkm hne hlen) (fun u h => ⟨(((u, goG S.1.2 q), S.2), T), ⟨⟨u, h, rfl⟩, extB.rf hT⟩, [], now_pm h⟩)
theorem ctC_begin (hG : gOK G) (hT : tOK T) : mCv l D ct G g fx tl yX2_begin (ws_ yX2_begin cX2_begin 1 none) 0 0 [.ref (S.1.1 0)] S T false 2 3 (fun S' => ∃ u : Nat → Nat, u 0 = S.1.1 0 ∧ S' = ((u, gNew S.1.2.1 S.1.2.2.1), S.2)) :=
  met_lift_v (w2 := []) hG (fun _ _ _ h => h) (pm0 (CW_now ct g.2.1 fx S T tl)) (ctX2_begin (tl := nR ct g.2.1 fx S T tl) hG) (fun u h => ⟨(((u, gNew S.1.2.1 S.1.2.2.1), S.2), T), ⟨⟨u, h, rfl⟩, extB.rf hT⟩, [], now_pm h⟩)
theorem tab_pm {x : TX} (hp : pS S < 4) (hx : T (pS S) = some x) : (CW ct g.2.1 fx S T tl).Perm (TW ct x.1 (tR ct g.2.1 fx S T (pS S) tl) x.2) := by
  have := CW_tab ct g.2.1 fx S T tl hp
  rw [hx] at this
  exact this
theorem ctC_tab {x : TX} (hG : gOK G) (hT : tOK T) (hp : pS S < 4) (hx : T (pS S) = some x) {y : MethodName} {wc : List Cond} {f lo : Nat} {As : List Value} {q : Int32 → Prop} (hM : ∀ sz, Met l y wc { frames := f, cells := 0, slots := 0, locals := lo } (va_Pc (.ref (x.1 0) :: As) (cPre G D ct (TW ct x.1 (tR ct g.2.1 fx S T (pS S) tl) x.2) sz)) (va_Qi (fun (r : Int32) (u : MS) => q r ∧ x.2 = u) (fun (u : MS) => cB D ct (va_A (TW ct x.1 (tR ct g.2.1 fx S T (pS S) tl) x.2) sz) (TW ct x.1 (tR ct g.2.1 fx S T (pS S) tl) u)) (va_A (TW ct x.1 (tR ct g.2.1 fx S T (pS S) tl) x.2) sz)) 0 0 (va_A (TW ct x.1 (tR ct g.2.1 fx S T (pS S) tl) x.2) sz)) : mCi l D ct G g fx tl y wc f lo (.ref (x.1 0) :: As) S T false 0 0 (fun r S' => q r ∧ S' = S) :=
  met_lift_i (w2 := []) hG (fun _ _ _ h => h) (pm0 (tab_pm hp hx)) hM (fun r u h => ⟨(S, T), ⟨⟨h.1, rfl⟩, extB.rf hT⟩, [], by rw [← h.2]; exact pm1 (tab_pm hp hx)⟩)
/-- all but the pad -/
def pR (ct : Nat → ClassId) (e0 : Nat) (fx : Nat → Nat) (S : CS) (T : TB) (tl : va_W) : va_W := [(fx 0, .inr (0, [.ref (fx 1), .ref (S.1.1 0), .ref (fx 4), .ref (fx 5), .ref (fx 6)])), (fx 1, .inr (1, [.ref (fx 2)])), (fx 2, .inr (6, [.int 4, .ref (fx 3), .int (nI (tbE T).length)])), (fx 3, .inl (ct 3, 10, .inr (.inr (.inr (.inr (lsF (tbE T))))))), (fx 5, .inl (ct 4, 2, .inr (.inr (.inr (.inr (svF S.2.2.1))))))] ++ (gW ct S.1.1 S.1.2 ++ cR ct e0 fx S T tl)
theorem CW_pad (ct : Nat → ClassId) (e0 : Nat) (fx : Nat → Nat) (S : CS) (T : TB) (tl : va_W) : (CW ct e0 fx S T tl).Perm (sbW ct (fx 6) S.2.2.2.1.1 S.2.2.2.2.2 S.2.2.2.1.2.1 S.2.2.2.1.2.2.1 S.2.2.2.1.2.2.2.length ++ pR ct e0 fx S T tl) := by
  unfold CW cP pR
  rw [List.append_assoc]
  exact List.perm_append_comm_assoc [_, _, _, _, _] (sbW ct (fx 6) S.2.2.2.1.1 S.2.2.2.2.2 S.2.2.2.1.2.1 S.2.2.2.1.2.2.1 S.2.2.2.1.2.2.2.length) (gW ct S.1.1 S.1.2 ++ cR ct e0 fx S T tl)
theorem ctC_len (hG : gOK G) (hT : tOK T) : mCi l D ct G g fx tl yJ7_length (ws_ yJ7_length cJ7_length 1 (some .int)) 1 20 [.ref (fx 6)] S T false 0 0 (fun r S' => r = nI S.2.2.2.1.2.2.2.length ∧ S' = S) :=
  met_lift_i (w2 := []) hG (fun _ _ _ h => h) (pm0 (CW_pad ct g.2.1 fx S T tl)) (ctJ7_length (tl := pR ct g.2.1 fx S T tl) hG) (fun r u h => ⟨(S, T), ⟨⟨h, rfl⟩, extB.rf hT⟩, [], pm1 (CW_pad ct g.2.1 fx S T tl)⟩)
/-- the pad in another form -/
def cPad (S : CS) (x : Nat × Nat × (Nat → Int32) × List Nat) (ml : Int32) : CS := (S.1, S.2.1, S.2.2.1, x, S.2.2.2.2.1, ml)
theorem ctC_setLen (hG : gOK G) (hgc : gHasC G g) (hT : tOK T) (hn : S.2.2.2.1.2.2.2.length ≤ S.2.2.2.1.2.1) (hc9 : S.2.2.2.1.2.1 < 1000000) : mCv l D ct G g fx tl yJ7_setLength (ws_ yJ7_setLength cJ7_setLength 2 none) 2 43 [.ref (fx 6), .int 0] S T false 0 0 (fun S' => ∃ ml, S' = cPad S (S.2.2.2.1.1, S.2.2.2.1.2.1, S.2.2.2.1.2.2.1, []) ml) :=
  met_lift_v (w2 := []) hG (fun _ _ _ h => h) (pm0 (CW_pad ct g.2.1 fx S T tl)) (ctJ7_setLength (tl := pR ct g.2.1 fx S T tl) hG hgc hn hc9) (fun u h => ⟨(cPad S (S.2.2.2.1.1, S.2.2.2.1.2.1, S.2.2.2.1.2.2.1, []) u, T), ⟨⟨u, rfl⟩, extB.rf hT⟩, [], pm1 (CW_pad ct g.2.1 fx (cPad S (S.2.2.2.1.1, S.2.2.2.1.2.1, S.2.2.2.1.2.2.1, []) u) T tl)⟩)
def apC (n cap : Nat) : Nat := if n < cap then 0 else 1
def apS (n cap : Nat) : Nat := if n < cap then 0 else 2 * cap + 2
/-- the pad behind one sign more -/
def apP (x : Nat × Nat × (Nat → Int32) × List Nat) (b z : Nat) : Nat × Nat × (Nat → Int32) × List Nat := if x.2.2.2.length < x.2.1 then (x.1, x.2.1, upd x.2.2.1 x.2.2.2.length (nI z), x.2.2.2 ++ [z]) else (b, 2 * x.2.1 + 2, upd (grF x.2.2.1 x.2.1) x.2.2.2.length (nI z), x.2.2.2 ++ [z])
theorem sb_len {a b : Nat} {ml : Int32} {cap : Nat} {f : Nat → Int32} {P : List Nat} {z : Nat} : sbW ct a b ml cap f (P.length + 1) = sbW ct a b ml cap f (P ++ [z]).length := by rw [List.length_append]; rfl
theorem ctC_app {z : Nat} (hG : gOK G) (hgc : gHasC G g) (hT : tOK T) (hn : S.2.2.2.1.2.2.2.length ≤ S.2.2.2.1.2.1) (hc9 : S.2.2.2.1.2.1 < 100000) (hfB : fBy S.2.2.2.1.2.2.1 S.2.2.2.1.2.1) (hz : z < 128) : mCq l D ct G g fx tl yJ7_append (ws_ yJ7_append cJ7_append 2 (some (.object "java/lang/StringBuilder"))) 5 112 [.ref (fx 6), .int (nI z)] S T false (apC S.2.2.2.1.2.2.2.length S.2.2.2.1.2.1) (apS S.2.2.2.1.2.2.2.length S.2.2.2.1.2.1) (fun r S' T' => r = some (fx 6) ∧ ∃ b, S' = cPad S (apP S.2.2.2.1 b z) S.2.2.2.2.2) := by
  by_cases h : S.2.2.2.1.2.2.2.length < S.2.2.2.1.2.1
  · have e1 : apC S.2.2.2.1.2.2.2.length S.2.2.2.1.2.1 = 0 := if_pos h
    have e2 : apS S.2.2.2.1.2.2.2.length S.2.2.2.1.2.1 = 0 := if_pos h
    have e3 : ∀ b, apP S.2.2.2.1 b z = (S.2.2.2.1.1, S.2.2.2.1.2.1, upd S.2.2.2.1.2.2.1 S.2.2.2.1.2.2.2.length (nI z), S.2.2.2.1.2.2.2 ++ [z]) := fun b => if_pos h
    rw [e1, e2]
    refine met_lift_q (w2 := []) hG (fun _ _ _ h => h) (pm0 (CW_pad ct g.2.1 fx S T tl)) (ctJ7_append_r (tl := pR ct g.2.1 fx S T tl) hG hgc h (by omega) hz) (fun r u hr => ⟨(cPad S (apP S.2.2.2.1 0 z) S.2.2.2.2.2, T), ⟨⟨hr, 0, rfl⟩, extB.rf hT⟩, [], ?_⟩)
    rw [e3 0, sb_len (z := z)]
    exact pm1 (CW_pad ct g.2.1 fx (cPad S (S.2.2.2.1.1, S.2.2.2.1.2.1, upd S.2.2.2.1.2.2.1 S.2.2.2.1.2.2.2.length (nI z), S.2.2.2.1.2.2.2 ++ [z]) S.2.2.2.2.2) T tl)
  · have e1 : apC S.2.2.2.1.2.2.2.length S.2.2.2.1.2.1 = 1 := if_neg h
    have e2 : apS S.2.2.2.1.2.2.2.length S.2.2.2.1.2.1 = 2 * S.2.2.2.1.2.1 + 2 := if_neg h
    have e3 : ∀ b, apP S.2.2.2.1 b z = (b, 2 * S.2.2.2.1.2.1 + 2, upd (grF S.2.2.2.1.2.2.1 S.2.2.2.1.2.1) S.2.2.2.1.2.2.2.length (nI z), S.2.2.2.1.2.2.2 ++ [z]) := fun b => if_neg h
    rw [e1, e2]
    refine met_lift_q (w2 := []) hG (fun _ _ _ h => h) (pm0 (CW_pad ct g.2.1 fx S T tl)) (ctJ7_append_g (tl := pR ct g.2.1 fx S T tl) hG hgc (by omega) hc9 hfB hz) (fun r u hr => ⟨(cPad S (apP S.2.2.2.1 u z) S.2.2.2.2.2, T), ⟨⟨hr, u, rfl⟩, extB.rf hT⟩, [], ?_⟩)
    rw [e3 u, sb_len (z := z)]
    exact pm1 (CW_pad ct g.2.1 fx (cPad S (u, 2 * S.2.2.2.1.2.1 + 2, upd (grF S.2.2.2.1.2.2.1 S.2.2.2.1.2.1) S.2.2.2.1.2.2.2.length (nI z), S.2.2.2.1.2.2.2 ++ [z]) S.2.2.2.2.2) T tl)
theorem CW_past (ct : Nat → ClassId) (e0 : Nat) (fx : Nat → Nat) (S : CS) (T : TB) (tl : va_W) : (CW ct e0 fx S T tl).Perm (lWo ct e0 (fx 4) S.2.1.1 S.2.2.2.2.1 10 (pastE S) ++ (cP ct fx S T ++ cG ct S T tl)) := by
  unfold CW cR
  exact List.perm_append_comm_assoc _ _ _
theorem ctC_size (hG : gOK G) (hT : tOK T) (h0 : S.2.1.1 = none → S.2.1.2 = []) : mCi l D ct G g fx tl yJ2_size (ws_ yJ2_size cJ2_size 1 (some .int)) 0 0 [.ref (fx 4)] S T false 0 0 (fun r S' => r = nI S.2.1.2.length ∧ S' = S) := by
  have hp := CW_past ct g.2.1 fx S T tl
  cases ho : S.2.1.1 with
  | none =>
    rw [ho] at hp
    have e := h0 ho
    refine met_lift_i (w2 := []) hG (fun _ _ _ h => h) (pm0 hp) (ctJ2_size (tl := cP ct fx S T ++ cG ct S T tl) hG) (fun r u h => ⟨(S, T), ⟨⟨h.trans (by rw [e]; rfl), rfl⟩, extB.rf hT⟩, [], pm1 hp⟩)
  | some b =>
    rw [ho] at hp
    refine met_lift_i (w2 := []) hG (fun _ _ _ h => h) (pm0 hp) (ctJ2_size (tl := (b, .inl (ct 3, 10, .inr (.inr (.inr (.inr (lsF (pastE S))))))) :: (cP ct fx S T ++ cG ct S T tl)) hG) (fun r u h => ⟨(S, T), ⟨⟨h.trans (by unfold pastE; rw [List.length_map]), rfl⟩, extB.rf hT⟩, [], pm1 hp⟩)
end
