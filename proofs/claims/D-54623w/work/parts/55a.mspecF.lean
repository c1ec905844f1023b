/-! MORRISTABLES: put: what it leaves, what it costs -/
def agC : Nat → Nat → Nat → Nat
  | _, _, 0 => 0
  | n, cap, m + 1 => apC n cap + agC (n + 1) (if n < cap then cap else 2 * cap + 2) m
def agS : Nat → Nat → Nat → Nat
  | _, _, 0 => 0
  | n, cap, m + 1 => apS n cap + agS (n + 1) (if n < cap then cap else 2 * cap + 2) m
def agK : Nat → Nat → Nat → Nat
  | _, cap, 0 => cap
  | n, cap, m + 1 => agK (n + 1) (if n < cap then cap else 2 * cap + 2) m
def ptM (x : Int64) (S : CS) : Nat := (sPut x (rep S)).2.2.2.2.length - S.2.2.2.1.2.2.2.length
def ptCl (x : Int64) (S : CS) : Nat := agC S.2.2.2.1.2.2.2.length S.2.2.2.1.2.1 (ptM x S)
def ptSl (x : Int64) (S : CS) : Nat := agS S.2.2.2.1.2.2.2.length S.2.2.2.1.2.1 (ptM x S)
def pdS (y : Nat × Nat × (Nat → Int32) × List Nat) : Prop := pdOK y.2.2.2 y.2.2.1 y.2.1 ∧ fBy y.2.2.1 y.2.1
def ptPo (x : Int64) (S : CS) (r : Int32) (S' : CS) : Prop := r = (sPut x (rep S)).1 ∧ ∃ y, S' = cPad S y S.2.2.2.2.2 ∧ y.2.2.2 = (sPut x (rep S)).2.2.2.2 ∧ y.2.1 = agK S.2.2.2.1.2.2.2.length S.2.2.2.1.2.1 (ptM x S) ∧ pdS y
section
variable {l : Launch} {D : va_G} {ct : Nat → ClassId} {G : gE} {g : GP} {fx : Nat → Nat} {tl : va_W} {S : CS} {T : TB}
theorem mCq.mono {y : MethodName} {wc : List Cond} {f lo : Nat} {av : List Value} {b : Bool} {c s : Nat} {q q' : Option Nat → CS → TB → Prop} (hG : gOK G) (hM : mCq l D ct G g fx tl y wc f lo av S T b c s q) (hq : ∀ r S' T', q r S' T' → q' r S' T') : mCq l D ct G g fx tl y wc f lo av S T b c s q' :=
  met_lift_q (w2 := []) hG (fun _ _ _ h => h) (pm0 (List.Perm.refl _)) hM (fun r u h => ⟨u, ⟨hq _ _ _ h.1, h.2⟩, [], List.Perm.refl _⟩)
theorem ctC_appX {x : Int32} (hG : gOK G) (hgc : gHasC G g) (hT : tOK T) (hn : S.2.2.2.1.2.2.2.length ≤ S.2.2.2.1.2.1) (hc9 : S.2.2.2.1.2.1 < 100000) (hfB : fBy S.2.2.2.1.2.2.1 S.2.2.2.1.2.1) (hz : ∃ z, z < 128 ∧ x = nI z) : mCq l D ct G g fx tl yJ7_append (ws_ yJ7_append cJ7_append 2 (some (.object "java/lang/StringBuilder"))) 5 112 [.ref (fx 6), .int x] S T false (apC S.2.2.2.1.2.2.2.length S.2.2.2.1.2.1) (apS S.2.2.2.1.2.2.2.length S.2.2.2.1.2.1) (fun r S' T' => r = some (fx 6) ∧ ∃ b, S' = cPad S (apP S.2.2.2.1 b x.toNatClampNeg) S.2.2.2.2.2) := by
  obtain ⟨z, hz, rfl⟩ := hz
  rw [nI_clamp (by omega)]
  exact ctC_app hG hgc hT hn hc9 hfB hz
end
theorem apP_ok {y : Nat × Nat × (Nat → Int32) × List Nat} {b z : Nat} (h : pdS y) (hl : y.2.2.2.length < 80) (h1 : 33 ≤ z) (h2 : z ≤ 126) : (apP y b z).2.2.2 = y.2.2.2 ++ [z] ∧ (apP y b z).2.1 = (if y.2.2.2.length < y.2.1 then y.2.1 else 2 * y.2.1 + 2) ∧ pdS (apP y b z) := by
  obtain ⟨⟨p1, p2, p3, p4, p5⟩, hf⟩ := h
  unfold apP
  have key : ∀ (f : Nat → Int32), (∀ i, i < y.2.2.2.length → f i = nI (chP y.2.2.2 i)) → ∀ i, i < (y.2.2.2 ++ [z]).length → upd f y.2.2.2.length (nI z) i = nI (chP (y.2.2.2 ++ [z]) i) := by
    intro f hf i hi
    rw [List.length_append] at hi
    have hi : i < y.2.2.2.length + 1 := hi
    by_cases e : i = y.2.2.2.length
    · subst e; rw [pk_us, chP_app2]
    · rw [pk_un e, chP_app1 (by omega)]; exact hf i (by omega)
  have hch : ∀ c ∈ y.2.2.2 ++ [z], 33 ≤ c ∧ c ≤ 126 := by
    intro c hc
    rcases List.mem_append.mp hc with hc | hc
    · exact p5 c hc
    · rw [List.mem_singleton] at hc; subst hc; exact ⟨h1, h2⟩
  have hlen : (y.2.2.2 ++ [z]).length = y.2.2.2.length + 1 := by rw [List.length_append]; rfl
  by_cases hlt : y.2.2.2.length < y.2.1
  · rw [if_pos hlt, if_pos hlt]
    refine ⟨rfl, rfl, ⟨by rw [hlen]; omega, by rw [hlen]; exact hlt, p3, key _ p4, hch⟩, fun i hi => ?_⟩
    by_cases e : i = y.2.2.2.length
    · subst e; show fits .byte (.int (upd _ _ _ _)) = true; rw [pk_us]; exact fit_n (by omega)
    · show fits .byte (.int (upd _ _ _ _)) = true; rw [pk_un e]; exact hf i hi
  · rw [if_neg hlt, if_neg hlt]
    refine ⟨rfl, rfl, ⟨by rw [hlen]; omega, by rw [hlen]; show _ ≤ 2 * y.2.1 + 2; omega, by show 2 * y.2.1 + 2 < 100000; omega, key _ (fun i hi => ?_), hch⟩, fun i hi => ?_⟩
    · unfold grF
      rw [if_pos (by omega)]
      exact p4 i hi
    · by_cases e : i = y.2.2.2.length
      · subst e; show fits .byte (.int (upd _ _ _ _)) = true; rw [pk_us]; exact fit_n (by omega)
      · show fits .byte (.int (upd _ _ _ _)) = true
        rw [pk_un e]
        unfold grF
        split
        · rename_i hi2; exact hf i hi2
        · exact fit_n (z := 0) (by decide)
