/-! MORRISTABLES: moves: what they leave, what they cost -/
def mvCl (res : Int32 × Gm) (ch : Int32) (S : CS) : Nat := if res.1 < 0 then 0 else bgC 0 ch S + 1
def mvSl (res : Int32 × Gm) (ch : Int32) (S : CS) : Nat := if res.1 < 0 then 0 else bgS 0 ch S + (S.1.2.2.2.length + 1)
/-- from S to S': now is k; recorded if ch -/
def stT (ch : Int32) (S S' : CS) (k : Gm) : Prop := S'.1.2 = k ∧ ((ch ≠ 0 ∧ ∃ (u : Nat → Nat) (b : Nat) (mo : Int32), S'.2 = (recX S u b mo).2) ∨ (ch = 0 ∧ S'.2 = S.2))
def mvPo (res : Int32 × Gm) (ch : Int32) (S : CS) (r : Int32) (S' : CS) : Prop := r = res.1 ∧ (res.1 < 0 → S' = S) ∧ (¬ res.1 < 0 → stT ch S S' res.2)
def plB (x : Int32) : Bool := decide (1 ≤ x.toInt ∧ x.toInt ≤ 60)
def triS : Nat → Nat → Nat
  | _, 0 => 0
  | n, m + 1 => (n + 1) + triS (n + 1) m
def plCl (x ch : Int32) (S : CS) : Nat := if (playsG x S.1.2).1 < 0 then 0 else bgC 0 ch S + (playN x.toInt.toNat S.1.2).1
def plSl (x ch : Int32) (S : CS) : Nat := if (playsG x S.1.2).1 < 0 then 0 else bgS 0 ch S + triS S.1.2.2.2.length (playN x.toInt.toNat S.1.2).1
section
variable {l : Launch} {D : va_G} {ct : Nat → ClassId} {G : gE} {g : GP} {fx : Nat → Nat} {tl : va_W} {S : CS} {T : TB}
theorem mCv.mono {y : MethodName} {wc : List Cond} {f lo : Nat} {av : List Value} {b : Bool} {c s : Nat} {q q' : CS → Prop} (hG : gOK G) (hM : mCv l D ct G g fx tl y wc f lo av S T b c s q) (hq : ∀ S', q S' → q' S') : mCv l D ct G g fx tl y wc f lo av S T b c s q' :=
  met_lift_v (w2 := []) hG (fun _ _ _ h => h) (pm0 (List.Perm.refl _)) hM (fun u h => ⟨u, ⟨hq _ h.1, h.2⟩, [], List.Perm.refl _⟩)
theorem ctC_makeX {x : Int32} (hG : gOK G) (hT : tOK T) (hS : cOk S) (h : ∃ q ∈ mvC S.1.2, x = nI q) : mCv l D ct G g fx tl yX2_make (ws_ yX2_make cX2_make 3 none) 1 32 [.ref (S.1.1 0), .int x] S T false 1 (S.1.2.2.2.length + 1) (fun S' => ∃ u : Nat → Nat, S' = ((u, goG S.1.2 x.toNatClampNeg), S.2)) := by
  obtain ⟨q, hq, rfl⟩ := h
  have h91 := mvC_lt hq
  rw [nI_clamp (by omega)]
  have hc := cur_ok hS.1.1
  exact mCv.mono hG (ctC_make hG hT hc.1 (isMv_okm (mem_mvl.mp hq).2) hS.1.1.2.2.1 hS.2) (fun S' h => ⟨h.choose, h.choose_spec.2⟩)
end
theorem cInv_rec {S : CS} {u : Nat → Nat} {b : Nat} {mo : Int32} (h : cInv S) : cInv (recX S u b mo) := by
  obtain ⟨h1, h2, h3, h4, h5, h6, h7⟩ := h
  refine ⟨h1, fun x hx => ?_, ?_, fun z => (by cases z), h5, h6, h7⟩
  · have hx : x ∈ (if S.2.1.2.length = 6 then S.2.1.2.tail else S.2.1.2) ++ [(u, S.1.2)] := hx
    rcases List.mem_append.mp hx with hx | hx
    · split at hx
      · exact h2 x (List.mem_of_mem_tail hx)
      · exact h2 x hx
    · rw [List.mem_singleton] at hx
      subst hx
      exact h1
  · show ((if S.2.1.2.length = 6 then S.2.1.2.tail else S.2.1.2) ++ [(u, S.1.2)]).length ≤ 6
    rw [List.length_append]
    split
    · rename_i z
      rw [List.length_tail, z]; show 6 - 1 + 1 ≤ 6; decide
    · rename_i z
      show _ + 1 ≤ 6
      omega
theorem cInv_go {S : CS} {u : Nat → Nat} {q : Nat} (h : cInv S) (hq : q ∈ mvC S.1.2) : cInv ((u, goG S.1.2 q), S.2) := by
  obtain ⟨h1, h2, h3, h4, h5, h6, h7⟩ := h
  exact ⟨gok_go h1 hq, h2, h3, h4, h5, h6, h7⟩
theorem bg_ok {S S2 : CS} {ch : Int32} (hS : cOk S) (h : ((0 : Int32) = 0 ∧ ch ≠ 0 ∧ ∃ (u : Nat → Nat) (b : Nat) (mo : Int32), S2 = recX S u b mo) ∨ (¬ ((0 : Int32) = 0 ∧ ch ≠ 0) ∧ S2 = S)) : cOk S2 ∧ S2.1 = S.1 ∧ ∀ v k, stT ch S ((v, k), S2.2) k := by
  rcases h with ⟨_, hc, u, b, mo, rfl⟩ | ⟨hc, rfl⟩
  · exact ⟨⟨cInv_rec hS.1, hS.2⟩, rfl, fun v k => ⟨rfl, Or.inl ⟨hc, u, b, mo, rfl⟩⟩⟩
  · exact ⟨hS, rfl, fun v k => ⟨rfl, Or.inr ⟨Classical.not_not.mp (fun z => hc ⟨rfl, z⟩), rfl⟩⟩⟩
theorem bg_err {e ch : Int32} {S : CS} (he : e < 0) : bgC e ch S = 0 ∧ bgS e ch S = 0 := by
  have hne : ¬ (e = 0 ∧ ch ≠ 0) := fun z => by rw [z.1] at he; exact absurd he (by decide)
  exact ⟨if_neg hne, if_neg hne⟩
theorem nn_not {n : Nat} (h : n < 1000000) : ¬ nI n < 0 := by
  rw [Int32.lt_iff_toInt_lt, iI_nI, iI_toInt (by omega) (by omega)]
  show ¬ (n : Int) < 0
  omega
theorem mvPo_err {res : Int32 × Gm} {ch e : Int32} {S : CS} (h : res.1 = e) (he : e < 0) : mvPo res ch S e S := ⟨h.symm, fun _ => rfl, fun z => absurd (by rw [h]; exact he) z⟩
