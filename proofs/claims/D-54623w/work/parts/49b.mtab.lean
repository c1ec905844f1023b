/-! the table's methods, said over the component's state -/
theorem leg_cnt {d : Nat} {b : Bd} (hg : legB d b = true) : cnt (meB b) ≤ 3 ∧ cnt (otB b) ≤ 3 := by
  unfold legB legal at hg
  simp only [Bool.and_eq_true, Bool.or_eq_true, decide_eq_true_eq] at hg
  unfold meB otB sid
  split <;> split <;> omega
theorem lost_lo {k : Gm} (h : gok k) : loN k.1 k.2.1 (meB (cur k)) (otB (cur k)) = lostG k := by
  have hc := cur_ok h
  have h1 := lo_nil h.1 h.2.1 hc.1 hc.2
  unfold lostG mvC
  rw [Bool.eq_iff_iff, h1]
  exact List.isEmpty_iff.symm
/-- whether an int is a move -/
def isMvX (k : Gm) (x : Int32) : Bool := (mvC k).any (fun q => decide (nI q = x))
theorem mvC_lt {k : Gm} {q : Nat} (h : q ∈ mvC k) : q < 91 := (mem_mvl.mp h).1
theorem isMvX_n {k : Gm} {q : Nat} (hq : q < 91) : isMvX k (nI q) = isMv k.1 k.2.1 (meB (cur k)) (otB (cur k)) q := by
  unfold isMvX
  rw [Bool.eq_iff_iff, List.any_eq_true]
  constructor
  · rintro ⟨r, hr, e⟩
    have := nI_inj (of_decide_eq_true e) (by have := mvC_lt hr; omega) (by omega)
    subst this
    exact (mem_mvl.mp hr).2
  · intro h
    exact ⟨q, mem_mvl.mpr ⟨hq, h⟩, decide_eq_true rfl⟩
theorem isMvX_o {k : Gm} {x : Int32} (h : ¬ ((0 : Int32) ≤ x ∧ x ≤ 90)) : isMvX k x = false := by
  unfold isMvX
  rw [Bool.eq_false_iff]
  intro z
  obtain ⟨r, hr, e⟩ := List.any_eq_true.mp z
  have e := of_decide_eq_true e
  subst e
  have h1 := mvC_lt hr
  refine h ⟨?_, ?_⟩
  · rw [Int32.le_iff_toInt_le, iI_nI, iI_toInt (by omega) (by omega)]
    show (0 : Int) ≤ _
    omega
  · rw [Int32.le_iff_toInt_le, iI_nI, iI_toInt (by omega) (by omega)]
    show _ ≤ (90 : Int)
    omega
theorem in_090 {x : Int32} (h : (0 : Int32) ≤ x ∧ x ≤ 90) : ∃ q, q < 91 ∧ x = nI q := by
  rw [Int32.le_iff_toInt_le, Int32.le_iff_toInt_le] at h
  have h1 : (0 : Int) ≤ x.toInt := h.1
  have h2 : x.toInt ≤ (90 : Int) := h.2
  exact ⟨x.toInt.toNat, by omega, of_nn h1⟩
section
variable {l : Launch} {D : va_G} {ct : Nat → ClassId} {G : gE} {g : GP} {fx : Nat → Nat} {tl : va_W} {S : CS} {T : TB} {x : TX}
theorem mCi.mono {y : MethodName} {wc : List Cond} {f lo : Nat} {av : List Value} {b : Bool} {c s : Nat} {q q' : Int32 → CS → Prop} (hG : gOK G) (hM : mCi l D ct G g fx tl y wc f lo av S T b c s q) (hq : ∀ r S', q r S' → q' r S') : mCi l D ct G g fx tl y wc f lo av S T b c s q' :=
  met_lift_i (w2 := []) hG (fun _ _ _ h => h) (pm0 (List.Perm.refl _)) hM (fun r u h => ⟨u, ⟨hq _ _ h.1, h.2⟩, [], List.Perm.refl _⟩)
theorem tfOf (hS : cInv S) (hT : tOK T) (hx : T (pS S) = some x) : tabF S.1.2.1 S.1.2.2.1 x.2 := by
  have := hT _ x (pS_lt hS) hx
  rwa [(pS_d hS).1, (pS_d hS).2] at this
theorem ctT_hasLost (hG : gOK G) (hgc : gHasC G g) (hS : cInv S) (hT : tOK T) (hx : T (pS S) = some x) : mCi l D ct G g fx tl yX4_hasLost (ws_ yX4_hasLost cX4_hasLost 3 (some .boolean)) 2 44 [.ref (x.1 0), .int (nI (meB (cur S.1.2))), .int (nI (otB (cur S.1.2)))] S T false 0 0 (fun r S' => r = b2 (lostG S.1.2) ∧ S' = S) :=
  have hf := tfOf hS hT hx
  have hc := cur_ok hS.1
  mCi.mono hG (ctC_tab hG hT (pS_lt hS) hx (ctX4_hasLost (l := l) hG hgc.ln _ _ x.2 ⟨_, _, hf.1, _, _, meB_lt hc.1, otB_lt hc.1, rfl, rfl⟩)) (fun r S' h => ⟨(h.1 _ _ _ _ hf.1 (meB_lt hc.1) (otB_lt hc.1) rfl rfl).trans (by rw [lost_lo hS.1]), h.2⟩)
theorem ctT_isMove {y : Int32} (hG : gOK G) (hgc : gHasC G g) (hS : cInv S) (hT : tOK T) (hx : T (pS S) = some x) : mCi l D ct G g fx tl yX4_isMove (ws_ yX4_isMove cX4_isMove 4 (some .boolean)) 3 66 [.ref (x.1 0), .int (nI (meB (cur S.1.2))), .int (nI (otB (cur S.1.2))), .int y] S T false 0 0 (fun r S' => r = b2 (isMvX S.1.2 y) ∧ S' = S) :=
  have hf := tfOf hS hT hx
  have hc := cur_ok hS.1
  mCi.mono hG (ctC_tab hG hT (pS_lt hS) hx (ctX4_isMove (l := l) hG hgc.ln _ _ y x.2 ⟨_, _, hf.1, _, _, meB_lt hc.1, otB_lt hc.1, rfl, rfl⟩)) (fun r S' h => ⟨by
    have h1 := h.1 _ _ _ _ hf.1 (meB_lt hc.1) (otB_lt hc.1) (leg_cnt hc.2).1 rfl rfl
    by_cases hy : (0 : Int32) ≤ y ∧ y ≤ 90
    · obtain ⟨q, hq, e⟩ := in_090 hy
      rw [h1.1 q hq e, e, isMvX_n hq]
    · rw [h1.2 hy, isMvX_o hy]; rfl, h.2⟩)
theorem ctT_worth {b : Bd} {x1 x2 x3 : Int32} (hG : gOK G) (hgc : gHasC G g) (hS : cInv S) (hT : tOK T) (hx : T (pS S) = some x) (hb : b ∈ LB S.1.2.1) (h1 : x1 = nI b.1) (h2 : x2 = nI b.2.1) (h3 : x3 = nI b.2.2) : mCi l D ct G g fx tl yX5_worth (ws_ yX5_worth cX5_worth 4 (some .int)) 1 23 [.ref (x.1 0), .int x1, .int x2, .int x3] S T false 0 0 (fun r S' => r = iI (wrb S.1.2.1 S.1.2.2.1 b) ∧ S' = S) :=
  have hf := tfOf hS hT hx
  have hi : isBd b x1 x2 x3 := ⟨(LB_mem.mp hb).1, h1, h2, h3⟩
  mCi.mono hG (ctC_tab hG hT (pS_lt hS) hx (ctX5_worth (l := l) hG hgc.ln x1 x2 x3 x.2 ⟨hf.2.1, b, hi⟩)) (fun r S' h => ⟨(h.1 b hi).trans (hf.2.2.2 b hb), h.2⟩)
theorem ctT_behind {q : Nat} {x1 x2 x3 x4 : Int32} (hG : gOK G) (hgc : gHasC G g) (hS : cInv S) (hT : tOK T) (hx : T (pS S) = some x) (hq : q ∈ mvC S.1.2) (h1 : x1 = nI (cur S.1.2).1) (h2 : x2 = nI (cur S.1.2).2.1) (h3 : x3 = nI (cur S.1.2).2.2) (h4 : x4 = nI q) : mCi l D ct G g fx tl yX5_behind (ws_ yX5_behind cX5_behind 5 (some .int)) 2 46 [.ref (x.1 0), .int x1, .int x2, .int x3, .int x4] S T false 0 0 (fun r S' => r = iI (wB S.1.2 q) ∧ S' = S) :=
  have hf := tfOf hS hT hx
  have hc := cur_ok hS.1
  have hk := isMv_okm (mem_mvl.mp hq).2
  have hi : isBd (cur S.1.2) x1 x2 x3 := ⟨hc.1, h1, h2, h3⟩
  mCi.mono hG (ctC_tab hG hT (pS_lt hS) hx (ctX5_behind (l := l) hG hgc.ln x1 x2 x3 x4 x.2 ⟨hf.2.1, _, q, hi, hk, h4⟩)) (fun r S' h => ⟨(h.1 _ q hi hk h4).trans (hf.2.2.2 _ (LB_mem.mpr ⟨nxb_bok hc.1 hk, nxb_legal hc.1 hc.2 hq⟩)), h.2⟩)
theorem ctT_next {q : Nat} {y : Int32} (hG : gOK G) (hgc : gHasC G g) (hS : cInv S) (hT : tOK T) (hx : T (pS S) = some x) (hq : q < 9) (h1 : y = nI q) : mCi l D ct G g fx tl yX4_next (ws_ yX4_next cX4_next 2 (some .int)) 0 0 [.ref (x.1 0), .int y] S T false 0 0 (fun r S' => r = nI (nxM S.1.2.1 q) ∧ S' = S) :=
  have hf := tfOf hS hT hx
  mCi.mono hG (ctC_tab hG hT (pS_lt hS) hx (ctX4_next (l := l) hG hgc.ln y x.2 ⟨q, hq, h1⟩)) (fun r S' h => ⟨h.1 _ _ q hf.1 hq h1, h.2⟩)
theorem ctT_isLegal {f s mv : Nat} {x1 x2 x3 : Int32} (hG : gOK G) (hgc : gHasC G g) (hS : cInv S) (hT : tOK T) (hx : T (pS S) = some x) (hf1 : f < 512) (hs1 : s < 512) (hm1 : mv < 2) (h1 : x1 = nI f) (h2 : x2 = nI s) (h3 : x3 = nI mv) : mCi l D ct G g fx tl yX4_isLegal (ws_ yX4_isLegal cX4_isLegal 7 (some .boolean)) 1 23 [.ref (x.1 0), .int x1, .int x2, .int x3] S T false 0 0 (fun r S' => r = b2 (decide (f &&& s = 0) && legal S.1.2.1 f s mv) ∧ S' = S) :=
  have hf := tfOf hS hT hx
  mCi.mono hG (ctC_tab hG hT (pS_lt hS) hx (ctX4_isLegal (l := l) hG hgc.ln x1 x2 x3 x.2 ⟨_, _, hf.1, f, s, mv, hf1, hs1, hm1, h1, h2, h3⟩)) (fun r S' h => ⟨h.1 _ _ f s mv hf.1 hf1 hs1 hm1 h1 h2 h3, h.2⟩)
theorem ctT_worthAt {k : Nat} {b : Bd} {y : Int32} (hG : gOK G) (hgc : gHasC G g) (hS : cInv S) (hT : tOK T) (hx : T (pS S) = some x) (hk : (LB S.1.2.1)[k]? = some b) (h1 : y = nI k) : mCi l D ct G g fx tl yX5_worthAt (ws_ yX5_worthAt cX5_worthAt 2 (some .int)) 2 46 [.ref (x.1 0), .int y] S T false 0 0 (fun r S' => r = iI (wrb S.1.2.1 S.1.2.2.1 b) ∧ S' = S) :=
  have hf := tfOf hS hT hx
  have hb := List.mem_of_getElem? hk
  have hl : k < 19683 := by
    have h2 := LB_len S.1.2.1
    have h3 := (List.getElem?_eq_some_iff.mp hk).1
    omega
  mCi.mono hG (ctC_tab hG hT (pS_lt hS) hx (ctX5_worthAt (l := l) hG hgc.ln y x.2 ⟨hf.2.1, k, b, hl, h1, (LB_mem.mp hb).1, hf.2.2.1.2 k b hk⟩)) (fun r S' h => ⟨(h.1 k b hl h1 (LB_mem.mp hb).1 (hf.2.2.1.2 k b hk)).trans (hf.2.2.2 b hb), h.2⟩)
end
