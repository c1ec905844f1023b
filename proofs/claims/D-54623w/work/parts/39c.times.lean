/-! Game.times -/
def pX2_times (k : Gm) : Prop := gok k ∧ k.2.2.length < 1000000
theorem vcX2_times (k : Gm) (hp : pX2_times k) : wX2_times_0 k (fun (x : Int32) (_ : Unit) => x = nI (oftG k)) := by
  obtain ⟨hg, hlen⟩ := hp
  have hc := (cur_ok hg).1
  have hbd : brdI (set2 (cur k).1 (cur k).2.1) (nI (cur k).2.2) = nI (pkB (cur k)) := brd_pk hc rfl rfl rfl
  unfold wX2_times_0 wX2_times_13
  refine wloop_up k.2.2.length (fun j (v : Int32 × Int32 × Int32) => j ≤ k.2.2.length ∧ v = (nI ((k.2.2.take j).countP (fun b => decide (b = cur k))), nI k.2.2.length, nI j)) 0 ⟨Nat.zero_le _, by rw [List.take_zero]; rfl⟩ ?_
  rintro j v L ⟨hj, rfl⟩ hL
  refine ⟨fun h => ?_, fun h => ?_⟩
  · have := nle_of (show nI k.2.2.length ≤ nI j from h) (by omega) (by omega)
    have e : j = k.2.2.length := by omega
    subst e
    show nI ((k.2.2.take k.2.2.length).countP (fun b => decide (b = cur k))) = nI (oftG k)
    rw [List.take_length]; rfl
  · have hlt := nlt_of (show ¬ nI k.2.2.length ≤ nI j from h) (by omega) (by omega)
    have hcl : (nI j).toNatClampNeg = j := nI_clamp (by omega)
    have hge : k.2.2[j]? = some k.2.2[j] := List.getElem?_eq_getElem hlt
    have hb : bdI k.2.2 j = nI (pkB k.2.2[j]) := by
      unfold bdI
      rw [List.getD_eq_getElem?_getD, hge]; rfl
    have hbk := (hg.2.2.2 _ (List.getElem_mem hlt)).1
    have hst : (k.2.2.take (j + 1)).countP (fun b => decide (b = cur k)) = (k.2.2.take j).countP (fun b => decide (b = cur k)) + if k.2.2[j] = cur k then 1 else 0 := by
      rw [List.take_succ, hge, List.countP_append]
      show _ + List.countP _ [k.2.2[j]] = _
      rw [List.countP_cons, List.countP_nil, Nat.zero_add]
      simp only [decide_eq_true_eq]
    refine ⟨vin hlt (by omega), fun r h1 => ?_⟩
    have h1 := h1.trans hbd
    subst h1
    refine ⟨fun h2 => ?_, fun h2 => ?_⟩
    · have h2 : ¬ bdI k.2.2 (nI j).toNatClampNeg = nI (pkB (cur k)) := h2
      rw [hcl, hb] at h2
      refine hL _ hlt ⟨by omega, ?_⟩
      show (nI _ + (0 : Int32), nI k.2.2.length, nI j + 1) = _
      rw [hst, if_neg (fun z => h2 (by rw [z])), Int32.add_zero, nI_up]; rfl
    · have h2 : bdI k.2.2 (nI j).toNatClampNeg = nI (pkB (cur k)) := h2
      rw [hcl, hb] at h2
      refine hL _ hlt ⟨by omega, ?_⟩
      show (nI _ + (1 : Int32), nI k.2.2.length, nI j + 1) = _
      rw [hst, if_pos (pkB_inj hbk hc h2), nI_up, nI_up]
