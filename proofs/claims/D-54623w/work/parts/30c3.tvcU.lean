theorem vcX5_findLegal (st : MS) (hp : pX5_findLegal st) : wX5_findLegal_0 (qX5_findLegal st) st := by
  obtain ⟨hc, ⟨d, l, hr⟩, hz⟩ := hp
  have h0 : lstT [] st := ⟨hz, fun k b h => by simp at h⟩
  unfold wX5_findLegal_0 wX5_findLegal_2
  refine wloop_up 512 (fun f (v : Int32 × MS) => f ≤ 512 ∧ v = (nI f, addA d l f st)) 0 ⟨Nat.zero_le _, rfl⟩ ?_
  rintro f v L ⟨hf, rfl⟩ hL
  refine ⟨fun h => ?_, fun h => ?_⟩
  · have := nl_of (show nI 511 < nI f from h) (by omega) (by omega)
    have e : f = 512 := by omega
    subst e
    intro d' l' hr'
    obtain ⟨rfl, rfl⟩ := rOK_inj hr hr'
    dsimp only
  · have hf5 := nge_of (show ¬ nI 511 < nI f from h) (by omega) (by omega)
    have hlA := addA_lst (d := d) (l := l) h0 f hf
    have hfA := addA_frm d l f st
    unfold wX5_findLegal_9 wX5_findLegal_11
    have hend : ∀ s', s' = addR d l f 512 (addA d l f st) → L (nI f + 1, s') := fun s' e => hL _ (by omega) ⟨by omega, by rw [e, nI_up]; rfl⟩
    refine wloop_up 512 (fun s (v : Int32 × Int32 × MS) => s ≤ 512 ∧ v = (nI f, nI s, addR d l f s (addA d l f st))) 0 ⟨Nat.zero_le _, rfl⟩ ?_
    rintro s v L2 ⟨hs, rfl⟩ hL2
    refine ⟨fun h2 => ?_, fun h2 => ?_⟩
    · have := nl_of (show nI 511 < nI s from h2) (by omega) (by omega)
      have e : s = 512 := by omega
      subst e
      exact hend _ rfl
    · have hs5 := nge_of (show ¬ nI 511 < nI s from h2) (by omega) (by omega)
      intro r1 hr1
      have hr1 := hr1 f (by omega) rfl
      subst hr1
      have c9 := cnt_le f
      refine ⟨fun h3 => ?_, fun h3 => ?_⟩
      · have h4 := nl_of (show nI 3 < nI (cnt f) from h3) (by omega) (by omega)
        exact hend _ (by rw [addR_idle h4, addR_idle h4])
      · have hlR := addR_lst (d := d) (l := l) (f := f) (by omega) hlA s hs
        have hfR := hfA.trans (addR_frm d l f s (addA d l f st))
        have hlen := LB_part (d := d) (show f < 512 by omega) hs
        generalize hu : addR d l f s (addA d l f st) = u at hlR hfR
        have hru := rOK_frm hfR hr
        have hcu := cOK_frm hfR hc
        show wX5_findLegal_26 _ _ (nI f) (nI s) u
        refine ⟨⟨hcu, ⟨d, l, hru⟩, ⟨_, by omega, hlR.1⟩, (f, s, 0), (by show f < 512; omega), (by show s < 512; omega), (by show 0 < 2; decide), rfl, rfl, rfl⟩, fun st1 h4 => ?_⟩
        have h4 := h4 d l (f, s, 0) hru ⟨(by show f < 512; omega), (by show s < 512; omega), (by show 0 < 2; decide), rfl, rfl, rfl⟩
        subst h4
        have hf1 := addT_frm d l (f, s, 0) u
        have hl1 := addT_lst (d := d) (l := l) (b := (f, s, 0)) hlR (by omega)
        have hlen1 : (LBa d f ++ LBr d f s ++ if isLg d (f, s, 0) = true then [(f, s, 0)] else []).length < 19683 := by
          rw [List.length_append]
          split <;> simp only [List.length_cons, List.length_nil] <;> omega
        refine ⟨⟨cOK_frm hf1 hcu, ⟨d, l, rOK_frm hf1 hru⟩, ⟨_, hlen1, hl1.1⟩, (f, s, 1), (by show f < 512; omega), (by show s < 512; omega), (by show 1 < 2; decide), rfl, rfl, rfl⟩, fun st2 h5 => ?_⟩
        have h5 := h5 d l (f, s, 1) (rOK_frm hf1 hru) ⟨(by show f < 512; omega), (by show s < 512; omega), (by show 1 < 2; decide), rfl, rfl, rfl⟩
        subst h5
        refine hL2 _ (by omega) ⟨by omega, ?_⟩
        rw [addR, hu, ← nI_up]; rfl
