theorem vcX3_carryOut (S : SS) (st : MS) (h : mOK st S) (hl : S.1.2.2.length ≤ 6000) : wX3_carryOut_0 (fun r st1 => r = (sCarry S).1 ∧ mOK st1 (sCarry S).2) st := by
  obtain ⟨P, hPe⟩ : ∃ P, P = S.2.2.2 := ⟨_, rfl⟩
  have hPad : padOK st P := by rw [hPe]; exact h.2.2.2.2
  have h80 := hPad.1
  unfold wX3_carryOut_0 wX3_carryOut_7 wX3_carryOut_10
  refine ⟨⟨P, hPad⟩, fun r1 st1 h1 => ?_⟩
  obtain ⟨e1, -⟩ := h1.2 P hPad
  subst e1
  have hm1 : mOK st1 S := mOK_frm h1.1 (by simp) (by simp) h
  refine ⟨fun h2 => ?_, fun h2 => ?_⟩
  · have hok := b2_n0.mp h2
    have eS : sCarry S = (nI (doA (rdA P 81 0).2.2 S.1).1, ((doA (rdA P 81 0).2.2 S.1).2, recS S, S.2.2.1, [])) := by
      unfold sCarry
      rw [← hPe, hok]
      rfl
    rw [eS]
    refine ⟨trivial, fun st2 h3 => ?_⟩
    have f0 : frm [] [2] st2 (mF st2 2 (0 : Int32)) := frm_F (frm.refl _ _ _) (by simp)
    -- the end
    have fin : ∀ (c : Nat) (g' : Gm) (s3 : MS), c ≤ 100 → frm [0, 7, 8, 9, 10] [2, 3, 4] st2 s3 → tabs s3 → gst s3 g' → (doA (rdA P 81 0).2.2 S.1) = (c, g') → wX3_carryOut_77 (fun r st1 => r = nI (doA (rdA P 81 0).2.2 S.1).1 ∧ mOK st1 ((doA (rdA P 81 0).2.2 S.1).2, recS S, S.2.2.1, [])) (nI c) s3 := by
      intro c g' s3 hc hf ht hg he
      unfold wX3_carryOut_77
      have f4 : frm [] [1] s3 (mF s3 1 (0 : Int32)) := frm_F (frm.refl _ _ _) (by simp)
      have hp4 : pastOK (mF s3 1 (0 : Int32)) S.2.1 := pastOK_frm f4 (by simp) (by decide) (pastOK_frm hf (by decide) (by decide) (pastOK_frm h3.1 (by decide) (by decide) hm1.2.2.1))
      have hs4 : slotOK (mF s3 1 (0 : Int32)) S.2.2.1 := slotOK_frm f4 (by simp) (by simp) (slotOK_frm hf (by decide) (by decide) (slotOK_frm h3.1 (by decide) (by decide) hm1.2.2.2.1))
      have hb4 : rowOK ((mF s3 1 (0 : Int32)).1 2) S.1 := by
        rw [mF_A, hf.1 2 (by decide)]
        exact mem_row hm1.1 h3
      refine ⟨rec_pre _ hp4, fun r5 s5 h5 => ?_⟩
      obtain ⟨e5, hf5, hp5⟩ := rec_past h5 (nI_pos (by omega)) hp4 hb4
      rw [he]
      refine ⟨e5, gst_frm hf5 (by decide) (gst_frm f4 (by simp) hg), tabs_frm hf5 (by decide) (by decide) (tabs_frm f4 (by simp) (by simp) ht), hp5, slotOK_frm hf5 (by decide) (by decide) hs4, ?_⟩
      refine padOK_frm hf5 (by decide) (by decide) ?_
      exact ⟨Nat.zero_le _, mF_self _ _ _, fun i hi => absurd hi (Nat.not_lt_zero i)⟩
    unfold wX3_carryOut_23
    refine ⟨fun m v => ∃ (go : Bool) (c i : Nat) (g' : Gm) (s3 : MS), v = (nI c, b2 go, s3) ∧ c ≤ i ∧ i ≤ 100 ∧ frm [0, 7, 8, 9, 10] [2, 3, 4] st2 s3 ∧ tabs s3 ∧ gst s3 g' ∧ atOK s3 i ∧ (m = if go then 200 - i else 0) ∧ ((go = false ∧ (doA (rdA P 81 0).2.2 S.1) = (c, g')) ∨ (go = true ∧ P.length ≤ i ∧ (doA (rdA P 81 0).2.2 S.1) = (c, g')) ∨ ∃ n, go = true ∧ i < P.length ∧ g'.2.2.length ≤ 6000 + 9 * i ∧ 81 ≤ n + 1 + i ∧ (rdA P (n + 1) i).1 = true ∧ (doA (rdA P 81 0).2.2 S.1) = (c + (doA (rdA P (n + 1) i).2.2 g').1, (doA (rdA P (n + 1) i).2.2 g').2)), 200, ⟨true, 0, 0, S.1, mF st2 2 (0 : Int32), rfl, Nat.le_refl _, by decide, f0.mono (by simp) (by simp), tabs_frm f0 (by simp) (by simp) (tabs_frm h3.1 (by decide) (by decide) hm1.2.1), gst_frm f0 (by simp) (gst_frm h3.1 (by decide) hm1.1), ⟨mF_self _ _ _, by decide⟩, rfl, ?_⟩, ?_⟩
    · by_cases hlen : 0 < P.length
      · exact Or.inr (Or.inr ⟨80, rfl, hlen, by omega, by decide, hok, by rw [Nat.zero_add]⟩)
      · exfalso
        have : P = [] := List.eq_nil_of_length_eq_zero (by omega)
        rw [this] at hok
        revert hok
        decide
    · rintro m v ⟨go, c, i, g', s3, rfl, hc, hi, hf, ht, hg, ha, hm, hinv⟩
      dsimp only
      unfold wX3_carryOut_23_b wX3_carryOut_27
      have hP3 : padOK s3 P := padOK_frm hf (by decide) (by decide) (padOK_frm h3.1 (by decide) (by decide) (padOK_frm h1.1 (by simp) (by simp) hPad))
      refine ⟨fun h4 => ?_, fun h4 => ?_⟩
      · have hgo := b2_0.mp h4
        rcases hinv with ⟨-, e⟩ | ⟨e0, -, e⟩ | ⟨n, e0, hil, hg6, hn, hr, e⟩
        · exact fin c g' s3 (by omega) hf ht hg e
        · rw [hgo] at e0; cases e0
        · rw [hgo] at e0; cases e0
      · have hgo := b2_n0.mp h4
        rw [hP3.2.1, ha.1]
        refine ⟨fun h5 => ?_, fun h5 => ?_⟩
        · have hil : P.length ≤ i := nle_of h5
          rcases hinv with ⟨e0, e⟩ | ⟨e0, -, e⟩ | ⟨n, e0, hil2, hg6, hn, hr, e⟩
          · rw [hgo] at e0; cases e0
          · exact fin c g' s3 (by omega) hf ht hg e
          · omega
        · have hil : i < P.length := nlt_of h5
          rcases hinv with ⟨e0, e⟩ | ⟨e0, hil2, e⟩ | ⟨n, e0, hil2, hg6, hn, hr, e⟩
          · rw [hgo] at e0; cases e0
          · omega
          have hle := rdO_le P i
          have harg := rdO_arg P i
          unfold wX3_carryOut_38 wX3_carryOut_50 wX3_carryOut_46 wX3_carryOut_51 wX3_carryOut_61 wX3_carryOut_57 wX3_carryOut_62
          refine ⟨⟨⟨P, i, hP3, ha, hi⟩, Or.inr rfl, Or.inr ⟨ht, g', hg, by omega⟩⟩, fun r6 s6 h6 => ?_⟩
          obtain ⟨hf6, h6q⟩ := h6
          obtain ⟨ha6, -, hgood⟩ := h6q P i hP3 ha hi
          have hrd : (rdO P i).1 = true := by
            cases z : (rdO P i).1 with
            | true => rfl
            | false => rw [rdA_step, z] at hr; cases hr
          obtain ⟨ht6, hq6⟩ := (hgood hrd).2 (by decide)
          obtain ⟨er, hg6'⟩ := hq6 g' hg (by omega)
          have hdl := doO_len (rdO P i).2.2 g' harg
          have hff : frm [0, 7, 8, 9, 10] [2, 3, 4] st2 s6 := hf.trans hf6
          -- the next state
          have f7 : frm [0, 7, 8, 9, 10] [2, 3, 4] st2 (mF s6 2 (nI ((rdO P i).2.1 + 1))) := frm_F hff (by simp)
          have hg7 : gst (mF s6 2 (nI ((rdO P i).2.1 + 1))) (doO (rdO P i).2.2 g').2 := hg6'
          have ht7 : tabs (mF s6 2 (nI ((rdO P i).2.1 + 1))) := ht6
          have a7 : atOK (mF s6 2 (nI ((rdO P i).2.1 + 1))) ((rdO P i).2.1 + 1) := atOK_set (by omega)
          -- the list of orders here
          have hlist : ∃ os, (rdA P (n + 1) i).2.2 = (rdO P i).2.2 :: os ∧ ((P.length ≤ (rdO P i).2.1 ∧ os = []) ∨ ((rdO P i).2.1 + 1 ≤ P.length ∧ os = (rdA P n ((rdO P i).2.1 + 1)).2.2 ∧ (rdA P n ((rdO P i).2.1 + 1)).1 = true)) := by
            rw [rdA_step, hrd, if_pos rfl] at hr ⊢
            by_cases hj : (rdO P i).2.1 < P.length
            · rw [if_pos hj] at hr ⊢
              by_cases hsc : chP P (rdO P i).2.1 = 59
              · rw [if_pos hsc] at hr ⊢
                exact ⟨_, rfl, Or.inr ⟨hj, rfl, hr⟩⟩
              · rw [if_neg hsc] at hr
                cases hr
            · rw [if_neg hj]
              exact ⟨_, rfl, Or.inl ⟨by omega, rfl⟩⟩
          obtain ⟨os, hos, hcase⟩ := hlist
          rw [hos] at e
          rw [ha6.1, nI_1]
          have dstep : doA ((rdO P i).2.2 :: os) g' = if (doO (rdO P i).2.2 g').1 < 0 then (0, (doO (rdO P i).2.2 g').2) else ((doA os (doO (rdO P i).2.2 g').2).1 + 1, (doA os (doO (rdO P i).2.2 g').2).2) := rfl
          rw [dstep] at e
          subst er
          refine ⟨fun h8 => ⟨fun _ => ?_, fun h9 => absurd rfl h9⟩, fun h8 => ⟨fun h9 => absurd h9 (by decide), fun _ => ?_⟩⟩
          · -- told an error
            rw [if_pos h8] at e
            refine ⟨0, ?_, false, c, (rdO P i).2.1 + 1, (doO (rdO P i).2.2 g').2, _, ?_, by omega, by omega, f7, ht7, hg7, a7, rfl, Or.inl ⟨rfl, e⟩⟩
            · rw [hm, hgo]; simp; omega
            · rw [show (0 : Int32) = nI 0 from rfl, nI_add, Nat.add_zero]; rfl
          · rw [if_neg h8] at e
            refine ⟨200 - ((rdO P i).2.1 + 1), ?_, true, c + 1, (rdO P i).2.1 + 1, (doO (rdO P i).2.2 g').2, _, ?_, by omega, by omega, f7, ht7, hg7, a7, rfl, ?_⟩
            · rw [hm, hgo]; simp; omega
            · rw [nI_1]; rfl
            · rcases hcase with ⟨hj, rfl⟩ | ⟨hj, hos2, hr2⟩
              · exact Or.inr (Or.inl ⟨rfl, by omega, e⟩)
              · obtain ⟨n', rfl⟩ : ∃ n', n = n' + 1 := by
                  cases n with
                  | zero => cases hr2
                  | succ n' => exact ⟨n', rfl⟩
                by_cases hlast : (rdO P i).2.1 + 1 < P.length
                · refine Or.inr (Or.inr ⟨n', rfl, hlast, by omega, by omega, hr2, ?_⟩)
                  rw [e, hos2]
                  congr 1
                  omega
                · -- a semicolon at the end would not be well
                  exfalso
                  have hend : (rdO P ((rdO P i).2.1 + 1)).1 = false := by
                    have h0 : chP P ((rdO P i).2.1 + 1) = 0 := chP_out (by omega)
                    generalize (rdO P i).2.1 + 1 = z at *
                    unfold rdO
                    rw [h0]
                    rfl
                  rw [rdA_step, hend] at hr2
                  cases hr2
  · have hno := b2_0.mp h2
    have eS : sCarry S = (-3, S) := by
      unfold sCarry
      rw [← hPe, hno]
      rfl
    rw [eS]
    exact ⟨rfl, hm1⟩
