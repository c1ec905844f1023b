noncomputable def sShare (S : SS) : Int32 := fbits (FP.fdiv (FP.i2f (talG 1 S.1.1 S.1.2.1)) (FP.i2f (talG 0 S.1.1 S.1.2.1)))
theorem talC_pos {d l : Nat} (hd : d < 2) : 0 < talC d l (fun _ => true) 39366 := by
  unfold talC
  rw [List.countP_pos_iff]
  refine ⟨codB (0, 0, 0), List.mem_range.mpr (by decide), ?_⟩
  have hb : bokB (0, 0, 0) := ⟨by decide, by decide, by decide, by decide⟩
  rw [bOf_cod hb]
  have : ∀ d, d < 2 → legB d (0, 0, 0) = true := by decide
  rw [this d hd]
  rfl
theorem share_fin {d l : Nat} (hd : d < 2) : vf_n32 (FP.fdiv (FP.i2f (talG 1 d l)) (FP.i2f (talG 0 d l))) := by
  have hp := talC_pos (l := l) hd
  have hle := talC_le d l (fun _ => true) 39366
  have hl1 := talC_le d l (fun w => decide (0 < w)) 39366
  have h0 : talG 0 d l = nI (talC d l (fun _ => true) 39366) := rfl
  have h1 : talG 1 d l = nI (talC d l (fun w => decide (0 < w)) 39366) := rfl
  rw [h0, h1]
  have e0 := nI_toInt (show talC d l (fun _ => true) 39366 < 2147483648 by omega)
  have e1 := nI_toInt (show talC d l (fun w => decide (0 < w)) 39366 < 2147483648 by omega)
  refine fd_fin ?_ ?_
  · rw [e1]; omega
  · rw [e0]; omega
theorem vcX3_share (S : SS) (st : MS) (h : mOK st S) : wX3_share_0 (fun r st1 => r = sShare S ∧ mOK st1 S) st := by
  have hd := h.1.1.1
  unfold wX3_share_0
  refine ⟨⟨h.2.1, _, _, gst_sett h.1⟩, fun r1 st1 h1 => ?_⟩
  obtain ⟨hf1, ht1, hq1⟩ := h1
  have hm1 := mOK_tab hf1 ht1 h
  have e1 := hq1 _ _ (gst_sett h.1)
  subst e1
  refine ⟨⟨hm1.2.1, _, _, gst_sett hm1.1⟩, fun r2 st2 h2 => ?_⟩
  obtain ⟨hf2, ht2, hq2⟩ := h2
  have hm2 := mOK_tab hf2 ht2 hm1
  have e2 := hq2 _ _ (gst_sett hm1.1)
  subst e2
  exact ⟨share_fin hd, fun r3 h3 => ⟨h3, hm2⟩⟩
