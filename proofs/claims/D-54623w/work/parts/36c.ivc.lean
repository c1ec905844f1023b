/-! Table.<init> -/
theorem vcX5_init {a : Nat} (ad : Nat → Nat) (x1 x2 : Int32) (st : MS) (h0 : ad 0 = a) (hp : pX4_init x1 x2) (hq : qX4_init x1 x2 st) : wX5_init_34 ad (fun u : (Nat → Nat) × MS => u.1 0 = a ∧ qX5_init x1 x2 u.2) (1 : Int32) (tst0 st) 4 59570 := by
  obtain ⟨d, l, hd, hl, rfl, rfl⟩ := hp
  have hr := hq d l hd hl rfl rfl
  have fin : ∀ st1 : MS, tabF d l st1 → ad 0 = a ∧ qX5_init (nI d) (nI l) st1 := by
    intro st1 h
    refine ⟨h0, ?_⟩
    intro d' l' hd' hl' e1 e2
    have := nI_inj e1 (by omega) (by omega)
    subst this
    have := nI_inj e2 (by omega) (by omega)
    subst this
    exact h
  have hlen := LB_len d
  unfold wX5_init_34
  refine wloop_up 512 (fun k (v : Int32 × MS × Nat × Nat) => 1 ≤ k ∧ k ≤ 512 ∧ ∃ st1 : MS, v = (nI k, st1, 4, 59570) ∧ st1.2 = (tst0 st).2 ∧ st1.1 0 = st.1 0 ∧ ∀ m, m < k → st1.1 1 m = nI (trn m 0 9)) 1 ⟨Nat.le_refl _, by omega, tst0 st, rfl, rfl, rfl, fun m hm => by
    have : m = 0 := by omega
    subst this
    rfl⟩ ?_
  rintro k v L ⟨hk1, hk, st1, rfl, hf, hs0, hc⟩ hL
  refine ⟨fun h => ?_, fun h => ?_⟩
  · have := nl_of (show nI 511 < nI k from h) (by omega) (by omega)
    have e : k = 512 := by omega
    subst e
    have hr1 : rOK d l st1 := by
      obtain ⟨r1, r2, r3, r4, r5⟩ := hr
      refine ⟨r1, r2, ?_, ?_, fun p hp => by rw [hs0]; exact r5 p hp⟩
      · rw [hf]; exact r3
      · rw [hf]; exact r4
    have hz : st1.2 2 = 0 := by rw [hf]; rfl
    refine ⟨⟨hc, ⟨d, l, hr1⟩, hz⟩, ⟨by show 4 ≤ 15; omega, by show 59570 ≤ 266887; omega⟩, fun st2 h2 => ?_⟩
    have h2 := h2 d l hr1
    have hF := addA_frm d l 512 st1
    have hls := addA_lst (d := d) (l := l) (st := st1) ⟨hz, fun k b h => by simp at h⟩ 512 (Nat.le_refl _)
    have hwl := addA_w (d := d) (l := l) (st := st1) 512 (Nat.le_refl _)
    rw [LBa_512] at hls hwl
    rw [← h2] at hF hls hwl
    have hr2 := rOK_frm hF hr1
    have hc2 := cOK_frm hF hc
    have ht1 : tabAt d l 1 st2 := ⟨hr2, hc2, hls, fun b hb => by
      rw [(hwl b hb).2]
      exact clp_first hd hl (LB_mem.mp hb).1 (LB_mem.mp hb).2⟩
    unfold wX5_init_76
    refine wloop_by (fun (v : Int32 × Int32 × MS × Nat × Nat) => ∃ (c n : Nat) (u : MS), v = (nI c, nI n, u, 4 + (n - 1), 59570 + (n - 1) * (LB d).length) ∧ 1 ≤ n ∧ n ≤ 12 ∧ c ≤ 18847 ∧ tabAt d l n u ∧ (c = 0 → 2 ≤ n ∧ ¬ atL d l ((n : Int) - 1)) ∧ (¬ c = 0 → n ≤ 11)) (fun v => 12 - (v.2.1).toNatClampNeg) ⟨1, 1, st2, (by rw [Nat.sub_self, Nat.zero_mul]; rfl), by omega, by omega, by omega, ht1, fun z => absurd z (by omega), fun _ => by omega⟩ ?_
    rintro v L2 ⟨c, n, u, rfl, hn1, hn2, hcl, ht, hz0, hz1⟩ hL2
    have hmul : (n - 1) * (LB d).length ≤ 11 * 18847 := Nat.mul_le_mul (by omega) hlen
    refine ⟨fun h3 => ?_, fun h3 => ?_⟩
    · have h3 : nI c ≤ nI 0 := h3
      have h4 := nle_of h3 (by omega) (by omega)
      obtain ⟨h5, h6⟩ := hz0 (by omega)
      refine ⟨fin u ⟨ht.1, ht.2.1, ht.2.2.1, fun b hb => ?_⟩, ?_, ?_⟩
      · rw [ht.2.2.2 b hb]
        have h7 := clp_done hd hl (n := (n : Int) - 1) (by omega) h6 (LB_mem.mp hb).1 (LB_mem.mp hb).2
        by_cases hw : wrb d l b = 0
        · rw [hw]
          rw [clp_n (fun z => z.1 rfl)]
        · rw [clp_up (n := (n : Int) - 1) (by rw [h7]; exact hw), h7]
      · show 4 + (n - 1) ≤ 15; omega
      · show 59570 + (n - 1) * (LB d).length ≤ 266887; omega
    · have h3 : ¬ nI c ≤ nI 0 := h3
      have hcz : ¬ c = 0 := fun z => h3 (by rw [z]; exact Int32.le_refl _)
      have hn3 := hz1 hcz
      have hmul2 : n * (LB d).length ≤ 11 * 18847 := Nat.mul_le_mul hn3 hlen
      have hsp : n * (LB d).length = (n - 1) * (LB d).length + (LB d).length := by
        have hne : n = n - 1 + 1 := by omega
        rw [hne, Nat.add_mul, Nat.one_mul]; rfl
      refine ⟨⟨d, l, n, hn1, by omega, rfl, ht⟩, (LB d).length, ⟨ht.2.2.1.1, by omega⟩, ⟨?_, ?_⟩, fun r u1 h8 => ?_⟩
      · show 4 + (n - 1) + 1 ≤ 15; omega
      · show 59570 + (n - 1) * (LB d).length + (LB d).length ≤ 266887; omega
      · obtain ⟨ht2, c2, rfl, hc2l, hc2z⟩ := h8 d l n hn1 (by omega) rfl ht
        refine hL2 _ ⟨c2, n + 1, u1, ?_, by omega, by omega, hc2l, ht2, fun z => ⟨by omega, ?_⟩, fun z => ?_⟩ ?_
        · show (nI c2, nI n + 1, u1, 4 + (n - 1) + 1, 59570 + (n - 1) * (LB d).length + (LB d).length) = _
          rw [nI_up, Nat.add_assoc 59570, ← hsp, show 4 + (n - 1) + 1 = 4 + (n + 1 - 1) from by omega, show n + 1 - 1 = n from by omega]
        · rw [show ((n + 1 : Nat) : Int) - 1 = (n : Int) from by omega]
          exact hc2z.mp z
        · have hat : atL d l n := by
            apply Classical.byContradiction
            intro y
            exact z (hc2z.mpr y)
          obtain ⟨b, hb, hg, hw0, hv⟩ := hat
          have := (lev_nn hd hl hb hg hw0).2.1
          omega
        · show 12 - (nI n + 1).toNatClampNeg < 12 - (nI n).toNatClampNeg
          rw [nI_up, nI_clamp (by omega), nI_clamp (by omega)]
          omega
  · have hk5 := nge_of (show ¬ nI 511 < nI k from h) (by omega) (by omega)
    have hcl : (nI k).toNatClampNeg = k := nI_clamp (by omega)
    have hsh : nI k >>> ((1 : Int32) &&& 31) = nI (k / 2) := by rw [pk_shrN (by omega) _ 1 (by decide)]
    have hcl2 : (nI (k / 2)).toNatClampNeg = k / 2 := nI_clamp (by omega)
    have hand : nI k &&& (1 : Int32) = nI (k % 2) := by
      show nI k &&& nI 1 = _
      rw [nI_and5 (by omega) (by decide), show (1 : Nat) = 2 ^ 1 - 1 from rfl, Nat.and_two_pow_sub_one_eq_mod]
    unfold wX5_init_41
    refine ⟨by show vp_in (nI k >>> ((1 : Int32) &&& 31)) 512; rw [hsh]; exact vin (by omega), vin (by omega), ?_⟩
    refine hL _ (by omega) ⟨by omega, by omega, mA st1 1 k (nI (trn k 0 9)), ?_, hf, hs0, fun m hm => ?_⟩
    · show (nI k + 1, mA st1 1 (nI k).toNatClampNeg (((3 : Int32) * (st1.1 1 ((nI k >>> ((1 : Int32) &&& 31))).toNatClampNeg)) + (nI k &&& (1 : Int32))), 4, 59570) = _
      rw [hsh, hcl, hcl2, hc (k / 2) (by omega), hand, nI_up]
      show (nI (k + 1), mA st1 1 k (nI 3 * nI (trn (k / 2) 0 9) + nI (k % 2)), 4, 59570) = _
      rw [pk_mul, nI_add, ← trn_half k (by omega)]
    · show upd (st1.1 1) k (nI (trn k 0 9)) m = _
      by_cases e : m = k
      · subst e; exact pk_us
      · rw [pk_un e]; exact hc m (by omega)
