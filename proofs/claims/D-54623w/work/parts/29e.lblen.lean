/-! fewer legal boards than places for them -/
def clsB (mv : Nat) (A B : List Nat) : List Bd := A.flatMap fun f => B.map fun s => (f, s, mv)
theorem clsB_len (mv : Nat) (A B : List Nat) : (clsB mv A B).length = A.length * B.length := by
  unfold clsB
  induction A with
  | nil => simp
  | cons a A ih => rw [List.flatMap_cons, List.length_append, ih, List.length_map, List.length_cons, Nat.add_mul, Nat.one_mul, Nat.add_comm]
theorem clsB_mem {mv f s : Nat} {A B : List Nat} (hf : f ∈ A) (hs : s ∈ B) : (f, s, mv) ∈ clsB mv A B := List.mem_flatMap.mpr ⟨f, hf, List.mem_map.mpr ⟨s, hs, rfl⟩⟩
def allB : List Bd := clsB 0 msk0 msk0 ++ (clsB 0 msk1 msk1 ++ (clsB 0 msk2 msk2 ++ (clsB 1 msk1 msk0 ++ (clsB 1 msk2 msk1 ++ (clsB 1 msk3 msk2 ++ (clsB 0 msk3 msk3 ++ clsB 1 msk3 msk3))))))
theorem allB_len : allB.length = 18847 := by
  unfold allB
  simp only [List.length_append, clsB_len]
  decide +kernel
theorem LB_all {d : Nat} {b : Bd} (h : b ∈ LB d) : b ∈ allB := by
  obtain ⟨hb, hl⟩ := LB_mem.mp h
  obtain ⟨f, s, mv⟩ := b
  have hf : f < 512 := hb.1
  have hs : s < 512 := hb.2.1
  have hm : mv < 2 := hb.2.2.2
  obtain ⟨f0, f1, f2, f3⟩ := msk_mem f hf
  obtain ⟨s0, s1, s2, s3⟩ := msk_mem s hs
  have hl : legal d f s mv = true := hl
  unfold legal at hl
  simp only [Bool.and_eq_true, Bool.or_eq_true, decide_eq_true_eq] at hl
  unfold allB
  simp only [List.mem_append]
  rcases hl.1 with (⟨h1, h2, rfl⟩ | ⟨h1, h2, rfl⟩) | ⟨h1, h2⟩
  · rcases (show cnt f = 0 ∨ cnt f = 1 ∨ cnt f = 2 by omega) with e | e | e
    · exact Or.inl (clsB_mem (f0 e) (s0 (by omega)))
    · exact Or.inr (Or.inl (clsB_mem (f1 e) (s1 (by omega))))
    · exact Or.inr (Or.inr (Or.inl (clsB_mem (f2 e) (s2 (by omega)))))
  · rcases (show cnt f = 1 ∨ cnt f = 2 ∨ cnt f = 3 by omega) with e | e | e
    · exact Or.inr (Or.inr (Or.inr (Or.inl (clsB_mem (f1 e) (s0 (by omega))))))
    · exact Or.inr (Or.inr (Or.inr (Or.inr (Or.inl (clsB_mem (f2 e) (s1 (by omega)))))))
    · exact Or.inr (Or.inr (Or.inr (Or.inr (Or.inr (Or.inl (clsB_mem (f3 e) (s2 (by omega))))))))
  · rcases (show mv = 0 ∨ mv = 1 by omega) with rfl | rfl
    · exact Or.inr (Or.inr (Or.inr (Or.inr (Or.inr (Or.inr (Or.inl (clsB_mem (f3 h1) (s3 h2))))))))
    · exact Or.inr (Or.inr (Or.inr (Or.inr (Or.inr (Or.inr (Or.inr (clsB_mem (f3 h1) (s3 h2))))))))
theorem LB_len (d : Nat) : (LB d).length ≤ 18847 := by
  rw [← allB_len]
  exact (LB_nodup d).length_le_of_subset (fun _ h => LB_all h)
