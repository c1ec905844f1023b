/-! THE LEGAL BOARDS IN THE ORDER IN WHICH THE CLASS FINDS THEM -/
set_option maxRecDepth 100000
def legs (d f s : Nat) : List Bd := if f &&& s = 0 then ((if legal d f s 0 then [(f, s, 0)] else []) ++ (if legal d f s 1 then [(f, s, 1)] else [])) else []
def LB (d : Nat) : List Bd := (List.range 512).flatMap fun f => (List.range 512).flatMap fun s => legs d f s
theorem legs_mem {d f s : Nat} {b : Bd} : b ∈ legs d f s ↔ b.1 = f ∧ b.2.1 = s ∧ f &&& s = 0 ∧ b.2.2 < 2 ∧ legal d f s b.2.2 = true := by
  obtain ⟨f', s', mv⟩ := b
  unfold legs
  by_cases h0 : f &&& s = 0
  · rw [if_pos h0, List.mem_append]
    constructor
    · rintro (h | h)
      · split at h
        · rename_i hl
          rw [List.mem_singleton] at h
          cases h
          exact ⟨rfl, rfl, h0, show 0 < 2 by decide, hl⟩
        · cases h
      · split at h
        · rename_i hl
          rw [List.mem_singleton] at h
          cases h
          exact ⟨rfl, rfl, h0, show 1 < 2 by decide, hl⟩
        · cases h
    · rintro ⟨rfl, rfl, -, hmv, hl⟩
      rcases (show mv = 0 ∨ mv = 1 by have : mv < 2 := hmv; omega) with rfl | rfl
      · left
        have hl : legal d f' s' 0 = true := hl
        rw [if_pos hl]; simp
      · right
        have hl : legal d f' s' 1 = true := hl
        rw [if_pos hl]; simp
  · rw [if_neg h0]
    constructor
    · intro h; cases h
    · rintro ⟨-, -, h, -⟩
      exact absurd h h0
theorem LB_mem {d : Nat} {b : Bd} : b ∈ LB d ↔ bokB b ∧ legB d b = true := by
  unfold LB
  simp only [List.mem_flatMap, List.mem_range, legs_mem]
  constructor
  · rintro ⟨f, hf, s, hs, rfl, rfl, h0, hmv, hl⟩
    exact ⟨⟨hf, hs, h0, hmv⟩, hl⟩
  · rintro ⟨⟨h1, h2, h3, h4⟩, h5⟩
    exact ⟨b.1, h1, b.2.1, h2, rfl, rfl, h3, h4, h5⟩
theorem LB_nodup (d : Nat) : (LB d).Nodup := by
  unfold LB List.Nodup
  rw [List.pairwise_flatMap]
  constructor
  · intro f _
    rw [List.pairwise_flatMap]
    constructor
    · intro s _
      unfold legs
      split
      · split <;> split <;> simp
      · exact List.Pairwise.nil
    · refine List.pairwise_lt_range.imp ?_
      intro s s' h x hx y hy e
      subst e
      have h1 := (legs_mem.mp hx).2.1
      have h2 := (legs_mem.mp hy).2.1
      omega
  · refine List.pairwise_lt_range.imp ?_
    intro f f' h x hx y hy e
    subst e
    obtain ⟨s, _, hs⟩ := List.mem_flatMap.mp hx
    obtain ⟨s', _, hs'⟩ := List.mem_flatMap.mp hy
    have h1 := (legs_mem.mp hs).1
    have h2 := (legs_mem.mp hs').1
    omega
theorem cod_perm (d : Nat) : ((List.range 39366).filter (fun c => legB d (bOf c))).Perm ((LB d).map codB) := by
  rw [List.perm_ext_iff_of_nodup]
  · intro c
    rw [List.mem_filter, List.mem_range, List.mem_map]
    constructor
    · rintro ⟨h1, h2⟩
      have hb := bOf_ok h1
      exact ⟨bOf c, LB_mem.mpr ⟨hb.1, h2⟩, hb.2⟩
    · rintro ⟨b, hb, rfl⟩
      obtain ⟨h1, h2⟩ := LB_mem.mp hb
      exact ⟨codB_lt h1, by rw [bOf_cod h1]; exact h2⟩
  · exact List.Pairwise.filter _ List.nodup_range
  · unfold List.Nodup
    rw [List.pairwise_map]
    refine (LB_nodup d).imp_of_mem ?_
    intro a b ha hb hne e
    obtain ⟨i1, i2, i3⟩ := cod_inj (LB_mem.mp ha).1 (LB_mem.mp hb).1 e
    exact hne (Prod.ext i1 (Prod.ext i2 i3))
theorem tal_LB (d l : Nat) (P : Int → Bool) : talC d l P 39366 = (LB d).countP (fun b => P (wrb d l b)) := by
  have h1 : talC d l P 39366 = ((List.range 39366).filter (fun c => legB d (bOf c))).countP (fun c => P (wrb d l (bOf c))) := by
    unfold talC
    rw [List.countP_filter]
    congr 1
    funext c
    exact Bool.and_comm _ _
  rw [h1, (cod_perm d).countP_eq, List.countP_map]
  apply List.countP_congr
  intro b hb
  show P (wrb d l (bOf (codB b))) = true ↔ _
  rw [bOf_cod (LB_mem.mp hb).1]
