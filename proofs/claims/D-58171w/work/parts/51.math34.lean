/-! MATH 34: the best place is the least of the candidates -/
theorem best_min (S : Ls) (gap : Int) (l : Nat) : ∀ j : Nat, ((∀ p, p < j → st_whyL S gap l p ≠ 0) ∧ (st_bestTo S gap l j).1 = -1) ∨ ∃ b : Nat, b < j ∧ st_whyL S gap l b = 0 ∧ st_bestTo S gap l j = ((b : Int), ln_bends (st_ln S l) b, st_free S l b) ∧ ∀ p : Nat, p < j → st_whyL S gap l p = 0 → cd_cmp (b : Int) (ln_bends (st_ln S l) b) (st_free S l b) (p : Int) (ln_bends (st_ln S l) p) (st_free S l p) ≤ 0 := by
  intro j
  induction j with
  | zero => exact Or.inl ⟨fun p hp => absurd hp (Nat.not_lt_zero p), rfl⟩
  | succ j ih =>
    rw [st_bestTo]
    by_cases hw : st_whyL S gap l j = 0
    · rw [if_pos hw]
      rcases ih with ⟨h1, h2⟩ | ⟨b, h1, h2, h3, h4⟩
      · rw [if_pos (Or.inl h2)]
        refine Or.inr ⟨j, by omega, hw, rfl, fun p hp hq => ?_⟩
        by_cases e : p = j
        · rw [e]; unfold cd_cmp; simp
        · exact absurd hq (h1 p (by omega))
      · by_cases hc : (st_bestTo S gap l j).1 = -1 ∨ ln_bends (st_ln S l) j < (st_bestTo S gap l j).2.1 ∨ ln_bends (st_ln S l) j = (st_bestTo S gap l j).2.1 ∧ st_free S l j > (st_bestTo S gap l j).2.2
        · rw [if_pos hc]
          refine Or.inr ⟨j, by omega, hw, rfl, fun p hp hq => ?_⟩
          by_cases e : p = j
          · rw [e]; unfold cd_cmp; simp
          · have h5 := h4 p (by omega) hq
            rw [h3] at hc
            dsimp only at hc
            unfold cd_cmp at *
            split at h5 <;> split <;> (try split at h5) <;> (try split) <;> omega
        · rw [if_neg hc]
          refine Or.inr ⟨b, by omega, h2, h3, fun p hp hq => ?_⟩
          by_cases e : p = j
          · rw [e]
            rw [h3] at hc
            dsimp only at hc
            unfold cd_cmp
            split <;> (try split) <;> omega
          · exact h4 p (by omega) hq
    · rw [if_neg hw]
      rcases ih with ⟨h1, h2⟩ | ⟨b, h1, h2, h3, h4⟩
      · refine Or.inl ⟨fun p hp => ?_, h2⟩
        by_cases e : p = j
        · rw [e]; exact hw
        · exact h1 p (by omega)
      · refine Or.inr ⟨b, by omega, h2, h3, fun p hp hq => ?_⟩
        by_cases e : p = j
        · rw [e] at hq; exact absurd hq hw
        · exact h4 p (by omega) hq
/-- the least candidate is the best place -/
theorem best_of_least {S : Ls} {gap : Int} {l r : Nat} (hr : r < ln_n (st_ln S l) + 1) (hw : st_whyL S gap l r = 0) (hm : ∀ p : Nat, p < ln_n (st_ln S l) + 1 → st_whyL S gap l p = 0 → cd_cmp (r : Int) (ln_bends (st_ln S l) r) (st_free S l r) (p : Int) (ln_bends (st_ln S l) p) (st_free S l p) ≤ 0) : st_best S gap l = (r : Int) := by
  unfold st_best
  rcases best_min S gap l (ln_n (st_ln S l) + 1) with ⟨h1, h2⟩ | ⟨b, h1, h2, h3, h4⟩
  · exact absurd hw (h1 r hr)
  · rw [h3]
    have a1 := hm b h1 h2
    have a2 := h4 r hr hw
    unfold cd_cmp at a1 a2
    show (b : Int) = (r : Int)
    split at a1 <;> split at a2 <;> (try split at a1) <;> (try split at a2) <;> omega
theorem best_none {S : Ls} {gap : Int} {l : Nat} (h : ∀ p : Nat, p < ln_n (st_ln S l) + 1 → st_whyL S gap l p ≠ 0) : st_best S gap l = -1 := by
  unfold st_best
  rcases best_min S gap l (ln_n (st_ln S l) + 1) with ⟨h1, h2⟩ | ⟨b, h1, h2, h3, h4⟩
  · exact h2
  · exact absurd h2 (h b h1)

