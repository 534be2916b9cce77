/-! MATH 27: spreading, what it finds -/
def f_to (i : Int) (d : Int) : Int := if 0 ≤ i % 51 + ac d ∧ i % 51 + ac d < 51 ∧ 0 ≤ i / 51 + dn d ∧ i / 51 + dn d < 35 then 51 * (i / 51 + dn d) + (i % 51 + ac d) else 0
theorem f_to_rng (i d : Int) : 0 ≤ f_to i d ∧ f_to i d < 1785 := by unfold f_to; split <;> omega
/-- a way from a place of the fine map to another that no step bars -/
def f_mv (L : Ln) (i j : Nat) : Prop := ∃ d : Int, (0 ≤ d ∧ d ≤ 7) ∧ f_to i d = (j : Int) ∧ f_bar L ((i : Int) % 51) ((i : Int) / 51) d = false
/-- how many of the first n places are found -/
def f_cnt (g : Nat → Int) : Nat → Nat
  | 0 => 0
  | n + 1 => f_cnt g n + (if g n = 2 then 1 else 0)
theorem f_cnt_le (g : Nat → Int) : ∀ n, f_cnt g n ≤ n := by
  intro n
  induction n with
  | zero => exact Nat.le_refl 0
  | succ n ih => rw [f_cnt]; split <;> omega
theorem f_cnt_up {g : Nat → Int} {j : Nat} (h : g j ≠ 2) : ∀ n, f_cnt (kup g j 2) n = f_cnt g n + (if j < n then 1 else 0) := by
  intro n
  induction n with
  | zero => simp [f_cnt]
  | succ n ih =>
    rw [f_cnt, f_cnt, ih]
    by_cases e : n = j
    · subst e
      rw [kup_self, if_pos rfl, if_neg (by omega), if_neg h, if_pos (by omega)]
    · rw [kup_ne e]
      by_cases e2 : j < n
      · rw [if_pos e2, if_pos (show j < n + 1 by omega)]; split <;> omega
      · rw [if_neg e2, if_neg (show ¬ j < n + 1 by omega)]; split <;> omega
theorem f_cnt_0 {g : Nat → Int} (h : ∀ i, g i ≠ 2) : ∀ n, f_cnt g n = 0 := by
  intro n
  induction n with
  | zero => rfl
  | succ n ih => rw [f_cnt, ih, if_neg (h n)]
theorem f_cnt_lt {g : Nat → Int} {j : Nat} (hg : g j ≠ 2) : ∀ n, j < n → f_cnt g n < n := by
  intro n
  induction n with
  | zero => intro h; omega
  | succ n ih =>
    intro h
    rw [f_cnt]
    by_cases e : j = n
    · subst e
      rw [if_neg hg]
      have := f_cnt_le g j
      omega
    · have := ih (by omega)
      split <;> omega
theorem f_map_01 (L : Ln) : ∀ k i, f_map L k i = 0 ∨ f_map L k i = 1 := by
  intro k
  induction k with
  | zero => intro i; exact Or.inl rfl
  | succ k ih =>
    intro i
    rw [f_map]
    unfold kup
    split
    · exact Or.inr rfl
    · split
      · exact Or.inr rfl
      · exact ih i
/-- the spreading's state: the map, what waits, how many are done, how many wait -/
def FI (L : Ln) (fm g w : Nat → Int) (f t : Nat) : Prop :=
  (∀ i, g i = 2 ∨ g i = fm i) ∧ (f ≤ t ∧ t ≤ 1785) ∧ (∀ k, k < t → 0 ≤ w k ∧ w k < 1785 ∧ g (w k).toNat = 2) ∧ (∀ i, i < 1785 → g i = 2 → ∃ k, k < t ∧ w k = (i : Int)) ∧
  (∀ k, k < f → ∀ d : Int, 0 ≤ d ∧ d ≤ 7 → f_bar L (w k % 51) (w k / 51) d = false → g (f_to (w k) d).toNat ≠ 0) ∧
  (∀ P : Nat → Prop, P 0 → (∀ i j, P i → f_mv L i j → fm j = 0 → P j) → ∀ i, i < 1785 → g i = 2 → P i) ∧ f_cnt g 1785 = t ∧ (∀ i, fm i = 0 ∨ fm i = 1) ∧ g 0 = 2
theorem FI.init (L : Ln) {fm : Nat → Int} (h : ∀ i, fm i = 0 ∨ fm i = 1) : FI L fm (kup fm 0 2) (fun _ => 0) 0 1 := by
  have h2 : ∀ i, fm i ≠ 2 := fun i => by rcases h i with z | z <;> omega
  refine ⟨fun i => ?_, by omega, fun k hk => ⟨Int.le_refl 0, (by decide : (0 : Int) < 1785), by simp [kup]⟩, fun i hi hg => ?_, fun k hk => absurd hk (Nat.not_lt_zero k), fun P h0 hs i hi hg => ?_, ?_, h, kup_self _ _ _⟩
  · unfold kup; split
    · exact Or.inl rfl
    · exact Or.inr rfl
  · by_cases e : i = 0
    · exact ⟨0, by omega, by rw [e]; rfl⟩
    · rw [kup_ne e] at hg; exact absurd hg (h2 i)
  · by_cases e : i = 0
    · rw [e]; exact h0
    · rw [kup_ne e] at hg; exact absurd hg (h2 i)
  · rw [f_cnt_up (h2 0), f_cnt_0 h2, if_pos (by omega)]
theorem FI.push {L : Ln} {fm g w : Nat → Int} {f t j : Nat} (h : FI L fm g w f t) (hj : j < 1785) (hg : g j = 0) (hr : ∃ i, i < 1785 ∧ g i = 2 ∧ f_mv L i j) : FI L fm (kup g j 2) (kup w t (j : Int)) f (t + 1) := by
  obtain ⟨h1, h2, h3, h4, h5, h6, h7, h8, h9⟩ := h
  have hn2 : g j ≠ 2 := by omega
  have hlt : t < 1785 := by have := f_cnt_lt hn2 1785 hj; omega
  have hfm : fm j = 0 := by rcases h1 j with z | z <;> omega
  refine ⟨fun i => ?_, by omega, fun k hk => ?_, fun i hi hgi => ?_, fun k hk d hd hb => ?_, fun P h0 hs i hi hgi => ?_, ?_, h8, ?_⟩
  · unfold kup; split
    · exact Or.inl rfl
    · exact h1 i
  · by_cases e : k = t
    · rw [e, kup_self]
      refine ⟨by omega, by omega, ?_⟩
      rw [show ((j : Nat) : Int).toNat = j by omega, kup_self]
    · rw [kup_ne e]
      have h := h3 k (by omega)
      refine ⟨h.1, h.2.1, ?_⟩
      unfold kup; split
      · rfl
      · exact h.2.2
  · by_cases e : i = j
    · exact ⟨t, by omega, by rw [kup_self, e]⟩
    · rw [kup_ne e] at hgi
      obtain ⟨k, hk, hw⟩ := h4 i hi hgi
      exact ⟨k, by omega, by rw [kup_ne (by omega)]; exact hw⟩
  · have e : kup w t (j : Int) k = w k := kup_ne (by omega)
    rw [e] at hb ⊢
    have h := h5 k hk d hd hb
    by_cases e2 : (f_to (w k) d).toNat = j
    · rw [e2, kup_self]; decide
    · rw [kup_ne e2]; exact h
  · by_cases e : i = j
    · obtain ⟨i0, hi0, hg0, hm⟩ := hr
      rw [e]
      exact hs i0 j (h6 P h0 hs i0 hi0 hg0) hm hfm
    · rw [kup_ne e] at hgi
      exact h6 P h0 hs i hi hgi
  · rw [f_cnt_up hn2, h7, if_pos hj]
  · unfold kup; split
    · rfl
    · exact h9
theorem FI.next {L : Ln} {fm g w : Nat → Int} {f t : Nat} (h : FI L fm g w f t) (hf : f < t) (hc : ∀ d : Int, 0 ≤ d ∧ d ≤ 7 → f_bar L (w f % 51) (w f / 51) d = false → g (f_to (w f) d).toNat ≠ 0) : FI L fm g w (f + 1) t := by
  obtain ⟨h1, h2, h3, h4, h5, h6, h7, h8, h9⟩ := h
  refine ⟨h1, by omega, h3, h4, fun k hk d hd hb => ?_, h6, h7, h8, h9⟩
  by_cases e : k = f
  · rw [e] at hb ⊢; exact hc d hd hb
  · exact h5 k (by omega) d hd hb
/-- what the spreading finds: the least set that holds the corner and is closed under ways to free places -/
def FOut (L : Ln) (g : Nat → Int) : Prop := g 0 = 2 ∧ (∀ i j, i < 1785 → g i = 2 → f_mv L i j → f_map L (ln_n L) j = 0 → g j = 2) ∧ (∀ P : Nat → Prop, P 0 → (∀ i j, P i → f_mv L i j → f_map L (ln_n L) j = 0 → P j) → (∀ i, i < 1785 → g i = 2 → P i)) ∧ ∀ i, 0 ≤ g i ∧ g i ≤ 2
theorem FI.out {L : Ln} {fm g w : Nat → Int} {t : Nat} (hfm : ∀ i, fm i = f_map L (ln_n L) i) (h : FI L fm g w t t) : FOut L g := by
  obtain ⟨h1, h2, h3, h4, h5, h6, h7, h8, h9⟩ := h
  refine ⟨h9, fun i j hi hg hm hf => ?_, fun P h0 hs i hi hg => h6 P h0 (fun a b ha hm hz => hs a b ha hm (by rw [← hfm]; exact hz)) i hi hg, fun i => by rcases h1 i with z | z; (omega); (rcases h8 i with y | y <;> omega)⟩
  obtain ⟨k, hk, hw⟩ := h4 i hi hg
  obtain ⟨d, hd, ht, hb⟩ := hm
  have h := h5 k hk d hd (by rw [hw]; exact hb)
  rw [hw, ht, show ((j : Nat) : Int).toNat = j by omega] at h
  rcases h1 j with z | z
  · exact z
  · rw [hfm, hf] at z; exact absurd z h

