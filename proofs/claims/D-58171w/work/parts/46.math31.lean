/-! MATH 31: heaps in an array -/
def hp_sw (q : Nat → Nat) (k p : Nat) : Nat → Nat := fun i => if i = p then q k else if i = k then q p else q i
def HP (le : Nat → Nat → Prop) (q : Nat → Nat) (n : Nat) : Prop := ∀ i, 1 ≤ i → i < n → le (q ((i - 1) / 2)) (q i)
/-- a heap of the first n + 1, but for the place k, which may be less than what is above it -/
def HPk (le : Nat → Nat → Prop) (q : Nat → Nat) (n k : Nat) : Prop := (∀ i, 1 ≤ i → i ≤ n → i ≠ k → le (q ((i - 1) / 2)) (q i)) ∧ (1 ≤ k → ∀ i, 1 ≤ i → i ≤ n → (i - 1) / 2 = k → le (q ((k - 1) / 2)) (q i))
theorem HP.start {le : Nat → Nat → Prop} {q q2 : Nat → Nat} {n : Nat} (h : HP le q n) (h2 : ∀ i, i < n → q2 i = q i) : HPk le q2 n n := by
  refine ⟨fun i h1 h3 h4 => ?_, fun hk i h1 h3 h4 => by omega⟩
  rw [h2 i (by omega), h2 ((i - 1) / 2) (by omega)]
  exact h i h1 (by omega)
theorem HPk.stop {le : Nat → Nat → Prop} {q : Nat → Nat} {n k : Nat} (h : HPk le q n k) (hx : k = 0 ∨ le (q ((k - 1) / 2)) (q k)) : HP le q (n + 1) := by
  intro i h1 h2
  by_cases e : i = k
  · subst e
    rcases hx with z | z
    · omega
    · exact z
  · exact h.1 i h1 (by omega) e
theorem HPk.step {le : Nat → Nat → Prop} (tr : ∀ a b c, le a b → le b c → le a c) {q : Nat → Nat} {n k p : Nat} (h : HPk le q n k) (hk : 1 ≤ k) (hn : k ≤ n) (hp : p = (k - 1) / 2) (hx : le (q k) (q p)) : HPk le (hp_sw q k p) n p := by
  have hpk : p ≠ k := by omega
  have sp : hp_sw q k p p = q k := if_pos rfl
  have sk : hp_sw q k p k = q p := by unfold hp_sw; rw [if_neg (Ne.symm hpk), if_pos rfl]
  have so : ∀ i, i ≠ p → i ≠ k → hp_sw q k p i = q i := fun i h1 h2 => by unfold hp_sw; rw [if_neg h1, if_neg h2]
  refine ⟨fun i h1 h2 h3 => ?_, fun hp1 i h1 h2 h3 => ?_⟩
  · by_cases ek : i = k
    · rw [ek, sk, ← hp, sp]
      exact hx
    · rw [so i h3 ek]
      by_cases e1 : (i - 1) / 2 = p
      · rw [e1, sp]
        have h5 := h.1 i h1 h2 ek
        rw [e1] at h5
        exact tr _ _ _ hx h5
      · by_cases e2 : (i - 1) / 2 = k
        · rw [e2, sk, hp]
          exact h.2 hk i h1 h2 e2
        · rw [so _ e1 e2]
          exact h.1 i h1 h2 ek
  · have h6 : (p - 1) / 2 ≠ p := by omega
    have h7 : (p - 1) / 2 ≠ k := by omega
    rw [so _ h6 h7]
    have h5 := h.1 p hp1 (by omega) hpk
    by_cases ek : i = k
    · rw [ek, sk]; exact h5
    · rw [so i (by omega) ek]
      have h8 := h.1 i h1 h2 ek
      rw [h3] at h8
      exact tr _ _ _ h5 h8
theorem HP.root {le : Nat → Nat → Prop} (tr : ∀ a b c, le a b → le b c → le a c) (rf : ∀ a, le a a) {q : Nat → Nat} {n : Nat} (h : HP le q n) : ∀ i, i < n → le (q 0) (q i) := by
  intro i
  induction i using Nat.strongRecOn with
  | _ i ih =>
    intro hi
    by_cases e : i = 0
    · subst e; exact rf _
    · exact tr _ _ _ (ih ((i - 1) / 2) (by omega) (by omega)) (h i (by omega) hi)
/-- a swap keeps what is there -/
theorem hp_sw_mem {q : Nat → Nat} {n k p : Nat} (hk : k ≤ n) (hp : p ≤ n) (y : Nat) : (∃ i, i ≤ n ∧ hp_sw q k p i = y) ↔ ∃ i, i ≤ n ∧ q i = y := by
  constructor
  · rintro ⟨i, hi, h⟩
    unfold hp_sw at h
    split at h
    · exact ⟨k, hk, h⟩
    · split at h
      · exact ⟨p, hp, h⟩
      · exact ⟨i, hi, h⟩
  · rintro ⟨i, hi, h⟩
    by_cases e1 : i = k
    · exact ⟨p, hp, by unfold hp_sw; rw [if_pos rfl, ← e1]; exact h⟩
    · by_cases e2 : i = p
      · refine ⟨k, hk, ?_⟩
        unfold hp_sw
        split
        · rename_i z; rw [z, ← e2]; exact h
        · rw [if_pos rfl, ← e2]; exact h
      · exact ⟨i, hi, by unfold hp_sw; rw [if_neg e2, if_neg e1]; exact h⟩
/-- candidates' order -/
def cdv (cv : Nat → Int × Int × Int) (a b : Nat) : Int := cd_cmp (cv a).1 (cv a).2.1 (cv a).2.2 (cv b).1 (cv b).2.1 (cv b).2.2
def cdle (cv : Nat → Int × Int × Int) (a b : Nat) : Prop := cdv cv a b ≤ 0
theorem cdle_tr (cv : Nat → Int × Int × Int) : ∀ a b c, cdle cv a b → cdle cv b c → cdle cv a c := by
  intro a b c
  unfold cdle cdv cd_cmp
  split <;> split <;> split <;> (try split) <;> (try split) <;> (try split) <;> omega
theorem cdle_rf (cv : Nat → Int × Int × Int) : ∀ a, cdle cv a a := by
  intro a
  unfold cdle cdv cd_cmp
  simp
theorem cdle_of_ge {cv : Nat → Int × Int × Int} {a b : Nat} (h : 0 ≤ cdv cv a b) : cdle cv b a := by
  unfold cdle cdv cd_cmp at *
  split at h <;> split <;> (try split at h) <;> (try split) <;> omega

