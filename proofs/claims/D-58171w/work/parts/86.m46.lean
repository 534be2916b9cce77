/-! MATH 46: lines stay good: geometry under changes -/
theorem ln_has_iff (L : Ln) (p : Int) : ln_has L p = true ↔ ∃ k, k ≤ ln_n L ∧ ln_pos L k = p := by
  unfold ln_has
  rw [ln_hasTo_iff]
  exact ⟨fun ⟨k, h1, h2⟩ => ⟨k, by omega, h2⟩, fun ⟨k, h1, h2⟩ => ⟨k, by omega, h2⟩⟩
theorem st_owner_none {S : Ls} {p : Int} (h : st_owner S p = -1) {k : Nat} (hk : k < S.length) : ln_has (st_ln S k) p = false :=
  firstIdx_none S.length 0 h k (Nat.zero_le _) (by omega)
theorem st_step_of {S : Ls} {a b : Int} {k : Nat} (hk : k < S.length) (h : ln_step (st_ln S k) a b = true) : st_step S a b = true := by
  unfold st_step
  have : ∀ n, k < n → st_stepTo S a b n = true := by
    intro n
    induction n with
    | zero => intro h; omega
    | succ n ih =>
      intro hn
      rw [st_stepTo, Bool.or_eq_true]
      by_cases e : k = n
      · subst e; exact Or.inr h
      · exact Or.inl (ih (by omega))
  exact this _ hk
theorem st_whyNot_all {S : Ls} {l : Nat} {d : Int} (h : st_whyNot S l d = 0) : ln_cl (st_ln S l) = false ∧ ln_n (st_ln S l) ≠ 60 ∧ nx (ln_end (st_ln S l)) d ≠ -1 ∧ (st_owner S (nx (ln_end (st_ln S l)) d) = -1 ∨ (nx (ln_end (st_ln S l)) d = ln_bg (st_ln S l) ∧ 3 ≤ ln_n (st_ln S l))) ∧ ¬ (d % 2 = 1 ∧ st_step S (ln_end (st_ln S l) + ac d) (ln_end (st_ln S l) + 24 * dn d) = true) := by
  unfold st_whyNot at h
  split at h
  · omega
  · rename_i h1
    split at h
    · omega
    · rename_i h2
      split at h
      · omega
      · rename_i h3
        split at h
        · omega
        · rename_i h4
          split at h
          · omega
          · rename_i h5
            refine ⟨by simpa using h1, h2, h3, ?_, h5⟩
            by_cases e : st_owner S (nx (ln_end (st_ln S l)) d) = -1
            · exact Or.inl e
            · exact Or.inr (Classical.byContradiction fun n => h4 ⟨e, n⟩)
theorem d_odd {d : Int} (h : 0 ≤ d ∧ d ≤ 7) : (d % 2 = 1 ↔ ac d ≠ 0 ∧ dn d ≠ 0) := by
  rcases d8 h.1 h.2 with e | e | e | e | e | e | e | e <;> rw [e] <;> decide
/-- a line that is not closed is without any point twice -/
theorem LnG.open_ne {L : Ln} (h : LnG L) (hc : ln_cl L = false) {j k : Nat} (hj : j < k) (hk : k ≤ ln_n L) : ln_pos L j ≠ ln_pos L k := by
  intro e
  obtain ⟨h1, h2, h3⟩ := h.2.1 j k hj hk e
  subst h1; subst h2
  have : ln_cl L = true := by
    unfold ln_cl
    simp only [Bool.and_eq_true, decide_eq_true_eq]
    exact ⟨by omega, e.symm⟩
  rw [hc] at this; cases this
theorem LnG.step {S : Ls} {gap : Int} (hok : LsOK S gap) {l : Nat} (hl : l < S.length) {d : Int} (hd : 0 ≤ d ∧ d ≤ 7) (hg : LnG (st_ln S l)) (hw : st_whyNot S l d = 0) : LnG (w_step (st_ln S l) d) := by
  obtain ⟨w1, w2, w3, w4, w5⟩ := st_whyNot_all hw
  have hL := hok.ln hl
  have he := hL.pos (k := ln_n (st_ln S l)) (Nat.le_refl _)
  have ht := nx_ok he w3
  have hend : ln_end (st_ln S l) = ln_pos (st_ln S l) (ln_n (st_ln S l)) := rfl
  rw [← hend] at he ht
  have ha := ac_rng d; have hb := dn_rng d
  have ht1 : ln_pos (w_step (st_ln S l) d) (ln_n (st_ln S l) + 1) = nx (ln_end (st_ln S l)) d := by rw [ln_pos_step1]; exact ht.1.symm
  generalize hL0 : st_ln S l = L at *
  refine ⟨fun k hk => ?_, fun j k hj hk hp => ?_, fun j hj hodd => ?_⟩
  · rw [ln_n_step] at hk
    rw [ln_d_step _ _ _ hk, ln_pos_step _ _ _ (by omega)]
    by_cases e : k = ln_n L
    · subst e; rw [if_pos rfl, ht1]; rfl
    · rw [if_neg e, ln_pos_step _ _ _ (by omega)]
      exact hg.1 k (by omega)
  · rw [ln_n_step] at hk ⊢
    by_cases e : k = ln_n L + 1
    · subst e
      rw [ht1, ln_pos_step _ _ _ (by omega)] at hp
      have hhas : ln_has L (nx (ln_end L) d) = true := (ln_has_iff _ _).mpr ⟨j, by omega, hp⟩
      rcases w4 with z | z
      · have := st_owner_none z hl
        rw [hL0, hhas] at this; cases this
      · refine ⟨?_, rfl, by omega⟩
        by_cases e0 : j = 0
        · exact e0
        · exact absurd (show ln_pos L 0 = ln_pos L j by rw [hp, z.1]; rfl) (hg.open_ne w1 (by omega) (by omega))
    · rw [ln_pos_step _ _ _ (by omega), ln_pos_step _ _ _ (by omega)] at hp
      exact absurd hp (hg.open_ne w1 hj (by omega))
  · rw [ln_n_step] at hj
    have stepE : ∀ a b, ln_step (w_step L d) a b = true ↔ ln_step L a b = true ∨ (ln_end L = a ∧ nx (ln_end L) d = b ∨ ln_end L = b ∧ nx (ln_end L) d = a) := by
      intro a b
      unfold ln_step
      rw [ln_stepTo_iff, ln_stepTo_iff, ln_n_step]
      constructor
      · rintro ⟨k, h1, h2⟩
        by_cases e : k = ln_n L
        · subst e
          rw [ht1, ln_pos_step _ _ _ (Nat.le_refl _)] at h2
          right
          rcases h2 with z | z
          · exact Or.inl z
          · exact Or.inr z
        · rw [ln_pos_step _ _ _ (by omega), ln_pos_step _ _ _ (by omega)] at h2
          exact Or.inl ⟨k, by omega, h2⟩
      · rintro (⟨k, h1, h2⟩ | h)
        · exact ⟨k, by omega, by rw [ln_pos_step _ _ _ (by omega), ln_pos_step _ _ _ (by omega)]; exact h2⟩
        · exact ⟨ln_n L, by omega, by rw [ht1, ln_pos_step _ _ _ (Nat.le_refl _)]; exact h⟩
    have hno : ∀ a b, ¬ (ln_step (w_step L d) a b = true) → ln_step (w_step L d) a b = false := fun a b h => by cases hq : ln_step (w_step L d) a b with
      | false => rfl
      | true => exact absurd hq h
    refine hno _ _ fun hs => ?_
    rw [ln_d_step _ _ _ hj, ln_pos_step _ _ _ (by omega)] at hs
    rw [ln_d_step _ _ _ hj] at hodd
    by_cases e : j = ln_n L
    · subst e
      rw [if_pos rfl] at hs hodd
      have hz := (d_odd hd).mp hodd
      rcases (stepE _ _).mp hs with z | z
      · refine w5 ⟨hodd, ?_⟩
        have := st_step_of hl (by rw [hL0]; exact z)
        exact this
      · rw [← hend] at z; omega
    · rw [if_neg e] at hs hodd
      have hjn : j < ln_n L := by omega
      have hdj := hL.d hjn
      have hz := (d_odd hdj).mp hodd
      have haj := ac_rng (ln_d L j); have hbj := dn_rng (ln_d L j)
      have hpj : ln_pos L (j + 1) = ln_pos L j + (24 * dn (ln_d L j) + ac (ln_d L j)) := rfl
      rcases (stepE _ _).mp hs with z | z
      · rw [hg.2.2 j hjn hodd] at z; cases z
      · have hod : d % 2 = 1 := (d_odd hd).mpr (by omega)
        refine w5 ⟨hod, st_step_of hl ?_⟩
        rw [hL0]
        unfold ln_step
        rw [ln_stepTo_iff]
        refine ⟨j, hjn, ?_⟩
        omega
theorem ln_cl_step {S : Ls} {gap : Int} (hok : LsOK S gap) {l : Nat} (hl : l < S.length) {d : Int} (hw : st_whyNot S l d = 0) : ln_cl (w_step (st_ln S l) d) = decide (nx (ln_end (st_ln S l)) d = ln_bg (st_ln S l) ∧ 3 ≤ ln_n (st_ln S l)) := by
  obtain ⟨w1, w2, w3, w4, w5⟩ := st_whyNot_all hw
  have he := (hok.ln hl).pos (k := ln_n (st_ln S l)) (Nat.le_refl _)
  have ht := nx_ok (q := ln_end (st_ln S l)) he w3
  unfold ln_cl
  rw [ln_end_step, ← ht.1, ln_n_step, decide_eq_true (by omega : 0 < ln_n (st_ln S l) + 1), Bool.true_and]
  rw [decide_eq_decide]
  show nx (ln_end (st_ln S l)) d = ln_bg (st_ln S l) ↔ _
  constructor
  · intro h
    rcases w4 with z | z
    · have := st_owner_none z hl
      have hb : ln_has (st_ln S l) (ln_bg (st_ln S l)) = true := (ln_has_iff _ _).mpr ⟨0, Nat.zero_le _, rfl⟩
      rw [h, hb] at this
      cases this
    · exact z
  · exact fun h => h.1
theorem LnG.of {L M : Ln} (h1 : ln_bg L = ln_bg M) (h2 : ln_ds L = ln_ds M) (h : LnG M) : LnG L := by
  have hn : ln_n L = ln_n M := by unfold ln_n; rw [h2]
  have hd : ∀ k, ln_d L k = ln_d M k := fun k => by unfold ln_d; rw [h2]
  have hp : ∀ k, ln_pos L k = ln_pos M k := by
    intro k
    induction k with
    | zero => exact h1
    | succ k ih => rw [ln_pos, ln_pos, ih, hd]
  have hs : ∀ a b, ln_step L a b = ln_step M a b := fun a b => by
    unfold ln_step
    rw [hn]
    generalize ln_n M = n
    induction n with
    | zero => rfl
    | succ n ih => rw [ln_stepTo, ln_stepTo, ih, hp, hp]
  refine ⟨fun k hk => ?_, fun j k hj hk e => ?_, fun j hj ho => ?_⟩
  · rw [hp, hp, hd]; exact h.1 k (by omega)
  · rw [hp, hp] at e; rw [hn] at hk ⊢; exact h.2.1 j k hj hk e
  · rw [hs, hp, hd]; rw [hd] at ho; exact h.2.2 j (by omega) ho
theorem LnG.new (lv pt : Int) : LnG (w_new lv pt) := by
  have : ln_n (w_new lv pt) = 0 := rfl
  exact ⟨fun k hk => by omega, fun j k hj hk => by omega, fun j hj => by omega⟩
/-- all lines good, without a common point -/
def StG (S : Ls) : Prop := StDis S ∧ ∀ k, k < S.length → LnG (st_ln S k)
theorem has_of {L M : Ln} (h1 : ln_bg L = ln_bg M) (h2 : ln_ds L = ln_ds M) (p : Int) : ln_has L p = ln_has M p := by
  have hn : ln_n L = ln_n M := by unfold ln_n; rw [h2]
  have hp : ∀ k, ln_pos L k = ln_pos M k := by
    intro k
    induction k with
    | zero => exact h1
    | succ k ih => rw [ln_pos, ln_pos, ih]; unfold ln_d; rw [h2]
  unfold ln_has
  rw [hn]
  generalize ln_n M + 1 = n
  induction n with
  | zero => rfl
  | succ n ih => rw [ln_hasTo, ln_hasTo, ih, hp]
theorem StG.set {S : Ls} (h : StG S) {l : Nat} (hl : l < S.length) {L : Ln} (h1 : ln_bg L = ln_bg (st_ln S l)) (h2 : ln_ds L = ln_ds (st_ln S l)) : StG (S.set l L) := by
  have hh : ∀ k p, ln_has (st_ln (S.set l L) k) p = ln_has (st_ln S k) p := by
    intro k p
    rw [st_ln_set hl]
    split
    · rename_i e; rw [e]; exact has_of h1 h2 p
    · rfl
  refine ⟨fun i j p hi hj q1 q2 => ?_, fun k hk => ?_⟩
  · rw [List.length_set] at hi hj
    rw [hh] at q1 q2
    exact h.1 i j p hi hj q1 q2
  · rw [List.length_set] at hk
    rw [st_ln_set hl]
    split
    · rename_i e; exact LnG.of h1 h2 (h.2 l hl)
    · exact h.2 k hk
theorem StG.step {S : Ls} {gap : Int} (h : StG S) (hok : LsOK S gap) {l : Nat} (hl : l < S.length) {d : Int} (hd : 0 ≤ d ∧ d ≤ 7) (hw : st_whyNot S l d = 0) : StG (S.set l (w_step (st_ln S l) d)) := by
  obtain ⟨w1, w2, w3, w4, w5⟩ := st_whyNot_all hw
  have he := (hok.ln hl).pos (k := ln_n (st_ln S l)) (Nat.le_refl _)
  have ht := nx_ok (q := ln_end (st_ln S l)) he w3
  have hnew : ∀ p, ln_has (w_step (st_ln S l) d) p = true → ln_has (st_ln S l) p = true ∨ p = nx (ln_end (st_ln S l)) d := by
    intro p hp
    obtain ⟨k, hk, e⟩ := (ln_has_iff _ _).mp hp
    rw [ln_n_step] at hk
    by_cases q : k = ln_n (st_ln S l) + 1
    · subst q; rw [ln_pos_step1, ← ht.1] at e; exact Or.inr e.symm
    · rw [ln_pos_step _ _ _ (by omega)] at e
      exact Or.inl ((ln_has_iff _ _).mpr ⟨k, by omega, e⟩)
  have key : ∀ j p, j < S.length → j ≠ l → ln_has (w_step (st_ln S l) d) p = true → ln_has (st_ln S j) p = true → False := by
    intro j p hj hne q1 q2
    rcases hnew p q1 with z | z
    · exact hne (h.1 j l p hj hl q2 z)
    · rcases w4 with y | y
      · have := st_owner_none y hj
        rw [← z, q2] at this; cases this
      · refine hne (h.1 j l p hj hl q2 ?_)
        rw [z, y.1]
        exact (ln_has_iff _ _).mpr ⟨0, Nat.zero_le _, rfl⟩
  refine ⟨fun i j p hi hj q1 q2 => ?_, fun k hk => ?_⟩
  · rw [List.length_set] at hi hj
    rw [st_ln_set hl] at q1 q2
    by_cases ei : i = l <;> by_cases ej : j = l
    · rw [ei, ej]
    · rw [if_pos ei] at q1; rw [if_neg ej] at q2; exact (key j p hj ej q1 q2).elim
    · rw [if_neg ei] at q1; rw [if_pos ej] at q2; exact (key i p hi ei q2 q1).elim
    · rw [if_neg ei] at q1; rw [if_neg ej] at q2; exact h.1 i j p hi hj q1 q2
  · rw [List.length_set] at hk
    rw [st_ln_set hl]
    split
    · exact LnG.step hok hl hd (h.2 l hl) hw
    · exact h.2 k hk
theorem st_ln_app2 (S : Ls) (L : Ln) (k : Nat) : st_ln (S ++ [L]) k = if k = S.length then L else st_ln S k := by
  unfold st_ln
  rw [List.getD_eq_getElem?_getD, List.getD_eq_getElem?_getD]
  split
  · rename_i e; rw [e]; simp
  · rename_i e
    by_cases h : k < S.length
    · rw [List.getElem?_append_left h]
    · rw [List.getElem?_eq_none (by simp; omega), List.getElem?_eq_none (by omega)]
theorem StG.push {S : Ls} (h : StG S) {lv pt : Int} (hno : st_owner S pt = -1) : StG (S ++ [w_new lv pt]) := by
  have hn : ∀ p, ln_has (w_new lv pt) p = true → p = pt := by
    intro p hp
    obtain ⟨k, hk, e⟩ := (ln_has_iff _ _).mp hp
    have : k = 0 := by have : ln_n (w_new lv pt) = 0 := rfl; omega
    subst this
    exact e.symm
  refine ⟨fun i j p hi hj q1 q2 => ?_, fun k hk => ?_⟩
  · rw [List.length_append, List.length_singleton] at hi hj
    rw [st_ln_app2] at q1 q2
    by_cases ei : i = S.length <;> by_cases ej : j = S.length
    · omega
    · rw [if_pos ei] at q1; rw [if_neg ej] at q2
      have := st_owner_none hno (show j < S.length by omega)
      rw [← hn p q1, q2] at this; cases this
    · rw [if_neg ei] at q1; rw [if_pos ej] at q2
      have := st_owner_none hno (show i < S.length by omega)
      rw [← hn p q2, q1] at this; cases this
    · rw [if_neg ei] at q1; rw [if_neg ej] at q2; exact h.1 i j p (by omega) (by omega) q1 q2
  · rw [List.length_append, List.length_singleton] at hk
    rw [st_ln_app2]
    split
    · exact LnG.new lv pt
    · exact h.2 k (by omega)
theorem st_ln_er (S : Ls) (i k : Nat) : st_ln (S.eraseIdx i) k = st_ln S (if k < i then k else k + 1) := by
  unfold st_ln
  rw [List.getD_eq_getElem?_getD, List.getD_eq_getElem?_getD, List.getElem?_eraseIdx]
  split <;> rfl
theorem StG.erase {S : Ls} (h : StG S) {i : Nat} (hi : i < S.length) : StG (S.eraseIdx i) := by
  have hlen : (S.eraseIdx i).length = S.length - 1 := List.length_eraseIdx_of_lt hi
  refine ⟨fun a b p ha hb q1 q2 => ?_, fun k hk => ?_⟩
  · rw [hlen] at ha hb
    rw [st_ln_er] at q1 q2
    have := h.1 _ _ p (by split <;> omega) (by split <;> omega) q1 q2
    split at this <;> split at this <;> omega
  · rw [hlen] at hk
    rw [st_ln_er]
    exact h.2 _ (by split <;> omega)
/-- spreading is sound for every line of a good state -/
theorem StG.spr {S : Ls} {gap : Int} (h : StG S) (hok : LsOK S gap) : ∀ l, l < S.length → ln_cl (st_ln S l) = true → SprOK (st_ln S l) := fun l hl hc => spr_ok (hok.ln hl) (h.2 l hl) hc

