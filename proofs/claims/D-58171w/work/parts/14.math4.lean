/-! MATH 4: changes of lines, and of the model's row -/
def w_lb (L : Ln) (v : Int) : Ln := (ln_lv L, v, ln_bg L, ln_ds L)
def w_lv (L : Ln) (v : Int) : Ln := (v, -1, ln_bg L, ln_ds L)
def w_step (L : Ln) (d : Int) : Ln := (ln_lv L, ln_lb L, ln_bg L, ln_ds L ++ [d])
def w_new (lv bg : Int) : Ln := (lv, -1, bg, [])
theorem st_ln_set {S : Ls} {k : Nat} (hk : k < S.length) (L : Ln) (j : Nat) : st_ln (S.set k L) j = if j = k then L else st_ln S j := by
  unfold st_ln
  rw [List.getD_eq_getElem?_getD, List.getD_eq_getElem?_getD, List.getElem?_set]
  by_cases h : j = k
  · subst h; simp [hk]
  · rw [if_neg (fun q => h q.symm), if_neg h]
theorem st_ln_push (S : Ls) (L : Ln) (j : Nat) (hj : j < S.length + 1) : st_ln (S ++ [L]) j = if j = S.length then L else st_ln S j := by
  unfold st_ln
  rw [List.getD_eq_getElem?_getD, List.getD_eq_getElem?_getD]
  by_cases h : j = S.length
  · subst h; simp
  · rw [if_neg h, List.getElem?_append_left (by omega)]
theorem st_ln_erase (S : Ls) (k j : Nat) : st_ln (S.eraseIdx k) j = if j < k then st_ln S j else st_ln S (j + 1) := by
  unfold st_ln
  rw [List.getD_eq_getElem?_getD, List.getD_eq_getElem?_getD, List.getD_eq_getElem?_getD, List.getElem?_eraseIdx]
  split <;> rfl
theorem ln_n_step (L : Ln) (d : Int) : ln_n (w_step L d) = ln_n L + 1 := by simp [ln_n, w_step, ln_ds]
theorem ln_d_step (L : Ln) (d : Int) (k : Nat) (hk : k < ln_n L + 1) : ln_d (w_step L d) k = if k = ln_n L then d else ln_d L k := by
  unfold ln_d w_step
  show (ln_ds L ++ [d]).getD k 0 = _
  rw [List.getD_eq_getElem?_getD, List.getD_eq_getElem?_getD]
  by_cases h : k = ln_n L
  · subst h; simp [ln_n]
  · rw [if_neg h, List.getElem?_append_left (by unfold ln_n at *; omega)]
theorem ln_pos_step (L : Ln) (d : Int) (k : Nat) (hk : k ≤ ln_n L) : ln_pos (w_step L d) k = ln_pos L k := by
  induction k with
  | zero => rfl
  | succ k ih =>
    rw [ln_pos, ln_pos, ih (by omega), ln_d_step L d k (by omega), if_neg (by omega)]
theorem ln_pos_step1 (L : Ln) (d : Int) : ln_pos (w_step L d) (ln_n L + 1) = ln_end L + (24 * dn d + ac d) := by
  rw [ln_pos, ln_pos_step L d _ (Nat.le_refl _), ln_d_step L d _ (by omega), if_pos rfl]
  rfl
theorem ln_end_step (L : Ln) (d : Int) : ln_end (w_step L d) = ln_end L + (24 * dn d + ac d) := by
  unfold ln_end
  rw [ln_n_step]
  exact ln_pos_step1 L d
theorem nx_ok {q d : Int} (hq : 0 ≤ q ∧ q ≤ 383) (h : nx q d ≠ -1) : nx q d = q + (24 * dn d + ac d) ∧ 0 ≤ nx q d ∧ nx q d ≤ 383 := by
  unfold nx at h ⊢
  split
  · omega
  · rename_i z; rw [if_neg z] at h; exact absurd rfl h
theorem ln_size_lb (L : Ln) (v : Int) : ln_size (w_lb L v) = ln_size L := rfl
theorem ln_pos_lb (L : Ln) (v : Int) (k : Nat) : ln_pos (w_lb L v) k = ln_pos L k := by
  induction k with
  | zero => rfl
  | succ k ih => rw [ln_pos, ln_pos, ih]; rfl
theorem ln_pos_lv (L : Ln) (v : Int) (k : Nat) : ln_pos (w_lv L v) k = ln_pos L k := by
  induction k with
  | zero => rfl
  | succ k ih => rw [ln_pos, ln_pos, ih]; rfl
theorem ln_size_step (L : Ln) (d : Int) : ln_size (w_step L d) = ln_size L := rfl
theorem LnOK.step {L : Ln} (h : LnOK L) {d : Int} (hd : 0 ≤ d ∧ d ≤ 7) (hn : ln_n L < 60) (hx : nx (ln_end L) d ≠ -1) : LnOK (w_step L d) := by
  have h1 := nx_ok (h.pos (k := ln_n L) (Nat.le_refl _)) hx
  have h2 := h.lb
  refine ⟨h.lv, by rw [ln_n_step]; omega, ⟨h2.1, fun q => ?_⟩, fun k hk => ?_, fun k hk => ?_⟩
  · have h3 := h2.2 q
    rw [ln_n_step, ln_size_step]
    show ln_lb L + _ - 1 ≤ _
    omega
  · rw [ln_n_step] at hk
    rw [ln_d_step L d k hk]
    split
    · exact hd
    · exact h.d (by omega)
  · rw [ln_n_step] at hk
    by_cases q : k = ln_n L + 1
    · subst q
      rw [ln_pos_step1]
      have : ln_end L = ln_pos L (ln_n L) := rfl
      omega
    · rw [ln_pos_step L d k (by omega)]
      exact h.pos (by omega)
theorem LnOK.setLb {L : Ln} (h : LnOK L) {v : Int} (hv : v = -1 ∨ 0 ≤ v ∧ v + ln_size L - 1 ≤ ln_n L) : LnOK (w_lb L v) := by
  refine ⟨h.lv, h.n, ⟨?_, fun q => ?_⟩, h.2.2.2.1, fun k hk => ?_⟩
  · show -1 ≤ v; omega
  · show v + (ln_size L : Int) - 1 ≤ (ln_n L : Int)
    have q : v ≠ -1 := q
    omega
  · rw [ln_pos_lb]; exact h.pos hk
theorem LnOK.setLv {L : Ln} (h : LnOK L) {v : Int} (hv : 0 ≤ v ∧ v ≤ 99) : LnOK (w_lv L v) := by
  refine ⟨hv, h.n, ⟨?_, fun q => absurd rfl q⟩, h.2.2.2.1, fun k hk => ?_⟩
  · show (-1 : Int) ≤ -1; omega
  · rw [ln_pos_lv]; exact h.pos hk
theorem LnOK.new {lv bg : Int} (h1 : 0 ≤ lv ∧ lv ≤ 99) (h2 : 0 ≤ bg ∧ bg ≤ 383) : LnOK (w_new lv bg) := by
  refine ⟨h1, (show 0 ≤ 60 by decide), ⟨?_, fun q => absurd rfl q⟩, fun k hk => absurd hk (Nat.not_lt_zero k), fun k hk => ?_⟩
  · show (-1 : Int) ≤ -1; omega
  · have : k = 0 := by have : k ≤ 0 := hk; omega
    subst this; exact h2
theorem LsOK.set {S : Ls} {gap : Int} (h : LsOK S gap) {k : Nat} (hk : k < S.length) {L : Ln} (hL : LnOK L) : LsOK (S.set k L) gap := by
  refine ⟨by rw [List.length_set]; exact h.1, h.2.1, fun j hj => ?_⟩
  rw [List.length_set] at hj
  rw [st_ln_set hk]
  split
  · exact hL
  · exact h.ln hj
theorem LsOK.push {S : Ls} {gap : Int} (h : LsOK S gap) (h8 : S.length < 8) {L : Ln} (hL : LnOK L) : LsOK (S ++ [L]) gap := by
  refine ⟨by simp; omega, h.2.1, fun j hj => ?_⟩
  have hj : j < S.length + 1 := by simpa using hj
  rw [st_ln_push S L j hj]
  split
  · exact hL
  · exact h.ln (by omega)
theorem LsOK.erase {S : Ls} {gap : Int} (h : LsOK S gap) {k : Nat} (hk : k < S.length) : LsOK (S.eraseIdx k) gap := by
  have hl : (S.eraseIdx k).length = S.length - 1 := by rw [List.length_eraseIdx]; simp [hk]
  refine ⟨by rw [hl]; have := h.1; omega, h.2.1, fun j hj => ?_⟩
  rw [hl] at hj
  rw [st_ln_erase]
  split
  · exact h.ln (by omega)
  · exact h.ln (by omega)
theorem LsOK.gap' {S : Ls} {gap gap2 : Int} (h : LsOK S gap) (hg : 1 ≤ gap2 ∧ gap2 ≤ 6) : LsOK S gap2 := ⟨h.1, hg, h.2.2⟩
-- the model's row
theorem MRow.congr {g g2 : Nat → Int} {S : Ls} {gap : Int} (h : MRow g S gap) (h8 : S.length ≤ 8) (hok : ∀ k, k < S.length → ln_n (st_ln S k) ≤ 60) (he : ∀ j, j < 514 → g2 j = g j) : MRow g2 S gap := by
  refine ⟨by rw [he 0 (by omega)]; exact h.len, by rw [he 1 (by omega)]; exact h.gap, fun k hk => ⟨?_, ?_, ?_, ?_, fun j hj => ?_⟩⟩
  · rw [he _ (by omega)]; exact h.lv hk
  · rw [he _ (by omega)]; exact h.bg hk
  · rw [he _ (by omega)]; exact h.n hk
  · rw [he _ (by omega)]; exact h.lb hk
  · have := hok k hk; rw [he _ (by omega)]; exact h.d hk hj
theorem MRow.setLb {g : Nat → Int} {S : Ls} {gap : Int} (h : MRow g S gap) (hok : LsOK S gap) {k : Nat} (hk : k < S.length) (v : Int) : MRow (kup g (2 + 64 * k + 3) v) (S.set k (w_lb (st_ln S k) v)) gap := by
  refine ⟨by rw [kup_ne (by omega), List.length_set]; exact h.len, by rw [kup_ne (by omega)]; exact h.gap, fun j hj => ?_⟩
  rw [List.length_set] at hj
  rw [st_ln_set hk]
  by_cases q : j = k
  · subst q
    rw [if_pos rfl]
    refine ⟨by rw [kup_ne (by omega)]; exact h.lv hj, by rw [kup_ne (by omega)]; exact h.bg hj, by rw [kup_ne (by omega)]; exact h.n hj, by rw [kup_self]; rfl, fun i hi => ?_⟩
    rw [kup_ne (by omega)]; exact h.d hj hi
  · rw [if_neg q]
    refine ⟨by rw [kup_ne (by omega)]; exact h.lv hj, by rw [kup_ne (by omega)]; exact h.bg hj, by rw [kup_ne (by omega)]; exact h.n hj, by rw [kup_ne (by omega)]; exact h.lb hj, fun i hi => ?_⟩
    have := (hok.ln hj).n
    rw [kup_ne (by omega)]; exact h.d hj hi
theorem MRow.setLv {g : Nat → Int} {S : Ls} {gap : Int} (h : MRow g S gap) (hok : LsOK S gap) {k : Nat} (hk : k < S.length) (v : Int) : MRow (kup (kup g (2 + 64 * k) v) (2 + 64 * k + 3) (-1)) (S.set k (w_lv (st_ln S k) v)) gap := by
  refine ⟨by rw [kup_ne (by omega), kup_ne (by omega), List.length_set]; exact h.len, by rw [kup_ne (by omega), kup_ne (by omega)]; exact h.gap, fun j hj => ?_⟩
  rw [List.length_set] at hj
  rw [st_ln_set hk]
  by_cases q : j = k
  · subst q
    rw [if_pos rfl]
    refine ⟨by rw [kup_ne (by omega), kup_self]; rfl, by rw [kup_ne (by omega), kup_ne (by omega)]; exact h.bg hj, by rw [kup_ne (by omega), kup_ne (by omega)]; exact h.n hj, by rw [kup_self]; rfl, fun i hi => ?_⟩
    rw [kup_ne (by omega), kup_ne (by omega)]; exact h.d hj hi
  · rw [if_neg q]
    refine ⟨by rw [kup_ne (by omega), kup_ne (by omega)]; exact h.lv hj, by rw [kup_ne (by omega), kup_ne (by omega)]; exact h.bg hj, by rw [kup_ne (by omega), kup_ne (by omega)]; exact h.n hj, by rw [kup_ne (by omega), kup_ne (by omega)]; exact h.lb hj, fun i hi => ?_⟩
    have := (hok.ln hj).n
    rw [kup_ne (by omega), kup_ne (by omega)]; exact h.d hj hi
theorem MRow.step {g : Nat → Int} {S : Ls} {gap : Int} (h : MRow g S gap) (hok : LsOK S gap) {k : Nat} (hk : k < S.length) (hn : ln_n (st_ln S k) < 60) (d : Int) : MRow (kup (kup g (2 + 64 * k + 4 + ln_n (st_ln S k)) d) (2 + 64 * k + 2) ((ln_n (st_ln S k) : Int) + 1)) (S.set k (w_step (st_ln S k) d)) gap := by
  refine ⟨by rw [kup_ne (by omega), kup_ne (by omega), List.length_set]; exact h.len, by rw [kup_ne (by omega), kup_ne (by omega)]; exact h.gap, fun j hj => ?_⟩
  rw [List.length_set] at hj
  rw [st_ln_set hk]
  by_cases q : j = k
  · subst q
    rw [if_pos rfl]
    refine ⟨by rw [kup_ne (by omega), kup_ne (by omega)]; exact h.lv hj, by rw [kup_ne (by omega), kup_ne (by omega)]; exact h.bg hj, by rw [kup_self, ln_n_step]; omega, by rw [kup_ne (by omega), kup_ne (by omega)]; exact h.lb hj, fun i hi => ?_⟩
    rw [ln_n_step] at hi
    rw [ln_d_step _ _ _ hi, kup_ne (by omega)]
    by_cases z : i = ln_n (st_ln S j)
    · subst z; rw [if_pos rfl, kup_self]
    · rw [if_neg z, kup_ne (by omega)]; exact h.d hj (by omega)
  · rw [if_neg q]
    have := (hok.ln hj).n
    refine ⟨by rw [kup_ne (by omega), kup_ne (by omega)]; exact h.lv hj, by rw [kup_ne (by omega), kup_ne (by omega)]; exact h.bg hj, by rw [kup_ne (by omega), kup_ne (by omega)]; exact h.n hj, by rw [kup_ne (by omega), kup_ne (by omega)]; exact h.lb hj, fun i hi => ?_⟩
    rw [kup_ne (by omega), kup_ne (by omega)]; exact h.d hj hi
theorem MRow.gapSet {g : Nat → Int} {S : Ls} {gap : Int} (h : MRow g S gap) (v : Int) : MRow (kup g 1 v) S v := by
  refine ⟨by rw [kup_ne (by omega)]; exact h.len, kup_self _ _ _, fun j hj => ?_⟩
  refine ⟨by rw [kup_ne (by omega)]; exact h.lv hj, by rw [kup_ne (by omega)]; exact h.bg hj, by rw [kup_ne (by omega)]; exact h.n hj, by rw [kup_ne (by omega)]; exact h.lb hj, fun i hi => ?_⟩
  rw [kup_ne (by omega)]; exact h.d hj hi
theorem MRow.push {g g2 : Nat → Int} {S : Ls} {gap : Int} (h : MRow g S gap) (hok : LsOK S gap) (lv bg : Int) (h0 : g2 0 = (S.length : Int) + 1) (h1 : g2 (2 + 64 * S.length) = lv) (h2 : g2 (2 + 64 * S.length + 1) = bg) (h3 : g2 (2 + 64 * S.length + 2) = 0) (h4 : g2 (2 + 64 * S.length + 3) = -1) (he : ∀ j, 0 < j → j < 2 + 64 * S.length → g2 j = g j) : MRow g2 (S ++ [w_new lv bg]) gap := by
  refine ⟨by rw [h0]; simp, by rw [he 1 (by omega) (by omega)]; exact h.gap, fun j hj => ?_⟩
  have hj : j < S.length + 1 := by simpa using hj
  rw [st_ln_push S _ j hj]
  by_cases q : j = S.length
  · subst q
    rw [if_pos rfl]
    exact ⟨h1, h2, h3, h4, fun i hi => absurd hi (Nat.not_lt_zero i)⟩
  · rw [if_neg q]
    have hj2 : j < S.length := by omega
    have := (hok.ln hj2).n
    refine ⟨by rw [he _ (by omega) (by omega)]; exact h.lv hj2, by rw [he _ (by omega) (by omega)]; exact h.bg hj2, by rw [he _ (by omega) (by omega)]; exact h.n hj2, by rw [he _ (by omega) (by omega)]; exact h.lb hj2, fun i hi => ?_⟩
    rw [he _ (by omega) (by omega)]; exact h.d hj2 hi
theorem MRow.erase {g g2 : Nat → Int} {S : Ls} {gap : Int} (h : MRow g S gap) (hok : LsOK S gap) {k : Nat} (hk : k < S.length) (h0 : g2 0 = (S.length : Int) - 1) (h1 : ∀ j, 0 < j → j < 2 + 64 * k → g2 j = g j) (h2 : ∀ j, 2 + 64 * k ≤ j → j < 450 → g2 j = g (j + 64)) : MRow g2 (S.eraseIdx k) gap := by
  have hl : (S.eraseIdx k).length = S.length - 1 := by rw [List.length_eraseIdx]; simp [hk]
  refine ⟨by rw [h0, hl]; omega, by rw [h1 1 (by omega) (by omega)]; exact h.gap, fun j hj => ?_⟩
  rw [hl] at hj
  rw [st_ln_erase]
  have h8 := hok.1
  by_cases q : j < k
  · rw [if_pos q]
    have hj2 : j < S.length := by omega
    have := (hok.ln hj2).n
    refine ⟨by rw [h1 _ (by omega) (by omega)]; exact h.lv hj2, by rw [h1 _ (by omega) (by omega)]; exact h.bg hj2, by rw [h1 _ (by omega) (by omega)]; exact h.n hj2, by rw [h1 _ (by omega) (by omega)]; exact h.lb hj2, fun i hi => ?_⟩
    rw [h1 _ (by omega) (by omega)]; exact h.d hj2 hi
  · rw [if_neg q]
    have hj2 : j + 1 < S.length := by omega
    have := (hok.ln hj2).n
    refine ⟨?_, ?_, ?_, ?_, fun i hi => ?_⟩
    · rw [h2 _ (by omega) (by omega), show 2 + 64 * j + 64 = 2 + 64 * (j + 1) by omega]; exact h.lv hj2
    · rw [h2 _ (by omega) (by omega), show 2 + 64 * j + 1 + 64 = 2 + 64 * (j + 1) + 1 by omega]; exact h.bg hj2
    · rw [h2 _ (by omega) (by omega), show 2 + 64 * j + 2 + 64 = 2 + 64 * (j + 1) + 2 by omega]; exact h.n hj2
    · rw [h2 _ (by omega) (by omega), show 2 + 64 * j + 3 + 64 = 2 + 64 * (j + 1) + 3 by omega]; exact h.lb hj2
    · rw [h2 _ (by omega) (by omega), show 2 + 64 * j + 4 + i + 64 = 2 + 64 * (j + 1) + 4 + i by omega]; exact h.d hj2 hi
-- what a refusal says
def ref_b (S : Ls) (x y : Int) : Int := if ¬ (0 ≤ y ∧ y ≤ 383) then 1 else if ¬ (0 ≤ x ∧ x ≤ 99) then 2 else if S.length = 8 ∨ st_owner S y ≠ -1 then 3 else 0
def ref_s (S : Ls) (x y : Int) : Int := if ¬ (0 ≤ x ∧ x < S.length) then 1 else if ¬ (0 ≤ y ∧ y ≤ 7) then 2 else if st_whyNot S x.toNat y > 0 then 3 else 0
def ref_w (S : Ls) (x : Int) : Int := if 0 ≤ x ∧ x < S.length then 0 else 1
def ref_l (S : Ls) (gap x y : Int) : Int := if ¬ (0 ≤ x ∧ x < S.length) then 1 else if ¬ (0 ≤ y ∧ y ≤ ln_n (st_ln S x.toNat)) then 1 else if st_whyL S gap x.toNat y.toNat > 0 then 2 else 0
def ref_u (S : Ls) (x : Int) : Int := if ¬ (0 ≤ x ∧ x < S.length) then 1 else if ln_lb (st_ln S x.toNat) = -1 then 2 else 0
def ref_best (S : Ls) (gap x : Int) : Int := if ¬ (0 ≤ x ∧ x < S.length) then 1 else if st_best S gap x.toNat = -1 then 2 else 0
def ref_g (x : Int) : Int := if 1 ≤ x ∧ x ≤ 6 then 0 else 1
-- the best place is a place
theorem st_bestTo_ok (S : Ls) (gap : Int) (l : Nat) : ∀ j : Nat, (st_bestTo S gap l j).1 = -1 ∨ (0 ≤ (st_bestTo S gap l j).1 ∧ (st_bestTo S gap l j).1 < j ∧ st_whyL S gap l (st_bestTo S gap l j).1.toNat = 0) := by
  intro j
  induction j with
  | zero => exact Or.inl rfl
  | succ j ih =>
    rw [st_bestTo]
    split
    · rename_i h
      split
      · right
        refine ⟨by show (0 : Int) ≤ (j : Int); omega, by show (j : Int) < _; omega, ?_⟩
        show st_whyL S gap l ((j : Int).toNat) = 0
        simpa using h
      · rcases ih with q | ⟨q1, q2, q3⟩
        · exact Or.inl q
        · exact Or.inr ⟨q1, by omega, q3⟩
    · rcases ih with q | ⟨q1, q2, q3⟩
      · exact Or.inl q
      · exact Or.inr ⟨q1, by omega, q3⟩
theorem st_best_ok (S : Ls) (gap : Int) (l : Nat) : st_best S gap l = -1 ∨ (0 ≤ st_best S gap l ∧ st_best S gap l ≤ ln_n (st_ln S l) ∧ st_whyL S gap l (st_best S gap l).toNat = 0 ∧ st_best S gap l + ln_size (st_ln S l) - 1 ≤ ln_n (st_ln S l)) := by
  rcases st_bestTo_ok S gap l (ln_n (st_ln S l) + 1) with h | ⟨h1, h2, h3⟩
  · exact Or.inl h
  · right
    have h4 := ln_isPlace_le (st_whyL_place h3)
    unfold st_best
    refine ⟨h1, by omega, h3, by omega⟩
-- label all
def st_clTo (S : Ls) : Nat → Ls
  | 0 => S
  | i + 1 => (st_clTo S i).set i (w_lb (st_ln (st_clTo S i) i) (-1))
def st_laTo (S : Ls) (gap : Int) : Nat → Ls
  | 0 => st_clTo S S.length
  | i + 1 => (st_laTo S gap i).set (st_byLv (st_laTo S gap i) i).toNat (w_lb (st_ln (st_laTo S gap i) (st_byLv (st_laTo S gap i) i).toNat) (st_best (st_laTo S gap i) gap (st_byLv (st_laTo S gap i) i).toNat))
def st_la (S : Ls) (gap : Int) : Ls := st_laTo S gap S.length
theorem st_clTo_len (S : Ls) (i : Nat) : (st_clTo S i).length = S.length := by
  induction i with
  | zero => rfl
  | succ i ih => rw [st_clTo, List.length_set, ih]
theorem st_laTo_len (S : Ls) (gap : Int) (i : Nat) : (st_laTo S gap i).length = S.length := by
  induction i with
  | zero => exact st_clTo_len S _
  | succ i ih => rw [st_laTo, List.length_set, ih]
