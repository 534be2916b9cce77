/-! MATH 11: the whole text; orders carried out -/
theorem rdW_place {gt : Nat → Int} {t : List Int} (hT : MTx gt t) (i : Nat) : i ≤ (rdW t i).2.1 ∧ (rdW t i).2.1 ≤ max i t.length ∧ ((rdW t i).1 = true → i < (rdW t i).2.1) := by
  by_cases hz : tsg t i = 0
  · have e : rdW t i = (false, i, (i : Int), 0) := by
      rw [rdW, if_neg (by omega), if_neg (by omega), if_neg (by omega), if_neg (by omega), if_neg (by omega), if_neg (by omega)]
    rw [e]
    refine ⟨Nat.le_refl _, Nat.le_max_left _ _, fun q => absurd q Bool.false_ne_true⟩
  · have hr := hT.rng i
    have hi := hT.lt (i := i) (by omega)
    have hmx : max i t.length = t.length := by omega
    rw [hmx]
    have one : ∀ (least most : Int), i ≤ (rdW.rdOne t i least most).2.1 ∧ (rdW.rdOne t i least most).2.1 ≤ t.length ∧ ((rdW.rdOne t i least most).1 = true → i < (rdW.rdOne t i least most).2.1) := by
      intro least most
      rw [rdW.rdOne]
      split
      · rename_i h
        obtain ⟨h1, h2⟩ := h
        have h3 := hT.lt (i := i + 1) (by omega)
        have h4 := tx_num_place most h3
        refine ⟨by show i ≤ (tx_num t most (i + 1)).2; omega, by show (tx_num t most (i + 1)).2 ≤ _; omega, fun _ => by show i < (tx_num t most (i + 1)).2; omega⟩
      · exact ⟨by show i ≤ i + 1; omega, by show i + 1 ≤ _; omega, fun q => absurd q Bool.false_ne_true⟩
    have two : ∀ (most want most2 : Int), 0 < want → i ≤ (rdW.rdTwo t i most want most2).2.1 ∧ (rdW.rdTwo t i most want most2).2.1 ≤ t.length ∧ ((rdW.rdTwo t i most want most2).1 = true → i < (rdW.rdTwo t i most want most2).2.1) := by
      intro most want most2 hw
      rw [rdW.rdTwo]
      split
      · rename_i h
        obtain ⟨h1, h2⟩ := h
        have h3 := hT.lt (i := i + 1) (by omega)
        have h4 := tx_num_place most h3
        split
        · rename_i h5
          have h6 := hT.lt (i := (tx_num t most (i + 1)).2) (by omega)
          split
          · rename_i h7
            obtain ⟨h8, h9⟩ := h7
            have h10 := hT.lt (i := (tx_num t most (i + 1)).2 + 1) (by omega)
            have h11 := tx_num_place most2 h10
            refine ⟨by show i ≤ (tx_num t most2 ((tx_num t most (i + 1)).2 + 1)).2; omega, by show (tx_num t most2 ((tx_num t most (i + 1)).2 + 1)).2 ≤ _; omega, fun _ => by show i < (tx_num t most2 ((tx_num t most (i + 1)).2 + 1)).2; omega⟩
          · exact ⟨by show i ≤ (tx_num t most (i + 1)).2 + 1; omega, by show (tx_num t most (i + 1)).2 + 1 ≤ _; omega, fun q => absurd q Bool.false_ne_true⟩
        · exact ⟨by show i ≤ (tx_num t most (i + 1)).2; omega, by show (tx_num t most (i + 1)).2 ≤ _; omega, fun q => absurd q Bool.false_ne_true⟩
      · exact ⟨by show i ≤ i + 1; omega, by show i + 1 ≤ _; omega, fun q => absurd q Bool.false_ne_true⟩
    rw [rdW]
    split
    · have := tx_cnt_place hT 20 (i + 1) hi
      refine ⟨by show i ≤ i + 1 + tx_cnt t (i + 1) 20; omega, by show i + 1 + tx_cnt t (i + 1) 20 ≤ _; omega, fun _ => by show i < i + 1 + tx_cnt t (i + 1) 20; omega⟩
    · split
      · exact ⟨by show i ≤ i + 1; omega, by show i + 1 ≤ _; omega, fun _ => by show i < i + 1; omega⟩
      · split
        · exact two _ _ _ (by omega)
        · split
          · exact two _ _ _ (by omega)
          · split
            · exact one _ _
            · split
              · exact one _ _
              · exact ⟨Nat.le_refl _, by show i ≤ _; omega, fun q => absurd q Bool.false_ne_true⟩
theorem tx_num_val {t : List Int} {lo most : Int} {i : Nat} (hm : 0 ≤ most) (h : tx_numOK t lo most i) : (tx_num t most i).1 ≤ most ∧ 0 ≤ (tx_num t most i).1 := by
  have := tx_nl_val t most hm (t.length - (i + 1)) (i + 1) (tsg t i - 48) (by obtain ⟨h1, h2⟩ := h; omega) (by obtain ⟨h1, h2⟩ := h; omega)
  unfold tx_num
  omega
theorem tx_nl_low (t : List Int) (most lo : Int) (hl : lo ≤ 9) (hl0 : 0 ≤ lo) : ∀ (f i : Nat) (v : Int), lo ≤ v → lo ≤ (tx_nl t most f i v).1 := by
  intro f
  induction f with
  | zero => intro i v h1; exact h1
  | succ f ih =>
    intro i v h1
    rw [tx_nl]
    split
    · exact ih _ _ (by omega)
    · exact h1
/-- what a well read order is -/
theorem rdW_spec {gt : Nat → Int} {t : List Int} (hT : MTx gt t) {i e : Nat} {fi se : Int} (h : rdW t i = (true, e, fi, se)) :
    (tsg t i = 110 ∧ (0 ≤ fi ∧ fi ≤ 99) ∧ 0 ≤ se ∧ se ≤ 383) ∨ (tsg t i = 115 ∧ fi = ((i + 1 : Nat) : Int) ∧ se = (tx_cnt t (i + 1) 20 : Int) ∧ (48 ≤ tsg t (i + 1) ∧ tsg t (i + 1) ≤ 55)) ∨ (tsg t i = 119 ∧ (0 ≤ fi ∧ fi ≤ 7) ∧ se = 0) ∨ (tsg t i = 108 ∧ (0 ≤ fi ∧ fi ≤ 7) ∧ 0 ≤ se ∧ se ≤ 59) ∨ (tsg t i = 117 ∧ (0 ≤ fi ∧ fi ≤ 7) ∧ se = 0) ∨ (tsg t i = 98 ∧ (0 ≤ fi ∧ fi ≤ 7) ∧ se = 0) ∨ (tsg t i = 97 ∧ fi = ((i + 1 : Nat) : Int) ∧ se = 0) ∨ (tsg t i = 103 ∧ (1 ≤ fi ∧ fi ≤ 6) ∧ se = 0) := by
  have one : ∀ (least most : Int), 0 ≤ least → least ≤ 9 → 0 ≤ most → rdW.rdOne t i least most = (true, e, fi, se) → (least ≤ fi ∧ fi ≤ most) ∧ se = 0 := by
    intro least most hl hl9 hm hh
    rw [rdW.rdOne] at hh
    split at hh
    · rename_i q
      have h1 := tx_num_val hm q
      simp only [Prod.mk.injEq, true_and] at hh
      obtain ⟨q1, q2⟩ := q
      have h2 := tx_nl_low t most least hl9 hl (t.length - (i + 1 + 1)) (i + 1 + 1) (tsg t (i + 1) - 48) (by omega)
      have h3 : (tx_num t most (i + 1)).1 = (tx_nl t most (t.length - (i + 1 + 1)) (i + 1 + 1) (tsg t (i + 1) - 48)).1 := rfl
      omega
    · simp at hh
  have two : ∀ (most want most2 : Int), 0 ≤ most → 0 ≤ most2 → rdW.rdTwo t i most want most2 = (true, e, fi, se) → (0 ≤ fi ∧ fi ≤ most) ∧ 0 ≤ se ∧ se ≤ most2 := by
    intro most want most2 hm hm2 hh
    rw [rdW.rdTwo] at hh
    split at hh
    · rename_i q
      have h1 := tx_num_val hm q
      split at hh
      · split at hh
        · rename_i q2
          have h2 := tx_num_val hm2 q2
          simp only [Prod.mk.injEq, true_and] at hh
          omega
        · simp at hh
      · simp at hh
    · simp at hh
  rw [rdW] at h
  split at h
  · rename_i hh
    simp only [Prod.mk.injEq, decide_eq_true_eq] at h
    exact Or.inr (Or.inl ⟨hh, by omega, by omega, h.1⟩)
  · split at h
    · rename_i hh
      simp only [Prod.mk.injEq, true_and] at h
      exact Or.inr (Or.inr (Or.inr (Or.inr (Or.inr (Or.inr (Or.inl ⟨hh, by omega, by omega⟩))))))
    · split at h
      · rename_i hh
        have := two _ _ _ (by omega) (by omega) h
        exact Or.inl ⟨hh, this.1, this.2⟩
      · split at h
        · rename_i hh
          have := two _ _ _ (by omega) (by omega) h
          exact Or.inr (Or.inr (Or.inr (Or.inl ⟨hh, this.1, this.2⟩)))
        · split at h
          · rename_i hh
            have := one _ _ (by omega) (by omega) (by omega) h
            rcases hh with q | q | q
            · exact Or.inr (Or.inr (Or.inl ⟨q, this⟩))
            · exact Or.inr (Or.inr (Or.inr (Or.inr (Or.inl ⟨q, this⟩))))
            · exact Or.inr (Or.inr (Or.inr (Or.inr (Or.inr (Or.inl ⟨q, this⟩)))))
          · split at h
            · rename_i hh
              have := one _ _ (by omega) (by omega) (by omega) h
              exact Or.inr (Or.inr (Or.inr (Or.inr (Or.inr (Or.inr (Or.inr ⟨hh, this⟩))))))
            · simp at h
def tx_lp (t : List Int) : Nat → Bool → Nat → Bool × Nat
  | 0, w, i => (w, i)
  | f + 1, w, i => if w = true ∧ i < t.length then (if tsg t i = 59 then tx_lp t f (rdW t (i + 1)).1 (rdW t (i + 1)).2.1 else (false, i)) else (w, i)
def tx_all (t : List Int) : Bool × Nat := tx_lp t (t.length + 1) (rdW t 0).1 (rdW t 0).2.1
theorem tx_lp_stop (t : List Int) (f : Nat) (w : Bool) (i : Nat) (h : ¬ (w = true ∧ i < t.length)) : tx_lp t f w i = (w, i) := by
  cases f with
  | zero => rfl
  | succ f => rw [tx_lp, if_neg h]
/-- steps of the last line -/
def ex_st (t : List Int) : Nat → Nat → Ls → Bool × Ls
  | 0, _, S => (true, S)
  | c + 1, k, S => if ref_s S ((S.length : Int) - 1) (tsg t k - 48) = 0 then ex_st t c (k + 1) (S.set (S.length - 1) (w_step (st_ln S (S.length - 1)) (tsg t k - 48))) else (false, S)
/-- an order carried out: could it be, and what is then -/
def ex_one (t : List Int) (le fi se : Int) (S : Ls) (gap : Int) : Bool × Ls × Int :=
  if le = 115 then (if 0 < S.length then ((ex_st t se.toNat fi.toNat S).1, (ex_st t se.toNat fi.toNat S).2, gap) else (false, S, gap))
  else if le = 110 then (if ref_b S fi se = 0 then (true, S ++ [w_new fi se], gap) else (false, S, gap))
  else if le = 119 then (if ref_w S fi = 0 then (true, S.eraseIdx fi.toNat, gap) else (false, S, gap))
  else if le = 108 then (if ref_l S gap fi se = 0 then (true, S.set fi.toNat (w_lb (st_ln S fi.toNat) se), gap) else (false, S, gap))
  else if le = 117 then (if ref_u S fi = 0 then (true, S.set fi.toNat (w_lb (st_ln S fi.toNat) (-1)), gap) else (false, S, gap))
  else if le = 98 then (if ref_best S gap fi = 0 then (true, S.set fi.toNat (w_lb (st_ln S fi.toNat) (st_best S gap fi.toNat)), gap) else (false, S, gap))
  else if le = 97 then (true, st_la S gap, gap)
  else (if ref_g fi = 0 then (true, S, fi) else (false, S, gap))
theorem st_whyNot_0 {S : Ls} {l : Nat} {d : Int} (h : st_whyNot S l d = 0) : ln_n (st_ln S l) ≠ 60 ∧ nx (ln_end (st_ln S l)) d ≠ -1 := by
  unfold st_whyNot at h
  split at h
  · omega
  · split at h
    · omega
    · split at h
      · omega
      · exact ⟨by assumption, by assumption⟩
theorem ref_s_0 {S : Ls} {gap x y : Int} (hok : LsOK S gap) (h : ref_s S x y = 0) : (0 ≤ x ∧ x < S.length) ∧ (0 ≤ y ∧ y ≤ 7) ∧ ln_n (st_ln S x.toNat) < 60 ∧ nx (ln_end (st_ln S x.toNat)) y ≠ -1 := by
  unfold ref_s at h
  split at h
  · omega
  · split at h
    · omega
    · split at h
      · omega
      · have h1 := st_whyNot_rng S x.toNat y
        have h2 := st_whyNot_0 (S := S) (l := x.toNat) (d := y) (by omega)
        have h3 := (hok.ln (k := x.toNat) (by omega)).n
        exact ⟨by omega, by omega, by omega, h2.2⟩
theorem ref_l_0 {S : Ls} {gap x y : Int} (h : ref_l S gap x y = 0) : (0 ≤ x ∧ x < S.length) ∧ (0 ≤ y ∧ y ≤ ln_n (st_ln S x.toNat)) ∧ st_whyL S gap x.toNat y.toNat = 0 ∧ y + ln_size (st_ln S x.toNat) - 1 ≤ ln_n (st_ln S x.toNat) := by
  unfold ref_l at h
  split at h
  · omega
  · split at h
    · omega
    · split at h
      · omega
      · have h1 := st_whyL_rng S gap x.toNat y.toNat
        have h2 : st_whyL S gap x.toNat y.toNat = 0 := by omega
        have h3 := ln_isPlace_le (st_whyL_place h2)
        exact ⟨by omega, by omega, h2, by omega⟩
theorem ref_b_0 {S : Ls} {gap x y : Int} (hok : LsOK S gap) (h : ref_b S x y = 0) : (0 ≤ y ∧ y ≤ 383) ∧ (0 ≤ x ∧ x ≤ 99) ∧ S.length < 8 ∧ st_owner S y = -1 := by
  unfold ref_b at h
  have := hok.1
  split at h
  · omega
  · split at h
    · omega
    · split at h
      · omega
      · rename_i q1 q2 q3
        have q3 : ¬ (S.length = 8 ∨ st_owner S y ≠ -1) := q3
        refine ⟨by omega, by omega, by omega, ?_⟩
        exact Classical.byContradiction fun z => q3 (Or.inr z)
theorem ref_w_0 {S : Ls} {x : Int} (h : ref_w S x = 0) : 0 ≤ x ∧ x < S.length := by
  unfold ref_w at h
  split at h
  · assumption
  · omega
theorem ref_u_0 {S : Ls} {x : Int} (h : ref_u S x = 0) : (0 ≤ x ∧ x < S.length) ∧ ln_lb (st_ln S x.toNat) ≠ -1 := by
  unfold ref_u at h
  split at h
  · omega
  · split at h
    · omega
    · exact ⟨by omega, by assumption⟩
theorem ref_best_0 {S : Ls} {gap x : Int} (h : ref_best S gap x = 0) : (0 ≤ x ∧ x < S.length) ∧ st_best S gap x.toNat ≠ -1 := by
  unfold ref_best at h
  split at h
  · omega
  · split at h
    · omega
    · exact ⟨by omega, by assumption⟩
theorem ref_g_0 {x : Int} (h : ref_g x = 0) : 1 ≤ x ∧ x ≤ 6 := by
  unfold ref_g at h
  split at h
  · assumption
  · omega
theorem LsOK.exSt {S : Ls} {gap x y : Int} (hok : LsOK S gap) (h : ref_s S x y = 0) : LsOK (S.set x.toNat (w_step (st_ln S x.toNat) y)) gap := by
  obtain ⟨h1, h2, h3, h4⟩ := ref_s_0 hok h
  have hl : x.toNat < S.length := by omega
  exact hok.set hl ((hok.ln hl).step h2 h3 h4)
theorem ref_rng_s (S : Ls) (x y : Int) : 0 ≤ ref_s S x y ∧ ref_s S x y ≤ 3 := by unfold ref_s; split; omega; split; omega; split <;> omega
theorem ref_rng_b (S : Ls) (x y : Int) : 0 ≤ ref_b S x y ∧ ref_b S x y ≤ 3 := by unfold ref_b; split; omega; split; omega; split <;> omega
theorem ref_rng_w (S : Ls) (x : Int) : 0 ≤ ref_w S x ∧ ref_w S x ≤ 3 := by unfold ref_w; split <;> omega
theorem ref_rng_l (S : Ls) (gap x y : Int) : 0 ≤ ref_l S gap x y ∧ ref_l S gap x y ≤ 3 := by unfold ref_l; split; omega; split; omega; split <;> omega
theorem ref_rng_u (S : Ls) (x : Int) : 0 ≤ ref_u S x ∧ ref_u S x ≤ 3 := by unfold ref_u; split; omega; split <;> omega
theorem ref_rng_best (S : Ls) (gap x : Int) : 0 ≤ ref_best S gap x ∧ ref_best S gap x ≤ 3 := by unfold ref_best; split; omega; split <;> omega
theorem ref_rng_g (x : Int) : 0 ≤ ref_g x ∧ ref_g x ≤ 3 := by unfold ref_g; split <;> omega
