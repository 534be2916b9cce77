/-! MATH 5: the order of levels -/
def st_key (S : Ls) (k : Nat) : Int := 8 * ln_lv (st_ln S k) + k
def st_ord (S : Ls) : List Nat := (List.range S.length).mergeSort (fun a b => decide (st_key S a ≤ st_key S b))
theorem st_ord_perm (S : Ls) : (st_ord S).Perm (List.range S.length) := List.mergeSort_perm _ _
theorem st_ord_len (S : Ls) : (st_ord S).length = S.length := by rw [(st_ord_perm S).length_eq, List.length_range]
theorem st_ord_mem (S : Ls) (k : Nat) : k ∈ st_ord S ↔ k < S.length := by rw [(st_ord_perm S).mem_iff, List.mem_range]
theorem st_ord_nodup (S : Ls) : (st_ord S).Nodup := (st_ord_perm S).nodup_iff.mpr List.nodup_range
theorem st_ord_sorted (S : Ls) : (st_ord S).Pairwise (fun a b => st_key S a ≤ st_key S b) := by
  have h := List.pairwise_mergeSort (le := fun a b => decide (st_key S a ≤ st_key S b)) (fun a b c h1 h2 => by simp only [decide_eq_true_eq] at *; omega) (fun a b => by simp only [Bool.or_eq_true, decide_eq_true_eq]; omega) (List.range S.length)
  exact h.imp (fun q => by simpa using q)
theorem st_key_inj {S : Ls} {a b : Nat} (ha : a < 8) (hb : b < 8) (h : st_key S a = st_key S b) : a = b := by unfold st_key at h; omega
theorem st_ahead_key {S : Ls} {a b : Nat} (ha : a < 8) (hb : b < 8) : st_ahead S a b = decide (st_key S b < st_key S a) := by
  unfold st_ahead st_key
  rw [Bool.eq_iff_iff]
  simp only [Bool.or_eq_true, Bool.and_eq_true, decide_eq_true_eq]
  omega
theorem st_aheadTo_count (S : Ls) (i : Nat) : ∀ o : Nat, st_aheadTo S i o = ((List.range o).countP (fun b => st_ahead S i b) : Int) := by
  intro o
  induction o with
  | zero => rfl
  | succ o ih =>
    rw [st_aheadTo, ih, List.range_succ, List.countP_append, List.countP_singleton]
    split <;> simp [*]
theorem st_rank {S : Ls} (h8 : S.length ≤ 8) {p : Nat} (hp : p < S.length) : st_aheadTo S ((st_ord S)[p]'(by rw [st_ord_len]; exact hp)) S.length = p := by
  have hl := st_ord_len S
  have hpl : p < (st_ord S).length := by omega
  have hm : ∀ k, k ∈ st_ord S → k < 8 := fun k hk => by have := (st_ord_mem S k).mp hk; omega
  have hsplit : st_ord S = (st_ord S).take p ++ (st_ord S)[p] :: (st_ord S).drop (p + 1) := by
    rw [← List.drop_eq_getElem_cons hpl, List.take_append_drop]
  have hnd := st_ord_nodup S
  have hso := st_ord_sorted S
  rw [st_aheadTo_count, ← (st_ord_perm S).countP_eq]
  generalize hx : (st_ord S)[p] = x at hsplit ⊢
  have hx8 : x < 8 := by rw [← hx]; exact hm _ (List.getElem_mem _)
  rw [hsplit, List.pairwise_append] at hso
  rw [hsplit, List.nodup_append] at hnd
  rw [hsplit, List.countP_append, List.countP_cons]
  have h1 : ((st_ord S).take p).countP (fun b => st_ahead S x b) = ((st_ord S).take p).length := by
    rw [List.countP_eq_length]
    intro b hb
    have hb8 := hm b (List.mem_of_mem_take hb)
    have q1 := hso.2.2 b hb x List.mem_cons_self
    have q2 := hnd.2.2 b hb x List.mem_cons_self
    rw [st_ahead_key hx8 hb8, decide_eq_true_eq]
    have : st_key S b ≠ st_key S x := fun z => q2 (st_key_inj hb8 hx8 z)
    omega
  have h2 : ((st_ord S).drop (p + 1)).countP (fun b => st_ahead S x b) = 0 := by
    rw [List.countP_eq_zero]
    intro b hb
    have hb8 := hm b (List.mem_of_mem_drop hb)
    have q1 := (List.pairwise_cons.mp hso.2.1).1 b hb
    rw [st_ahead_key hx8 hb8, decide_eq_true_eq]
    omega
  rw [h1, h2, st_ahead_key hx8 hx8, if_neg (by simp), List.length_take]
  omega
theorem st_aheadTo_inj {S : Ls} (h8 : S.length ≤ 8) {i j : Nat} (hi : i < S.length) (hj : j < S.length) (h : st_aheadTo S i S.length = st_aheadTo S j S.length) : i = j := by
  have hi2 := (st_ord_mem S i).mpr hi
  have hj2 := (st_ord_mem S j).mpr hj
  obtain ⟨a, ha, ea⟩ := List.getElem_of_mem hi2
  obtain ⟨b, hb, eb⟩ := List.getElem_of_mem hj2
  have h1 := st_rank h8 (p := a) (by rw [st_ord_len] at ha; exact ha)
  have h2 := st_rank h8 (p := b) (by rw [st_ord_len] at hb; exact hb)
  rw [ea] at h1
  rw [eb] at h2
  have : a = b := by omega
  subst this
  rw [← ea, ← eb]
theorem st_byLvTo_hit {S : Ls} (h8 : S.length ≤ 8) {pl : Int} {x : Nat} (hx : x < S.length) (hr : st_aheadTo S x S.length = pl) : ∀ i : Nat, i ≤ S.length → st_byLvTo S pl i = if x < i then (x : Int) else -1 := by
  intro i
  induction i with
  | zero => intro _; rfl
  | succ i ih =>
    intro hi
    rw [st_byLvTo, ih (by omega)]
    by_cases q : i = x
    · subst q
      rw [if_pos hr, if_pos (by omega)]
    · rw [if_neg (fun z => q (st_aheadTo_inj h8 (by omega) hx (z.trans hr.symm)))]
      by_cases w : x < i
      · rw [if_pos w, if_pos (by omega)]
      · rw [if_neg w, if_neg (by omega)]
/-- the line at a place in the order of levels -/
theorem st_byLv_ord {S : Ls} (h8 : S.length ≤ 8) {p : Nat} (hp : p < S.length) : st_byLv S p = (((st_ord S).getD p 0 : Nat) : Int) ∧ (st_ord S).getD p 0 < S.length := by
  have hpl : p < (st_ord S).length := by rw [st_ord_len]; exact hp
  have hx : (st_ord S)[p] < S.length := (st_ord_mem S _).mp (List.getElem_mem _)
  have h1 := st_byLvTo_hit h8 hx (st_rank h8 hp) S.length (Nat.le_refl _)
  rw [if_pos hx] at h1
  rw [List.getD_eq_getElem?_getD, List.getElem?_eq_getElem hpl]
  exact ⟨h1, hx⟩
-- labels do not move the order
theorem st_lv_lb {S : Ls} {k : Nat} (hk : k < S.length) (v : Int) (j : Nat) : ln_lv (st_ln (S.set k (w_lb (st_ln S k) v)) j) = ln_lv (st_ln S j) := by
  rw [st_ln_set hk]
  split
  · rename_i h; subst h; rfl
  · rfl
theorem LsOK.clTo {S : Ls} {gap : Int} (h : LsOK S gap) : ∀ i : Nat, i ≤ S.length → LsOK (st_clTo S i) gap := by
  intro i
  induction i with
  | zero => intro _; exact h
  | succ i ih =>
    intro hi
    have h1 := ih (by omega)
    have hl : i < (st_clTo S i).length := by rw [st_clTo_len]; omega
    rw [st_clTo]
    exact h1.set hl ((h1.ln hl).setLb (Or.inl rfl))
theorem LsOK.laTo {S : Ls} {gap : Int} (h : LsOK S gap) : ∀ i : Nat, i ≤ S.length → LsOK (st_laTo S gap i) gap := by
  intro i
  induction i with
  | zero => intro _; exact h.clTo _ (Nat.le_refl _)
  | succ i ih =>
    intro hi
    have h1 := ih (by omega)
    have hll := st_laTo_len S gap i
    have hb := st_byLv_ord h1.1 (p := i) (by omega)
    have hl : (st_byLv (st_laTo S gap i) i).toNat < (st_laTo S gap i).length := by rw [hb.1]; have := hb.2; omega
    rw [st_laTo]
    refine h1.set hl ((h1.ln hl).setLb ?_)
    rcases st_best_ok (st_laTo S gap i) gap (st_byLv (st_laTo S gap i) i).toNat with q | ⟨q1, q2, q3, q4⟩
    · exact Or.inl q
    · exact Or.inr ⟨q1, q4⟩
theorem LsOK.la {S : Ls} {gap : Int} (h : LsOK S gap) : LsOK (st_la S gap) gap := h.laTo _ (Nat.le_refl _)
