/-! MATH 1: the mathematical value that both sides are tied to -/
set_option maxRecDepth 100000
/-- a line: its level, the place of its label (-1: none), its first point, its steps -/
abbrev Ln : Type := Int × Int × Int × List Int
def ln_lv (L : Ln) : Int := L.1
def ln_lb (L : Ln) : Int := L.2.1
def ln_bg (L : Ln) : Int := L.2.2.1
def ln_ds (L : Ln) : List Int := L.2.2.2
def ln_n (L : Ln) : Nat := (ln_ds L).length
def ln_d (L : Ln) (k : Nat) : Int := (ln_ds L).getD k 0
def ac (d : Int) : Int := ([1, 1, 0, -1, -1, -1, 0, 1] : List Int).getD d.toNat 0
def dn (d : Int) : Int := ([0, 1, 1, 1, 0, -1, -1, -1] : List Int).getD d.toNat 0
def nx (p d : Int) : Int := if 0 ≤ p % 24 + ac d ∧ p % 24 + ac d < 24 ∧ 0 ≤ p / 24 + dn d ∧ p / 24 + dn d < 16 then 24 * (p / 24 + dn d) + (p % 24 + ac d) else -1
def ln_pos (L : Ln) : Nat → Int
  | 0 => ln_bg L
  | k + 1 => ln_pos L k + (24 * dn (ln_d L k) + ac (ln_d L k))
def ln_end (L : Ln) : Int := ln_pos L (ln_n L)
def ln_cl (L : Ln) : Bool := decide (0 < ln_n L) && decide (ln_end L = ln_bg L)
def ln_hasTo (L : Ln) (p : Int) : Nat → Bool
  | 0 => false
  | k + 1 => ln_hasTo L p k || decide (ln_pos L k = p)
def ln_has (L : Ln) (p : Int) : Bool := ln_hasTo L p (ln_n L + 1)
def ln_stepTo (L : Ln) (a b : Int) : Nat → Bool
  | 0 => false
  | k + 1 => ln_stepTo L a b k || (decide (ln_pos L k = a) && decide (ln_pos L (k + 1) = b) || decide (ln_pos L k = b) && decide (ln_pos L (k + 1) = a))
def ln_step (L : Ln) (a b : Int) : Bool := ln_stepTo L a b (ln_n L)
/-- the first i from i0 on, among f, with P; -1 if none -/
def firstIdx (P : Nat → Bool) : Nat → Nat → Int
  | 0, _ => -1
  | f + 1, i => if P i = true then (i : Int) else firstIdx P f (i + 1)
abbrev Ls : Type := List Ln
def st_ln (S : Ls) (k : Nat) : Ln := S.getD k (0, -1, 0, [])
def st_owner (S : Ls) (p : Int) : Int := firstIdx (fun k => ln_has (st_ln S k) p) S.length 0
def st_stepTo (S : Ls) (a b : Int) : Nat → Bool
  | 0 => false
  | i + 1 => st_stepTo S a b i || ln_step (st_ln S i) a b
def st_step (S : Ls) (a b : Int) : Bool := st_stepTo S a b S.length
def st_whyNot (S : Ls) (l : Nat) (d : Int) : Int :=
  if ln_cl (st_ln S l) = true then 1
  else if ln_n (st_ln S l) = 60 then 2
  else if nx (ln_end (st_ln S l)) d = -1 then 3
  else if st_owner S (nx (ln_end (st_ln S l)) d) ≠ -1 ∧ ¬ (nx (ln_end (st_ln S l)) d = ln_bg (st_ln S l) ∧ 3 ≤ ln_n (st_ln S l)) then 4
  else if d % 2 = 1 ∧ st_step S (ln_end (st_ln S l) + ac d) (ln_end (st_ln S l) + 24 * dn d) = true then 5
  else 0
def turn (a b : Int) : Int := if (if a < b then b - a else a - b) < 8 - (if a < b then b - a else a - b) then (if a < b then b - a else a - b) else 8 - (if a < b then b - a else a - b)
def ln_bend (L : Ln) (k : Nat) : Int :=
  if 0 < k ∧ k < ln_n L then turn (ln_d L (k - 1)) (ln_d L k) else if ln_cl L = true then turn (ln_d L (ln_n L - 1)) (ln_d L 0) else 0
def ln_size (L : Ln) : Nat := if ln_lv L < 10 then 2 else 3
/-- the greatest number that the last point of a place can have -/
def ln_last (L : Ln) : Int := (ln_n L : Int) - (if ln_cl L = true then 1 else 0)
def ln_isPlace (L : Ln) (p : Int) : Bool := decide (p + ln_size L - 1 ≤ ln_last L)
def ln_bendsTo (L : Ln) (p : Int) : Nat → Int
  | 0 => 0
  | j + 1 => ln_bendsTo L p j + (if 0 ≤ p - 1 + j ∧ p - 1 + j ≤ ln_n L then ln_bend L (p - 1 + j).toNat else 0)
def ln_bends (L : Ln) (p : Int) : Int := ln_bendsTo L p (ln_size L + 2)
def apart (a b : Int) : Int := if a < b then b - a else a - b
def far (a b : Int) : Int := if apart (a % 24) (b % 24) > apart (a / 24) (b / 24) then apart (a % 24) (b % 24) else apart (a / 24) (b / 24)
def lesser (a b : Int) : Int := if a < b then a else b
def btIn (x : Int) (M : Ln) (q : Nat) (acc : Int) : Nat → Int
  | 0 => acc
  | j + 1 => lesser (far x (ln_pos M (q + j))) (btIn x M q acc j)
def btOut (L : Ln) (p : Nat) (M : Ln) (q : Nat) : Nat → Int
  | 0 => 99
  | i + 1 => btIn (ln_pos L (p + i)) M q (btOut L p M q i) (ln_size M)
def between (L : Ln) (p : Nat) (M : Ln) (q : Nat) : Int := btOut L p M q (ln_size L)
def st_freeTo (S : Ls) (l p : Nat) : Nat → Int
  | 0 => 99
  | o + 1 => lesser (if o ≠ l ∧ ln_lb (st_ln S o) ≠ -1 then between (st_ln S l) p (st_ln S o) (ln_lb (st_ln S o)).toNat else 99) (st_freeTo S l p o)
def st_free (S : Ls) (l p : Nat) : Int := st_freeTo S l p S.length
def ln_stands (L : Ln) (p : Nat) : Bool := decide (apart (ln_pos L p / 24) (ln_pos L (p + ln_size L - 1) / 24) > apart (ln_pos L p % 24) (ln_pos L (p + ln_size L - 1) % 24))
def st_whyL (S : Ls) (gap : Int) (l p : Nat) : Int :=
  if ln_isPlace (st_ln S l) p = false then 1
  else if ln_bends (st_ln S l) p > 1 then 2
  else if ln_stands (st_ln S l) p = true then 3
  else if st_free S l p < gap then 4
  else 0
/-- the best place among the first j: the place, its bend, how free it is -/
def st_bestTo (S : Ls) (gap : Int) (l : Nat) : Nat → Int × Int × Int
  | 0 => (-1, 0, 0)
  | j + 1 =>
    if st_whyL S gap l j = 0 then
      if (st_bestTo S gap l j).1 = -1 ∨ ln_bends (st_ln S l) j < (st_bestTo S gap l j).2.1 ∨ ln_bends (st_ln S l) j = (st_bestTo S gap l j).2.1 ∧ st_free S l j > (st_bestTo S gap l j).2.2
      then ((j : Int), ln_bends (st_ln S l) j, st_free S l j) else st_bestTo S gap l j
    else st_bestTo S gap l j
def st_best (S : Ls) (gap : Int) (l : Nat) : Int := (st_bestTo S gap l (ln_n (st_ln S l) + 1)).1
def st_labTo (S : Ls) : Nat → Int
  | 0 => 0
  | i + 1 => st_labTo S i + (if ln_lb (st_ln S i) ≠ -1 then 1 else 0)
def st_lab (S : Ls) : Int := st_labTo S S.length
def st_ahead (S : Ls) (i o : Nat) : Bool := decide (ln_lv (st_ln S o) < ln_lv (st_ln S i)) || (decide (ln_lv (st_ln S o) = ln_lv (st_ln S i)) && decide (o < i))
def st_aheadTo (S : Ls) (i : Nat) : Nat → Int
  | 0 => 0
  | o + 1 => st_aheadTo S i o + (if st_ahead S i o = true then 1 else 0)
def st_byLvTo (S : Ls) (place : Int) : Nat → Int
  | 0 => -1
  | i + 1 => if st_aheadTo S i S.length = place then (i : Int) else st_byLvTo S place i
def st_byLv (S : Ls) (place : Int) : Int := st_byLvTo S place S.length
/-- what is known of a line's numbers -/
def LnOK (L : Ln) : Prop := (0 ≤ ln_lv L ∧ ln_lv L ≤ 99) ∧ ln_n L ≤ 60 ∧ (-1 ≤ ln_lb L ∧ (ln_lb L ≠ -1 → ln_lb L + ln_size L - 1 ≤ ln_n L)) ∧ (∀ k, k < ln_n L → 0 ≤ ln_d L k ∧ ln_d L k ≤ 7) ∧ (∀ k, k ≤ ln_n L → 0 ≤ ln_pos L k ∧ ln_pos L k ≤ 383)
def LsOK (S : Ls) (gap : Int) : Prop := S.length ≤ 8 ∧ (1 ≤ gap ∧ gap ≤ 6) ∧ ∀ k, k < S.length → LnOK (st_ln S k)
theorem ac_rng (d : Int) : -1 ≤ ac d ∧ ac d ≤ 1 := by
  unfold ac
  rcases (show d.toNat = 0 ∨ d.toNat = 1 ∨ d.toNat = 2 ∨ d.toNat = 3 ∨ d.toNat = 4 ∨ d.toNat = 5 ∨ d.toNat = 6 ∨ d.toNat = 7 ∨ 8 ≤ d.toNat by omega) with h | h | h | h | h | h | h | h | h
  all_goals first | (rw [h]; decide) | (rw [List.getD_eq_getElem?_getD, List.getElem?_eq_none (by simpa using h)]; decide)
theorem dn_rng (d : Int) : -1 ≤ dn d ∧ dn d ≤ 1 := by
  unfold dn
  rcases (show d.toNat = 0 ∨ d.toNat = 1 ∨ d.toNat = 2 ∨ d.toNat = 3 ∨ d.toNat = 4 ∨ d.toNat = 5 ∨ d.toNat = 6 ∨ d.toNat = 7 ∨ 8 ≤ d.toNat by omega) with h | h | h | h | h | h | h | h | h
  all_goals first | (rw [h]; decide) | (rw [List.getD_eq_getElem?_getD, List.getElem?_eq_none (by simpa using h)]; decide)
theorem d8 {d : Int} (h0 : 0 ≤ d) (h7 : d ≤ 7) : d = 0 ∨ d = 1 ∨ d = 2 ∨ d = 3 ∨ d = 4 ∨ d = 5 ∨ d = 6 ∨ d = 7 := by omega
theorem ac_eq {d : Int} (h0 : 0 ≤ d) (h7 : d ≤ 7) : ac d = if d < 2 ∨ d = 7 then 1 else if d = 2 ∨ d = 6 then 0 else -1 := by
  rcases d8 h0 h7 with h | h | h | h | h | h | h | h <;> subst h <;> decide
theorem dn_eq {d : Int} (h0 : 0 ≤ d) (h7 : d ≤ 7) : dn d = if 1 ≤ d ∧ d ≤ 3 then 1 else if 4 < d then -1 else 0 := by
  rcases d8 h0 h7 with h | h | h | h | h | h | h | h <;> subst h <;> decide
theorem LnOK.d {L : Ln} (h : LnOK L) {k : Nat} (hk : k < ln_n L) : 0 ≤ ln_d L k ∧ ln_d L k ≤ 7 := h.2.2.2.1 k hk
theorem LnOK.pos {L : Ln} (h : LnOK L) {k : Nat} (hk : k ≤ ln_n L) : 0 ≤ ln_pos L k ∧ ln_pos L k ≤ 383 := h.2.2.2.2 k hk
theorem LnOK.n {L : Ln} (h : LnOK L) : ln_n L ≤ 60 := h.2.1
theorem LnOK.lv {L : Ln} (h : LnOK L) : 0 ≤ ln_lv L ∧ ln_lv L ≤ 99 := h.1
theorem LnOK.lb {L : Ln} (h : LnOK L) : -1 ≤ ln_lb L ∧ (ln_lb L ≠ -1 → ln_lb L + ln_size L - 1 ≤ ln_n L) := h.2.2.1
theorem LnOK.bg {L : Ln} (h : LnOK L) : 0 ≤ ln_bg L ∧ ln_bg L ≤ 383 := h.2.2.2.2 0 (Nat.zero_le _)
theorem LnOK.lbr {L : Ln} (h : LnOK L) : -1 ≤ ln_lb L ∧ ln_lb L ≤ 60 := by
  have h1 := h.lb
  have h2 := h.n
  refine ⟨h1.1, ?_⟩
  by_cases q : ln_lb L = -1
  · omega
  · have := h1.2 q
    have hs : 2 ≤ ln_size L := by unfold ln_size; split <;> omega
    omega
theorem ln_size_23 (L : Ln) : ln_size L = 2 ∨ ln_size L = 3 := by unfold ln_size; split <;> simp
theorem LsOK.ln {S : Ls} {gap : Int} (h : LsOK S gap) {k : Nat} (hk : k < S.length) : LnOK (st_ln S k) := h.2.2 k hk
theorem firstIdx_hit {P : Nat → Bool} {f i : Nat} (h : P i = true) : firstIdx P (f + 1) i = (i : Int) := by simp [firstIdx, h]
theorem firstIdx_miss {P : Nat → Bool} {f i : Nat} (h : P i = false) : firstIdx P (f + 1) i = firstIdx P f (i + 1) := by simp [firstIdx, h]
/-- the model's row: how many lines, the gap, of each line its numbers -/
def MRow (g : Nat → Int) (S : Ls) (gap : Int) : Prop := g 0 = (S.length : Int) ∧ g 1 = gap ∧ ∀ k, k < S.length → g (2 + 64 * k) = ln_lv (st_ln S k) ∧ g (2 + 64 * k + 1) = ln_bg (st_ln S k) ∧ g (2 + 64 * k + 2) = (ln_n (st_ln S k) : Int) ∧ g (2 + 64 * k + 3) = ln_lb (st_ln S k) ∧ ∀ j, j < ln_n (st_ln S k) → g (2 + 64 * k + 4 + j) = ln_d (st_ln S k) j
theorem MRow.len {g : Nat → Int} {S : Ls} {gap : Int} (h : MRow g S gap) : g 0 = (S.length : Int) := h.1
theorem MRow.gap {g : Nat → Int} {S : Ls} {gap : Int} (h : MRow g S gap) : g 1 = gap := h.2.1
theorem MRow.lv {g : Nat → Int} {S : Ls} {gap : Int} (h : MRow g S gap) {k : Nat} (hk : k < S.length) : g (2 + 64 * k) = ln_lv (st_ln S k) := (h.2.2 k hk).1
theorem MRow.bg {g : Nat → Int} {S : Ls} {gap : Int} (h : MRow g S gap) {k : Nat} (hk : k < S.length) : g (2 + 64 * k + 1) = ln_bg (st_ln S k) := (h.2.2 k hk).2.1
theorem MRow.n {g : Nat → Int} {S : Ls} {gap : Int} (h : MRow g S gap) {k : Nat} (hk : k < S.length) : g (2 + 64 * k + 2) = (ln_n (st_ln S k) : Int) := (h.2.2 k hk).2.2.1
theorem MRow.lb {g : Nat → Int} {S : Ls} {gap : Int} (h : MRow g S gap) {k : Nat} (hk : k < S.length) : g (2 + 64 * k + 3) = ln_lb (st_ln S k) := (h.2.2 k hk).2.2.2.1
theorem MRow.d {g : Nat → Int} {S : Ls} {gap : Int} (h : MRow g S gap) {k j : Nat} (hk : k < S.length) (hj : j < ln_n (st_ln S k)) : g (2 + 64 * k + 4 + j) = ln_d (st_ln S k) j := (h.2.2 k hk).2.2.2.2 j hj
