/-! MATH 25: labels too near, in the component's order -/
theorem apart_comm (a b : Int) : apart a b = apart b a := by unfold apart; split <;> split <;> omega
theorem far_comm (a b : Int) : far a b = far b a := by
  unfold far
  rw [apart_comm (a % 24) (b % 24), apart_comm (a / 24) (b / 24)]
theorem lesser_le {a b c : Int} : c ≤ lesser a b ↔ c ≤ a ∧ c ≤ b := by unfold lesser; split <;> omega
theorem btIn_le (x : Int) (M : Ln) (q : Nat) (acc c : Int) : ∀ j : Nat, c ≤ btIn x M q acc j ↔ c ≤ acc ∧ ∀ i, i < j → c ≤ far x (ln_pos M (q + i)) := by
  intro j
  induction j with
  | zero => exact ⟨fun h => ⟨h, fun i hi => absurd hi (Nat.not_lt_zero i)⟩, fun h => h.1⟩
  | succ j ih =>
    rw [btIn, lesser_le, ih]
    constructor
    · rintro ⟨h1, h2, h3⟩
      refine ⟨h2, fun i hi => ?_⟩
      by_cases e : i = j
      · rw [e]; exact h1
      · exact h3 i (by omega)
    · rintro ⟨h1, h2⟩
      exact ⟨h2 j (by omega), h1, fun i hi => h2 i (by omega)⟩
theorem btOut_le (L : Ln) (p : Nat) (M : Ln) (q : Nat) (c : Int) : ∀ i : Nat, c ≤ btOut L p M q i ↔ c ≤ 99 ∧ ∀ k, k < i → ∀ j, j < ln_size M → c ≤ far (ln_pos L (p + k)) (ln_pos M (q + j)) := by
  intro i
  induction i with
  | zero => exact ⟨fun h => ⟨h, fun k hk => absurd hk (Nat.not_lt_zero k)⟩, fun h => h.1⟩
  | succ i ih =>
    rw [btOut, btIn_le, ih]
    constructor
    · rintro ⟨⟨h1, h2⟩, h3⟩
      refine ⟨h1, fun k hk j hj => ?_⟩
      by_cases e : k = i
      · rw [e]; exact h3 j hj
      · exact h2 k (by omega) j hj
    · rintro ⟨h1, h2⟩
      exact ⟨⟨h1, fun k hk j hj => h2 k (by omega) j hj⟩, fun j hj => h2 i (by omega) j hj⟩
theorem between_comm (L M : Ln) (p q : Nat) : between L p M q = between M q L p := by
  have h : ∀ c : Int, c ≤ between L p M q ↔ c ≤ between M q L p := by
    intro c
    unfold between
    rw [btOut_le, btOut_le]
    constructor
    · rintro ⟨h1, h2⟩
      exact ⟨h1, fun k hk j hj => by rw [far_comm]; exact h2 j hj k hk⟩
    · rintro ⟨h1, h2⟩
      exact ⟨h1, fun k hk j hj => by rw [far_comm]; exact h2 j hj k hk⟩
  have h1 := (h (between L p M q)).mp (Int.le_refl _)
  have h2 := (h (between M q L p)).mpr (Int.le_refl _)
  omega
/-- two lines' labels are too near -/
def nr (S : Ls) (gap : Int) (i j : Nat) : Int := if ln_lb (st_ln S i) ≠ -1 ∧ ln_lb (st_ln S j) ≠ -1 ∧ between (st_ln S i) (ln_lb (st_ln S i)).toNat (st_ln S j) (ln_lb (st_ln S j)).toNat < gap then 1 else 0
theorem nr_comm (S : Ls) (gap : Int) (i j : Nat) : nr S gap i j = nr S gap j i := by
  unfold nr
  rw [between_comm]
  split
  · rename_i h; rw [if_pos ⟨h.2.1, h.1, h.2.2⟩]
  · rename_i h; rw [if_neg (fun z => h ⟨z.2.1, z.1, z.2.2⟩)]
/-- sums of f over numbers below n -/
def sm1 (f : Nat → Int) : Nat → Int
  | 0 => 0
  | n + 1 => sm1 f n + f n
theorem sm1_add (f g : Nat → Int) : ∀ n, sm1 (fun i => f i + g i) n = sm1 f n + sm1 g n := by
  intro n
  induction n with
  | zero => rfl
  | succ n ih => rw [sm1, sm1, sm1, ih]; omega
theorem sm1_congr {f g : Nat → Int} : ∀ n, (∀ i, i < n → f i = g i) → sm1 f n = sm1 g n := by
  intro n
  induction n with
  | zero => intro h; rfl
  | succ n ih => intro h; rw [sm1, sm1, ih (fun i hi => h i (by omega)), h n (by omega)]
theorem sm1_split (f : Nat → Int) : ∀ (m n : Nat), sm1 f (n + m) = sm1 f n + sm1 (fun i => f (n + i)) m := by
  intro m
  induction m with
  | zero => intro n; simp [sm1]
  | succ m ih => intro n; rw [show n + (m + 1) = (n + m) + 1 by omega, sm1, ih, sm1]; omega
theorem st_nearIn_sum (S : Ls) (gap : Int) (i : Nat) (acc : Int) : ∀ j, st_nearIn S gap i acc j = acc + sm1 (fun k => nr S gap i k) j := by
  intro j
  induction j with
  | zero => simp [st_nearIn, sm1]
  | succ j ih => rw [st_nearIn, ih, sm1]; unfold nr; omega
theorem st_nearTo_sum (S : Ls) (gap : Int) : ∀ n, st_nearTo S gap n = sm1 (fun i => sm1 (fun k => nr S gap i k) i) n := by
  intro n
  induction n with
  | zero => rfl
  | succ n ih => rw [st_nearTo, st_nearIn_sum, ih, sm1]
/-- the component's sum: k below n, then those behind it -/
def cnTo (S : Ls) (gap : Int) (N : Nat) (n : Nat) : Int := sm1 (fun k => sm1 (fun j => nr S gap k (k + 1 + j)) (N - (k + 1))) n
theorem cn_eq (S : Ls) (gap : Int) : ∀ N, cnTo S gap N N = sm1 (fun i => sm1 (fun k => nr S gap i k) i) N := by
  intro N
  induction N with
  | zero => rfl
  | succ N ih =>
    rw [sm1, ← ih]
    unfold cnTo
    rw [sm1, show N + 1 - (N + 1) = 0 by omega, show sm1 (fun j => nr S gap N (N + 1 + j)) 0 = 0 from rfl]
    have h : sm1 (fun k => sm1 (fun j => nr S gap k (k + 1 + j)) (N + 1 - (k + 1))) N = sm1 (fun k => sm1 (fun j => nr S gap k (k + 1 + j)) (N - (k + 1)) + nr S gap N k) N := by
      apply sm1_congr
      intro k hk
      rw [show N + 1 - (k + 1) = (N - (k + 1)) + 1 by omega, sm1, show k + 1 + (N - (k + 1)) = N by omega, nr_comm S gap k N]
    rw [h, sm1_add]
    have e9 : sm1 (fun k => nr S gap N k) N = sm1 (nr S gap N) N := rfl
    omega
theorem near_cn (S : Ls) (gap : Int) : st_near S gap = cnTo S gap S.length S.length := by rw [cn_eq, st_near, st_nearTo_sum]
theorem round_step_p {S : Ls} {l j : Nat} (h1 : st_cont S j (ln_bg (st_ln S l)) = true) (h2 : st_roundTo S l j = -1 ∨ st_cont S (st_roundTo S l j).toNat (ln_bg (st_ln S j)) = true) : st_roundTo S l (j + 1) = (j : Int) := by rw [st_roundTo, if_pos ⟨h1, h2⟩]
theorem round_step_n {S : Ls} {l j : Nat} (h : ¬ (st_cont S j (ln_bg (st_ln S l)) = true ∧ (st_roundTo S l j = -1 ∨ st_cont S (st_roundTo S l j).toNat (ln_bg (st_ln S j)) = true))) : st_roundTo S l (j + 1) = st_roundTo S l j := by rw [st_roundTo, if_neg h]

