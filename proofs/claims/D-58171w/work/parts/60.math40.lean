/-! MATH 40: spreading tells what the rays tell -/
/-- a line that goes by steps on the map, without a point twice (but its end, if closed), without steps that cross -/
def LnG (L : Ln) : Prop := (∀ k, k < ln_n L → nx (ln_pos L k) (ln_d L k) = ln_pos L (k + 1)) ∧ (∀ j k, j < k → k ≤ ln_n L → ln_pos L j = ln_pos L k → j = 0 ∧ k = ln_n L ∧ 4 ≤ ln_n L) ∧
  ∀ j, j < ln_n L → ln_d L j % 2 = 1 → ln_step L (ln_pos L j + ac (ln_d L j)) (ln_pos L j + 24 * dn (ln_d L j)) = false
def gk (L : Ln) (k : Int) : Nat := (k % (ln_n L : Int)).toNat
def gX (L : Ln) (k : Int) : Int := ln_pos L (gk L k) % 24
def gY (L : Ln) (k : Int) : Int := ln_pos L (gk L k) / 24
def gD (L : Ln) (k : Int) : Fin 8 := ⟨(ln_d L (gk L k)).toNat % 8, by omega⟩
theorem gj {d : Int} (h0 : 0 ≤ d) (h7 : d ≤ 7) : jx ⟨d.toNat % 8, by omega⟩ = ac d ∧ jy ⟨d.toNat % 8, by omega⟩ = dn d := by
  rcases d8 h0 h7 with h | h | h | h | h | h | h | h <;> subst h <;> decide
theorem nx_co {p d : Int} (hp : 0 ≤ p) (h : 0 ≤ nx p d) : nx p d % 24 = p % 24 + ac d ∧ nx p d / 24 = p / 24 + dn d := by
  unfold nx at h ⊢
  split
  · omega
  · rename_i q; rw [if_neg q] at h; omega
theorem gk_lt {L : Ln} (h : 0 < ln_n L) (k : Int) : gk L k < ln_n L := by
  unfold gk
  have := Int.emod_lt_of_pos k (show (0 : Int) < ln_n L by omega)
  have := Int.emod_nonneg k (show (ln_n L : Int) ≠ 0 by omega)
  omega
theorem ln_cl_end {L : Ln} (h : ln_cl L = true) : 0 < ln_n L ∧ ln_pos L (ln_n L) = ln_pos L 0 := by
  unfold ln_cl at h
  simp only [Bool.and_eq_true, decide_eq_true_eq] at h
  exact ⟨h.1, h.2⟩
theorem gk_next {L : Ln} (h : ln_cl L = true) (k : Int) : ln_pos L (gk L (k + 1)) = ln_pos L (gk L k + 1) := by
  have hc := ln_cl_end h
  have a := Int.emod_nonneg k (show (ln_n L : Int) ≠ 0 by omega)
  have b := Int.emod_lt_of_pos k (show (0 : Int) < ln_n L by omega)
  have e : gk L (k + 1) = if gk L k + 1 = ln_n L then 0 else gk L k + 1 := by
    unfold gk
    by_cases q : k % (ln_n L : Int) + 1 = ln_n L
    · rw [if_pos (by omega), show k + 1 = (k % (ln_n L : Int) + 1) + (ln_n L : Int) * (k / (ln_n L : Int)) by have := Int.emod_add_mul_ediv k (ln_n L); omega, Int.add_mul_emod_self_left, q, Int.emod_self]
      rfl
    · rw [if_neg (by omega), show k + 1 = (k % (ln_n L : Int) + 1) + (ln_n L : Int) * (k / (ln_n L : Int)) by have := Int.emod_add_mul_ediv k (ln_n L); omega, Int.add_mul_emod_self_left, Int.emod_eq_of_lt (by omega) (by omega)]
      omega
  rw [e]
  split
  · rename_i q; rw [q]; exact hc.2.symm
  · rfl
theorem ln_stepTo_iff (L : Ln) (a b : Int) : ∀ m, ln_stepTo L a b m = true ↔ ∃ k, k < m ∧ ((ln_pos L k = a ∧ ln_pos L (k + 1) = b) ∨ (ln_pos L k = b ∧ ln_pos L (k + 1) = a)) := by
  intro m
  induction m with
  | zero => simp [ln_stepTo]
  | succ m ih =>
    rw [ln_stepTo, Bool.or_eq_true, ih]
    constructor
    · rintro (⟨k, h1, h2⟩ | h)
      · exact ⟨k, by omega, h2⟩
      · simp only [Bool.or_eq_true, Bool.and_eq_true, decide_eq_true_eq] at h
        exact ⟨m, by omega, h⟩
    · rintro ⟨k, h1, h2⟩
      by_cases e : k = m
      · subst e; exact Or.inr (by simp only [Bool.or_eq_true, Bool.and_eq_true, decide_eq_true_eq]; exact h2)
      · exact Or.inl ⟨k, by omega, h2⟩
theorem ln_hasTo_iff (L : Ln) (p : Int) : ∀ m, ln_hasTo L p m = true ↔ ∃ k, k < m ∧ ln_pos L k = p := by
  intro m
  induction m with
  | zero => simp [ln_hasTo]
  | succ m ih =>
    rw [ln_hasTo, Bool.or_eq_true, ih]
    constructor
    · rintro (⟨k, h1, h2⟩ | h)
      · exact ⟨k, by omega, h2⟩
      · exact ⟨m, by omega, of_decide_eq_true h⟩
    · rintro ⟨k, h1, h2⟩
      by_cases e : k = m
      · subst e; exact Or.inr (decide_eq_true h2)
      · exact Or.inl ⟨k, by omega, h2⟩
section
variable {L : Ln}
theorem gk_nat (k : Nat) (hk : k < ln_n L) : gk L k = k := by unfold gk; rw [Int.emod_eq_of_lt (by omega) (by omega)]; omega
theorem gXY_nat (k : Nat) (hk : k < ln_n L) : gX L k = ln_pos L k % 24 ∧ gY L k = ln_pos L k / 24 := by unfold gX gY; rw [gk_nat k hk]; exact ⟨rfl, rfl⟩
theorem gXY_nat1 (hc : ln_cl L = true) (k : Nat) (hk : k < ln_n L) : gX L (k + 1) = ln_pos L (k + 1) % 24 ∧ gY L (k + 1) = ln_pos L (k + 1) / 24 := by
  unfold gX gY; rw [gk_next hc, gk_nat k hk]; exact ⟨rfl, rfl⟩
theorem gS_iff (hc : ln_cl L = true) {x y x' y' : Int} (h1 : 0 ≤ x ∧ x ≤ 23) (h2 : 0 ≤ x' ∧ x' ≤ 23) : JS (gX L) (gY L) x y x' y' ↔ ln_step L (24 * y + x) (24 * y' + x') = true := by
  have hn := (ln_cl_end hc).1
  unfold ln_step
  rw [ln_stepTo_iff]
  constructor
  · rintro ⟨k, hk⟩
    refine ⟨gk L k, gk_lt hn k, ?_⟩
    unfold gX gY at hk
    rw [gk_next hc] at hk
    omega
  · rintro ⟨k, hk, h⟩
    refine ⟨k, ?_⟩
    have a := gXY_nat k hk; have b := gXY_nat1 hc k hk
    rw [a.1, a.2, b.1, b.2]
    omega
theorem g_JP (hk : LnOK L) (hg : LnG L) (hc : ln_cl L = true) : JP (ln_n L) (gX L) (gY L) (gD L) := by
  have he := ln_cl_end hc
  have h4 := (hg.2.1 0 (ln_n L) he.1 (Nat.le_refl _) he.2.symm).2.2
  refine ⟨by omega, fun k => ?_, fun k z => ?_, fun j k h1 h2 => ?_, fun x y e f hx hf h1 h2 => ?_, fun k => ?_⟩
  · have hl := gk_lt he.1 k
    have hd := hk.d hl
    have hp := hk.pos (Nat.le_of_lt hl)
    have hp1 := hk.pos (k := gk L k + 1) hl
    have hs := hg.1 _ hl
    have hn := nx_co (d := ln_d L (gk L k)) hp.1 (by rw [hs]; exact hp1.1)
    have hj := gj hd.1 hd.2
    unfold gX gY gD
    rw [gk_next hc, hj.1, hj.2, ← hs]
    exact hn
  · have e : gk L (k + z * (ln_n L : Int)) = gk L k := by unfold gk; rw [Int.mul_comm, Int.add_mul_emod_self_left]
    unfold gX gY gD
    simp only [e, and_self]
  · have hj := gk_lt he.1 j; have hk2 := gk_lt he.1 k
    have hp : ln_pos L (gk L j) = ln_pos L (gk L k) := by unfold gX at h1; unfold gY at h2; omega
    have e : gk L j = gk L k := by
      rcases Nat.lt_trichotomy (gk L j) (gk L k) with q | q | q
      · have := hg.2.1 _ _ q (Nat.le_of_lt hk2) hp; omega
      · exact q
      · have := hg.2.1 _ _ q (Nat.le_of_lt hj) hp.symm; omega
    refine ⟨j / ln_n L - k / ln_n L, ?_⟩
    have a := Int.emod_add_mul_ediv j (ln_n L); have b := Int.emod_add_mul_ediv k (ln_n L)
    have c := Int.emod_nonneg j (show (ln_n L : Int) ≠ 0 by omega); have d := Int.emod_nonneg k (show (ln_n L : Int) ≠ 0 by omega)
    unfold gk at e
    rw [Int.sub_mul, Int.mul_comm (j / _), Int.mul_comm (k / _)]
    omega
  · -- no steps that cross
    have hb : ∀ k : Int, (0 ≤ gX L k ∧ gX L k ≤ 23) := fun k => by unfold gX; omega
    obtain ⟨k, hk1⟩ := h1
    have hx0 : 0 ≤ x ∧ x ≤ 23 := by have := hb k; have := hb (k + 1); omega
    have hx1 : 0 ≤ x + e ∧ x + e ≤ 23 := by have := hb k; have := hb (k + 1); omega
    have hs := (gS_iff hc (y := y) (y' := y + f) hx1 hx0).mp h2
    have hs2 := (gS_iff hc (y := y + f) (y' := y) hx0 hx1).mp h2.symm
    have hl := gk_lt he.1 k
    have hd := hk.d hl
    have hp := hk.pos (Nat.le_of_lt hl)
    have hp1 := hk.pos (k := gk L k + 1) hl
    have hst := hg.1 _ hl
    have hn := nx_co (d := ln_d L (gk L k)) hp.1 (by rw [hst]; exact hp1.1)
    rw [hst] at hn
    have hcr := hg.2.2 _ hl
    unfold gX gY at hk1
    rw [gk_next hc] at hk1
    have ha := ac_rng (ln_d L (gk L k)); have hdn := dn_rng (ln_d L (gk L k))
    have hodd : ac (ln_d L (gk L k)) ≠ 0 → dn (ln_d L (gk L k)) ≠ 0 → ln_d L (gk L k) % 2 = 1 := by
      rcases d8 hd.1 hd.2 with h | h | h | h | h | h | h | h <;> rw [h] <;> decide
    have hz := hcr (hodd (by omega) (by omega))
    rcases hk1 with q | q
    · rw [show ln_pos L (gk L k) + ac (ln_d L (gk L k)) = 24 * y + (x + e) by omega, show ln_pos L (gk L k) + 24 * dn (ln_d L (gk L k)) = 24 * (y + f) + x by omega, hs] at hz
      cases hz
    · rw [show ln_pos L (gk L k) + ac (ln_d L (gk L k)) = 24 * (y + f) + x by omega, show ln_pos L (gk L k) + 24 * dn (ln_d L (gk L k)) = 24 * y + (x + e) by omega, hs2] at hz
      cases hz
  · have hl := gk_lt he.1 k
    have hp := hk.pos (Nat.le_of_lt hl)
    unfold gX gY
    omega
/-- where the fine map has a line -/
theorem f_map_iff (L : Ln) : ∀ m i, f_map L m i = 1 ↔ ∃ k, k < m ∧ (i = (f_spot (ln_pos L k)).toNat ∨ i = (f_spot (ln_pos L k) + 51 * dn (ln_d L k) + ac (ln_d L k)).toNat) := by
  intro m
  induction m with
  | zero => intro i; simp [f_map]
  | succ m ih =>
    intro i
    rw [f_map]
    unfold kup
    constructor
    · intro h
      split at h
      · rename_i q; exact ⟨m, by omega, Or.inr q⟩
      · split at h
        · rename_i q; exact ⟨m, by omega, Or.inl q⟩
        · obtain ⟨k, h1, h2⟩ := (ih i).mp h; exact ⟨k, by omega, h2⟩
    · rintro ⟨k, h1, h2⟩
      split
      · rfl
      · split
        · rfl
        · rename_i q1 q2
          refine (ih i).mpr ⟨k, ?_, h2⟩
          by_cases e : k = m
          · subst e; rcases h2 with h2 | h2
            · exact absurd h2 q2
            · exact absurd h2 q1
          · omega
theorem g_mid (hk : LnOK L) (hg : LnG L) (hc : ln_cl L = true) (k : Nat) (hl : k < ln_n L) : gX L (k + 1) = gX L k + ac (ln_d L k) ∧ gY L (k + 1) = gY L k + dn (ln_d L k) := by
  have a := gXY_nat k hl; have b := gXY_nat1 hc k hl
  have hp := hk.pos (Nat.le_of_lt hl)
  have hp1 := hk.pos (k := k + 1) hl
  have hst := hg.1 _ hl
  have hn := nx_co (d := ln_d L k) hp.1 (by rw [hst]; exact hp1.1)
  rw [hst] at hn
  omega
theorem g_On (hk : LnOK L) (hg : LnG L) (hc : ln_cl L = true) {c r : Int} (hb : JBox c r) : JOn (gX L) (gY L) c r ↔ f_map L (ln_n L) (51 * (r + 2) + (c + 2)).toNat = 1 := by
  have he := ln_cl_end hc
  have hJ := g_JP hk hg hc
  rw [f_map_iff]
  unfold JBox at hb
  constructor
  · rintro ⟨k, h⟩
    have hl := gk_lt he.1 k
    refine ⟨gk L k, hl, ?_⟩
    have hp := hk.pos (Nat.le_of_lt hl)
    have a := gXY_nat (gk L k) hl
    have m := g_mid hk hg hc (gk L k) hl
    have e1 : gX L k = gX L (gk L k) := a.1.symm
    have e2 : gY L k = gY L (gk L k) := a.2.symm
    have e3 : gX L (k + 1) = gX L ((gk L k : Int) + 1) := by rw [(gXY_nat1 hc _ hl).1]; unfold gX; rw [gk_next hc]
    have e4 : gY L (k + 1) = gY L ((gk L k : Int) + 1) := by rw [(gXY_nat1 hc _ hl).2]; unfold gY; rw [gk_next hc]
    unfold f_spot
    rcases h with h | h
    · left; omega
    · right; omega
  · rintro ⟨k, hl, h⟩
    have hp := hk.pos (Nat.le_of_lt hl)
    have a := gXY_nat k hl
    have m := g_mid hk hg hc k hl
    have hbx := hJ.box k; have hbx1 := hJ.box (k + 1)
    refine ⟨k, ?_⟩
    unfold f_spot at h
    rcases h with h | h
    · left; omega
    · right; omega
theorem g_ray (hk : LnOK L) (hg : LnG L) (hc : ln_cl L = true) (x : Int) : ∀ m, m ≤ ln_n L → jpar (gX L) (gY L) (2 * (x % 24)) (2 * (x / 24)) m = ln_rayTo L x m := by
  intro m
  induction m with
  | zero => intro _; rfl
  | succ m ih =>
    intro hm
    rw [jpar, ln_rayTo, ih (by omega)]
    congr 1
    have a := gXY_nat m (L := L) (by omega); have b := gXY_nat1 hc m (by omega)
    have mm := g_mid hk hg hc m (by omega)
    have r := dn_rng (ln_d L m)
    rw [a.1, a.2, b.1, b.2] at mm
    rw [a.1, a.2, b.1, b.2]
    unfold jcr ln_ray ln_up
    rw [← Bool.decide_and, ← Bool.decide_and, decide_eq_decide]
    split
    · constructor <;> intro z <;> omega
    · constructor <;> intro z <;> omega
theorem f_pt_of {c r : Int} (h1 : c % 2 = 0) (h2 : r % 2 = 0) (h3 : 0 ≤ c ∧ c ≤ 46) (h4 : 0 ≤ r ∧ r ≤ 30) : f_pt (c + 2) (r + 2) = 24 * (r / 2) + c / 2 := by
  unfold f_pt
  rw [if_pos (by omega)]
  omega
theorem f_st_iff {a b : Int} : f_st L a b = true ↔ a ≠ -1 ∧ b ≠ -1 ∧ ln_step L a b = true := by
  unfold f_st; simp only [Bool.and_eq_true, decide_eq_true_eq]
theorem ac_dir : ∀ e f : Int, (e = 1 ∨ e = -1) → (f = 1 ∨ f = -1) → ∃ d : Int, (0 ≤ d ∧ d ≤ 7) ∧ ac d = e ∧ dn d = f := by
  rintro e f (rfl | rfl) (rfl | rfl)
  · exact ⟨1, by decide, by decide, by decide⟩
  · exact ⟨7, by decide, by decide, by decide⟩
  · exact ⟨3, by decide, by decide, by decide⟩
  · exact ⟨5, by decide, by decide, by decide⟩
theorem f_to_of {c r d : Int} (hb : JBox c r) (hb2 : JBox (c + ac d) (r + dn d)) : f_to (((51 * (r + 2) + (c + 2)).toNat : Nat) : Int) d = 51 * (r + dn d + 2) + (c + ac d + 2) := by
  unfold JBox at hb hb2
  have e1 : (((51 * (r + 2) + (c + 2)).toNat : Nat) : Int) % 51 = c + 2 := by omega
  have e2 : (((51 * (r + 2) + (c + 2)).toNat : Nat) : Int) / 51 = r + 2 := by omega
  unfold f_to
  rw [e1, e2, if_pos (by omega)]
  omega
theorem spr_ok (hk : LnOK L) (hg : LnG L) (hc : ln_cl L = true) : SprOK L := by
  intro g hO x hx hh
  have hJ := g_JP hk hg hc
  have hray := g_ray hk hg hc x (ln_n L) (Nat.le_refl _)
  have hno : ¬ JOn (gX L) (gY L) (2 * (x % 24)) (2 * (x / 24)) := by
    rintro ⟨k, h | h⟩
    · have hl := gk_lt (ln_cl_end hc).1 k
      have : ln_has L x = true := by
        unfold ln_has
        rw [ln_hasTo_iff]
        refine ⟨gk L k, by omega, ?_⟩
        unfold gX gY at h; omega
      rw [hh] at this; cases this
    · have a := hJ.sx k; have b := hJ.sy k
      rcases j8 (gD L k) with ⟨_, e1, e2⟩ | ⟨_, e1, e2⟩ | ⟨_, e1, e2⟩ | ⟨_, e1, e2⟩ | ⟨_, e1, e2⟩ | ⟨_, e1, e2⟩ | ⟨_, e1, e2⟩ | ⟨_, e1, e2⟩ <;> omega
  have hsp : (f_spot x).toNat = (51 * (2 * (x / 24) + 2) + (2 * (x % 24) + 2)).toNat := by unfold f_spot; congr 1; omega
  have fm0 : ∀ {c r : Int}, JBox c r → ¬ JOn (gX L) (gY L) c r → f_map L (ln_n L) (51 * (r + 2) + (c + 2)).toNat = 0 := by
    intro c r hb hn
    rcases f_map_01 L (ln_n L) (51 * (r + 2) + (c + 2)).toNat with q | q
    · exact q
    · exact absurd ((g_On hk hg hc hb).mpr q) hn
  constructor
  · -- what is found has an even number of crossings
    intro h2
    have p0 : ¬ JOn (gX L) (gY L) (((0 : Nat) : Int) % 51 - 2) (((0 : Nat) : Int) / 51 - 2) ∧ jpar (gX L) (gY L) (((0 : Nat) : Int) % 51 - 2) (((0 : Nat) : Int) / 51 - 2) (ln_n L) = false := by
      refine ⟨hJ.freeB (by omega), ?_⟩
      have z : ∀ m, jpar (gX L) (gY L) (((0 : Nat) : Int) % 51 - 2) (((0 : Nat) : Int) / 51 - 2) m = false := by
        intro m
        induction m with
        | zero => rfl
        | succ m ih =>
          rw [jpar, ih]
          have b1 := hJ.box m; have b2 := hJ.box (m + 1)
          have : jcr (gX L m) (gY L m) (gX L (m + 1)) (gY L (m + 1)) (((0 : Nat) : Int) % 51 - 2) (((0 : Nat) : Int) / 51 - 2) = false := by
            unfold jcr; refine decide_eq_false ?_; omega
          rw [this]; rfl
      exact z _
    have := hO.2.2.1 (fun i => ¬ JOn (gX L) (gY L) ((i : Int) % 51 - 2) ((i : Int) / 51 - 2) ∧ jpar (gX L) (gY L) ((i : Int) % 51 - 2) ((i : Int) / 51 - 2) (ln_n L) = false) p0 ?_ (f_spot x).toNat (by unfold f_spot; omega) h2
    · rw [hsp, show (((51 * (2 * (x / 24) + 2) + (2 * (x % 24) + 2)).toNat : Nat) : Int) % 51 - 2 = 2 * (x % 24) by omega, show (((51 * (2 * (x / 24) + 2) + (2 * (x % 24) + 2)).toNat : Nat) : Int) / 51 - 2 = 2 * (x / 24) by omega, hray] at this
      exact this.2
    · rintro i j ⟨hi, hp⟩ ⟨d, hd, ht, hbar⟩ hf
      unfold f_to at ht
      split at ht
      · rename_i hr
        have ej1 : (j : Int) % 51 - 2 = (i : Int) % 51 - 2 + ac d := by omega
        have ej2 : (j : Int) / 51 - 2 = (i : Int) / 51 - 2 + dn d := by omega
        have hbx : JBox ((i : Int) % 51 - 2 + ac d) ((i : Int) / 51 - 2 + dn d) := by unfold JBox; omega
        have hnj : ¬ JOn (gX L) (gY L) ((i : Int) % 51 - 2 + ac d) ((i : Int) / 51 - 2 + dn d) := by
          intro q
          have := (g_On hk hg hc hbx).mp q
          rw [show (51 * ((i : Int) / 51 - 2 + dn d + 2) + ((i : Int) % 51 - 2 + ac d + 2)).toNat = j by omega, hf] at this
          cases this
        rw [ej1, ej2]
        refine ⟨hnj, ?_⟩
        rw [← hp]
        symm
        rcases (show d % 2 = 0 ∨ d % 2 = 1 by omega) with hod | hod
        · refine hJ.axP ?_ hi hnj
          rcases d8 hd.1 hd.2 with h | h | h | h | h | h | h | h <;> subst h <;> first | (exfalso; revert hod; decide) | skip
          · exact Or.inl ⟨Or.inl rfl, Int.add_zero _⟩
          · exact Or.inr ⟨Int.add_zero _, Or.inl rfl⟩
          · exact Or.inl ⟨Or.inr rfl, Int.add_zero _⟩
          · exact Or.inr ⟨Int.add_zero _, Or.inr rfl⟩
        · have hv : (ac d = 1 ∨ ac d = -1) ∧ (dn d = 1 ∨ dn d = -1) := by
            rcases d8 hd.1 hd.2 with h | h | h | h | h | h | h | h <;> subst h <;> first | (exfalso; revert hod; decide) | decide
          refine hJ.slQ hv.1 hv.2 hi hnj fun x y e' f' he hf' hcase hJS => ?_
          have hxy : (0 ≤ x ∧ x ≤ 23) ∧ (0 ≤ y ∧ y ≤ 15) ∧ (0 ≤ x + e' ∧ x + e' ≤ 23) ∧ (0 ≤ y + f' ∧ y + f' ≤ 15) := by
            obtain ⟨k, h⟩ := hJS
            have b1 := hJ.box k; have b2 := hJ.box (k + 1)
            rcases h with h | h <;> omega
          have hst := (gS_iff hc hxy.1 hxy.2.2.1).mp hJS
          unfold f_bar at hbar
          rw [decide_eq_true hod, Bool.true_and, Bool.or_eq_false_iff] at hbar
          rcases hcase with ⟨c1, c2, c3, c4⟩ | ⟨c1, c2, c3, c4⟩
          · have q := hbar.1
            rw [show (i : Int) % 51 + ac d = 2 * x + 2 by omega, show (i : Int) / 51 = 2 * y + 2 by omega, show (i : Int) % 51 - ac d = 2 * (x + e') + 2 by omega, show 2 * y + 2 + 2 * dn d = 2 * (y + f') + 2 by omega, f_pt_of (by omega) (by omega) (by omega) (by omega), f_pt_of (by omega) (by omega) (by omega) (by omega)] at q
            rw [show 24 * (2 * y / 2) + 2 * x / 2 = 24 * y + x by omega, show 24 * (2 * (y + f') / 2) + 2 * (x + e') / 2 = 24 * (y + f') + (x + e') by omega] at q
            rw [f_st_iff.mpr ⟨by omega, by omega, hst⟩] at q
            cases q
          · have q := hbar.2
            rw [show (i : Int) % 51 + 2 * ac d = 2 * (x + e') + 2 by omega, show (i : Int) / 51 + dn d = 2 * y + 2 by omega, show (i : Int) % 51 = 2 * x + 2 by omega, show (i : Int) / 51 - dn d = 2 * (y + f') + 2 by omega, f_pt_of (by omega) (by omega) (by omega) (by omega), f_pt_of (by omega) (by omega) (by omega) (by omega)] at q
            rw [show 24 * (2 * y / 2) + 2 * x / 2 = 24 * y + x by omega, show 24 * (2 * (y + f') / 2) + 2 * (x + e') / 2 = 24 * (y + f') + (x + e') by omega] at q
            rw [f_st_iff.mpr ⟨by omega, by omega, hst⟩] at q
            cases q
      · have ej : j = 0 := by omega
        rw [ej]; exact p0
  · intro hr
    rw [hr] at hray
    have hcl : JC (gX L) (gY L) (fun c r => JBox c r ∧ g (51 * (r + 2) + (c + 2)).toNat = 2) := by
      have go : ∀ c r d : Int, (0 ≤ d ∧ d ≤ 7) → f_bar L (c + 2) (r + 2) d = false → JBox c r → g (51 * (r + 2) + (c + 2)).toNat = 2 → JBox (c + ac d) (r + dn d) → ¬ JOn (gX L) (gY L) (c + ac d) (r + dn d) → g (51 * (r + dn d + 2) + (c + ac d + 2)).toNat = 2 := by
        intro c r d hd hbar hb hg2 hb2 hn
        have e := f_to_of hb hb2
        have hb' := hb; have hb2' := hb2
        unfold JBox at hb' hb2'
        refine hO.2.1 _ _ (by omega) hg2 ⟨d, hd, by rw [e]; omega, ?_⟩ (fm0 hb2 hn)
        rw [show (((51 * (r + 2) + (c + 2)).toNat : Nat) : Int) % 51 = c + 2 by omega, show (((51 * (r + 2) + (c + 2)).toNat : Nat) : Int) / 51 = r + 2 by omega]
        exact hbar
      have ax : ∀ (d c r : Int), d % 2 = 0 → f_bar L c r d = false := fun d c r h => by unfold f_bar; rw [decide_eq_false (by omega)]; rfl
      have sl : ∀ x y e f : Int, ¬ JS (gX L) (gY L) x y (x + e) (y + f) → (e = 1 ∨ e = -1) → f_st L (f_pt (2 * x + 2) (2 * y + 2)) (f_pt (2 * (x + e) + 2) (2 * (y + f) + 2)) = false := by
        intro x y e f hs he
        cases hq : f_st L (f_pt (2 * x + 2) (2 * y + 2)) (f_pt (2 * (x + e) + 2) (2 * (y + f) + 2)) with
        | false => rfl
        | true =>
          obtain ⟨n1, n2, n3⟩ := f_st_iff.mp hq
          exfalso
          have v : ∀ x y : Int, f_pt (2 * x + 2) (2 * y + 2) ≠ -1 → (0 ≤ x ∧ x ≤ 23) ∧ (0 ≤ y ∧ y ≤ 15) ∧ f_pt (2 * x + 2) (2 * y + 2) = 24 * y + x := by
            intro x y h
            unfold f_pt at h ⊢
            split at h
            · rename_i q; rw [if_pos q]; omega
            · exact absurd rfl h
          have v1 := v _ _ n1; have v2 := v _ _ n2
          rw [v1.2.2, v2.2.2] at n3
          exact hs ((gS_iff hc v1.1 v2.1).mpr n3)
      have od : ∀ c r a b : Int, (c % 2 = 1 ∨ r % 2 = 1) → f_st L (f_pt c r) (f_pt a b) = false := by
        intro c r a b h
        unfold f_st f_pt
        rw [if_neg (by omega)]
        rfl
      refine ⟨fun c r c' r' hm hq hn hb' => ⟨hb', ?_⟩, fun x y e f he hf hs => ⟨fun hq hn hb' => ⟨hb', ?_⟩, fun hq hn hb' => ⟨hb', ?_⟩⟩⟩
      · rcases hm with ⟨rfl | rfl, rfl⟩ | ⟨rfl, rfl | rfl⟩
        · have := go c r' 0 (by decide) (ax _ _ _ (by decide)) hq.1 hq.2
          rw [show ac 0 = 1 from rfl, show dn 0 = 0 from rfl, show r' + 0 = r' by omega] at this
          exact this hb' hn
        · have := go c r' 4 (by decide) (ax _ _ _ (by decide)) hq.1 hq.2
          rw [show ac 4 = -1 from rfl, show dn 4 = 0 from rfl, show r' + 0 = r' by omega] at this
          exact this hb' hn
        · have := go c' r 2 (by decide) (ax _ _ _ (by decide)) hq.1 hq.2
          rw [show ac 2 = 0 from rfl, show dn 2 = 1 from rfl, show c' + 0 = c' by omega] at this
          exact this hb' hn
        · have := go c' r 6 (by decide) (ax _ _ _ (by decide)) hq.1 hq.2
          rw [show ac 6 = 0 from rfl, show dn 6 = -1 from rfl, show c' + 0 = c' by omega] at this
          exact this hb' hn
      · obtain ⟨d, hd, e1, e2⟩ := ac_dir (-e) f (by omega) hf
        have := go (2 * x + e) (2 * y) d hd (by
          unfold f_bar
          rw [e1, e2, show 2 * x + e + 2 + -e = 2 * x + 2 by omega, show 2 * x + e + 2 - -e = 2 * (x + e) + 2 by omega, show 2 * y + 2 + 2 * f = 2 * (y + f) + 2 by omega, sl x y e f hs he, od _ _ _ _ (Or.inl (by omega))]
          simp) hq.1 hq.2
        rw [e1, e2, show 2 * x + e + -e = 2 * x by omega] at this
        exact this hb' hn
      · obtain ⟨d, hd, e1, e2⟩ := ac_dir e (-f) he (by omega)
        have := go (2 * x) (2 * y + f) d hd (by
          unfold f_bar
          rw [e1, e2, show 2 * y + f + 2 + -f = 2 * y + 2 by omega, show 2 * y + f + 2 - -f = 2 * (y + f) + 2 by omega, show 2 * x + 2 + 2 * e = 2 * (x + e) + 2 by omega, sl x y e f hs he, od _ _ _ _ (Or.inr (by omega))]
          simp) hq.1 hq.2
        rw [e1, e2, show 2 * y + f + -f = 2 * y by omega] at this
        exact this hb' hn
    have := hJ.found hcl ⟨by unfold JBox; omega, hO.1⟩ (x := x % 24) (y := x / 24) (by omega) (by omega) hno hray
    rw [hsp]; exact this.2
end

