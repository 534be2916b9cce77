/-! JORDAN 1 -/
def jx (d : Fin 8) : Int := match d with | 0 => 1 | 1 => 1 | 2 => 0 | 3 => -1 | 4 => -1 | 5 => -1 | 6 => 0 | 7 => 1
def jy (d : Fin 8) : Int := match d with | 0 => 0 | 1 => 1 | 2 => 1 | 3 => 1 | 4 => 0 | 5 => -1 | 6 => -1 | 7 => -1
theorem j8 (d : Fin 8) : (d = 0 ∧ jx d = 1 ∧ jy d = 0) ∨ (d = 1 ∧ jx d = 1 ∧ jy d = 1) ∨ (d = 2 ∧ jx d = 0 ∧ jy d = 1) ∨ (d = 3 ∧ jx d = -1 ∧ jy d = 1) ∨ (d = 4 ∧ jx d = -1 ∧ jy d = 0) ∨ (d = 5 ∧ jx d = -1 ∧ jy d = -1) ∨ (d = 6 ∧ jx d = 0 ∧ jy d = -1) ∨ (d = 7 ∧ jx d = 1 ∧ jy d = -1) := by revert d; decide
theorem j_inj (a b : Fin 8) (h1 : jx a = jx b) (h2 : jy a = jy b) : a = b := by revert a b; decide
theorem j_opp (a : Fin 8) : jx (a + 4) = - jx a ∧ jy (a + 4) = - jy a := by revert a; decide
/-- a step between two points, either way -/
def JS (X Y : Int → Int) (x y x' y' : Int) : Prop := ∃ k, (X k = x ∧ Y k = y ∧ X (k + 1) = x' ∧ Y (k + 1) = y') ∨ (X k = x' ∧ Y k = y' ∧ X (k + 1) = x ∧ Y (k + 1) = y)
/-- the places of the fine map that the line is on -/
def JOn (X Y : Int → Int) (c r : Int) : Prop := ∃ k, (c = 2 * X k ∧ r = 2 * Y k) ∨ (c = X k + X (k + 1) ∧ r = Y k + Y (k + 1))
/-- a good closed line, round and round -/
def JP (n : Int) (X Y : Int → Int) (D : Int → Fin 8) : Prop :=
  4 ≤ n ∧ (∀ k, X (k + 1) = X k + jx (D k) ∧ Y (k + 1) = Y k + jy (D k)) ∧ (∀ k z, X (k + z * n) = X k ∧ Y (k + z * n) = Y k ∧ D (k + z * n) = D k) ∧
  (∀ j k, X j = X k → Y j = Y k → ∃ z : Int, j = k + z * n) ∧
  (∀ x y e f : Int, (e = 1 ∨ e = -1) → (f = 1 ∨ f = -1) → JS X Y x y (x + e) (y + f) → JS X Y (x + e) y x (y + f) → False) ∧
  ∀ k, (0 ≤ X k ∧ X k ≤ 23) ∧ (0 ≤ Y k ∧ Y k ≤ 15)
section
variable {n : Int} {X Y : Int → Int} {D : Int → Fin 8}
theorem JP.n4 (h : JP n X Y D) : 4 ≤ n := h.1
theorem JP.sx (h : JP n X Y D) (k : Int) : X (k + 1) = X k + jx (D k) := (h.2.1 k).1
theorem JP.sy (h : JP n X Y D) (k : Int) : Y (k + 1) = Y k + jy (D k) := (h.2.1 k).2
theorem JP.per (h : JP n X Y D) (k z : Int) : X (k + z * n) = X k ∧ Y (k + z * n) = Y k ∧ D (k + z * n) = D k := h.2.2.1 k z
theorem JP.dis (h : JP n X Y D) {j k : Int} (h1 : X j = X k) (h2 : Y j = Y k) : ∃ z : Int, j = k + z * n := h.2.2.2.1 j k h1 h2
theorem JP.cr (h : JP n X Y D) {x y e f : Int} (he : e = 1 ∨ e = -1) (hf : f = 1 ∨ f = -1) (h1 : JS X Y x y (x + e) (y + f)) (h2 : JS X Y (x + e) y x (y + f)) : False := h.2.2.2.2.1 x y e f he hf h1 h2
theorem JP.box (h : JP n X Y D) (k : Int) : (0 ≤ X k ∧ X k ≤ 23) ∧ (0 ≤ Y k ∧ Y k ≤ 15) := h.2.2.2.2.2 k
theorem JP.px (h : JP n X Y D) (k : Int) : X k = X (k - 1) + jx (D (k - 1)) := by have := h.sx (k - 1); rwa [show k - 1 + 1 = k by omega] at this
theorem JP.py (h : JP n X Y D) (k : Int) : Y k = Y (k - 1) + jy (D (k - 1)) := by have := h.sy (k - 1); rwa [show k - 1 + 1 = k by omega] at this
/-- the direction back -/
def ji (D : Int → Fin 8) (k : Int) : Fin 8 := D (k - 1) + 4
theorem JP.bx (h : JP n X Y D) (k : Int) : X (k - 1) = X k + jx (ji D k) := by have := h.px k; have := (j_opp (D (k - 1))).1; unfold ji; omega
theorem JP.by' (h : JP n X Y D) (k : Int) : Y (k - 1) = Y k + jy (ji D k) := by have := h.py k; have := (j_opp (D (k - 1))).2; unfold ji; omega
theorem JP.same (h : JP n X Y D) {j k : Int} (h1 : X j = X k) (h2 : Y j = Y k) (i : Int) : X (j + i) = X (k + i) ∧ Y (j + i) = Y (k + i) ∧ D (j + i) = D (k + i) := by
  obtain ⟨z, hz⟩ := h.dis h1 h2
  have := h.per (k + i) z
  rwa [show k + i + z * n = j + i by rw [hz]; omega] at this
/-- points of the line that are the same: a small way apart they are one -/
theorem JP.near (h : JP n X Y D) {j k : Int} (h1 : X j = X k) (h2 : Y j = Y k) (hd : j - k < n ∧ k - j < n) : j = k := by
  obtain ⟨z, hz⟩ := h.dis h1 h2
  have h4 := h.n4
  have : z = 0 := by
    rcases Int.lt_trichotomy z 0 with g | g | g
    · exfalso
      have : z * n ≤ (-1) * n := Int.mul_le_mul_of_nonneg_right (by omega) (by omega)
      omega
    · exact g
    · exfalso
      have : 1 * n ≤ z * n := Int.mul_le_mul_of_nonneg_right (by omega) (by omega)
      omega
  subst this
  omega
theorem JP.io (h : JP n X Y D) (k : Int) : ji D k ≠ D k := by
  intro e
  have h4 := h.n4
  have h1 := h.bx k; have h2 := h.by' k; have h3 := h.sx k; have h5 := h.sy k
  rw [e] at h1 h2
  have := h.near (j := k - 1) (k := k + 1) (by omega) (by omega) (by omega)
  omega
/-- the steps at a point of the line -/
theorem JP.noS (h : JP n X Y D) (k : Int) {b : Fin 8} (ho : b ≠ D k) (hi : b ≠ ji D k) : ¬ JS X Y (X k) (Y k) (X k + jx b) (Y k + jy b) := by
  rintro ⟨j, ⟨h1, h2, h3, h4⟩ | ⟨h1, h2, h3, h4⟩⟩
  · have hs := h.same h1 h2 0
    rw [show j + 0 = j by omega, show k + 0 = k by omega] at hs
    have a := h.sx j; have c := h.sy j
    rw [hs.2.2] at a c
    exact ho (j_inj _ _ (by omega) (by omega))
  · have hs := h.same h3 h4 (-1)
    rw [show j + 1 + -1 = j by omega, show k + -1 = k - 1 by omega] at hs
    have a := h.bx k; have c := h.by' k
    exact hi (j_inj _ _ (by omega) (by omega))
theorem JS.symm {x y x' y' : Int} (h : JS X Y x y x' y') : JS X Y x' y' x y := by
  obtain ⟨k, h | h⟩ := h
  · exact ⟨k, Or.inr h⟩
  · exact ⟨k, Or.inl h⟩
theorem JP.stepS (h : JP n X Y D) (k : Int) : JS X Y (X k) (Y k) (X k + jx (D k)) (Y k + jy (D k)) := ⟨k, Or.inl ⟨rfl, rfl, h.sx k, h.sy k⟩⟩
theorem JP.backS (h : JP n X Y D) (k : Int) : JS X Y (X k) (Y k) (X k + jx (ji D k)) (Y k + jy (ji D k)) := by
  rw [← h.bx k, ← h.by' k]
  exact ⟨k - 1, Or.inr ⟨rfl, rfl, by rw [show k - 1 + 1 = k by omega], by rw [show k - 1 + 1 = k by omega]⟩⟩
/-- a place between two points of the map is on the line iff there is a step -/
theorem JP.onH (h : JP n X Y D) {x y : Int} : JOn X Y (2 * x + 1) (2 * y) ↔ JS X Y x y (x + 1) y := by
  constructor
  · rintro ⟨j, ⟨h1, h2⟩ | ⟨h1, h2⟩⟩
    · omega
    · have a := h.sx j; have c := h.sy j
      rcases j8 (D j) with ⟨_, e1, e2⟩ | ⟨_, e1, e2⟩ | ⟨_, e1, e2⟩ | ⟨_, e1, e2⟩ | ⟨_, e1, e2⟩ | ⟨_, e1, e2⟩ | ⟨_, e1, e2⟩ | ⟨_, e1, e2⟩ <;> first | (exfalso; omega) | exact ⟨j, Or.inl (by omega)⟩ | exact ⟨j, Or.inr (by omega)⟩
  · rintro ⟨j, h1 | h1⟩ <;> exact ⟨j, Or.inr (by omega)⟩
theorem JP.onV (h : JP n X Y D) {x y : Int} : JOn X Y (2 * x) (2 * y + 1) ↔ JS X Y x y x (y + 1) := by
  constructor
  · rintro ⟨j, ⟨h1, h2⟩ | ⟨h1, h2⟩⟩
    · omega
    · have a := h.sx j; have c := h.sy j
      rcases j8 (D j) with ⟨_, e1, e2⟩ | ⟨_, e1, e2⟩ | ⟨_, e1, e2⟩ | ⟨_, e1, e2⟩ | ⟨_, e1, e2⟩ | ⟨_, e1, e2⟩ | ⟨_, e1, e2⟩ | ⟨_, e1, e2⟩ <;> first | (exfalso; omega) | exact ⟨j, Or.inl (by omega)⟩ | exact ⟨j, Or.inr (by omega)⟩
  · rintro ⟨j, h1 | h1⟩ <;> exact ⟨j, Or.inr (by omega)⟩
theorem JP.onD (h : JP n X Y D) {x y : Int} : JOn X Y (2 * x + 1) (2 * y + 1) ↔ JS X Y x y (x + 1) (y + 1) ∨ JS X Y (x + 1) y x (y + 1) := by
  constructor
  · rintro ⟨j, ⟨h1, h2⟩ | ⟨h1, h2⟩⟩
    · omega
    · have a := h.sx j; have c := h.sy j
      rcases j8 (D j) with ⟨_, e1, e2⟩ | ⟨_, e1, e2⟩ | ⟨_, e1, e2⟩ | ⟨_, e1, e2⟩ | ⟨_, e1, e2⟩ | ⟨_, e1, e2⟩ | ⟨_, e1, e2⟩ | ⟨_, e1, e2⟩ <;> first | (exfalso; omega) | exact Or.inl ⟨j, Or.inl (by omega)⟩ | exact Or.inl ⟨j, Or.inr (by omega)⟩ | exact Or.inr ⟨j, Or.inl (by omega)⟩ | exact Or.inr ⟨j, Or.inr (by omega)⟩
  · rintro (⟨j, h1 | h1⟩ | ⟨j, h1 | h1⟩) <;> exact ⟨j, Or.inr (by omega)⟩
/-- a place beside a point of the line, in a direction of an axis -/
theorem JP.freeA (h : JP n X Y D) (k : Int) {a : Fin 8} (ha : a.val % 2 = 0) (ho : a ≠ D k) (hi : a ≠ ji D k) : ¬ JOn X Y (2 * X k + jx a) (2 * Y k + jy a) := by
  have hn := h.noS k ho hi
  rcases j8 a with ⟨e, e1, e2⟩ | ⟨e, e1, e2⟩ | ⟨e, e1, e2⟩ | ⟨e, e1, e2⟩ | ⟨e, e1, e2⟩ | ⟨e, e1, e2⟩ | ⟨e, e1, e2⟩ | ⟨e, e1, e2⟩ <;> rw [e1, e2] at hn ⊢ <;> first | (subst e; exact absurd ha (by decide)) | skip
  · rw [show 2 * Y k + 0 = 2 * Y k by omega, h.onH]; rwa [show Y k + 0 = Y k by omega] at hn
  · rw [show 2 * X k + 0 = 2 * X k by omega, h.onV]; rwa [show X k + 0 = X k by omega] at hn
  · rw [show 2 * X k + -1 = 2 * (X k - 1) + 1 by omega, show 2 * Y k + 0 = 2 * Y k by omega, h.onH, show X k - 1 + 1 = X k by omega]
    intro q; exact hn (by rw [show Y k + 0 = Y k by omega, show X k + -1 = X k - 1 by omega]; exact q.symm)
  · rw [show 2 * Y k + -1 = 2 * (Y k - 1) + 1 by omega, show 2 * X k + 0 = 2 * X k by omega, h.onV, show Y k - 1 + 1 = Y k by omega]
    intro q; exact hn (by rw [show X k + 0 = X k by omega, show Y k + -1 = Y k - 1 by omega]; exact q.symm)
/-- a corner beside a point of the line -/
theorem JP.freeC (h : JP n X Y D) (k : Int) {b : Fin 8} (hb : b.val % 2 = 1) (ho : b ≠ D k) (hi : b ≠ ji D k) (hc : ¬ JS X Y (X k + jx b) (Y k) (X k) (Y k + jy b)) : ¬ JOn X Y (2 * X k + jx b) (2 * Y k + jy b) := by
  have hn := h.noS k ho hi
  rcases j8 b with ⟨e, e1, e2⟩ | ⟨e, e1, e2⟩ | ⟨e, e1, e2⟩ | ⟨e, e1, e2⟩ | ⟨e, e1, e2⟩ | ⟨e, e1, e2⟩ | ⟨e, e1, e2⟩ | ⟨e, e1, e2⟩ <;> rw [e1, e2] at hn hc ⊢ <;> first | (subst e; exact absurd hb (by decide)) | skip
  · rw [h.onD]; rintro (q | q)
    · exact hn q
    · exact hc q
  · rw [show 2 * X k + -1 = 2 * (X k - 1) + 1 by omega, h.onD, show X k - 1 + 1 = X k by omega]
    rw [show X k + -1 = X k - 1 by omega] at hn hc
    rintro (q | q)
    · exact hc q
    · exact hn q
  · rw [show 2 * X k + -1 = 2 * (X k - 1) + 1 by omega, show 2 * Y k + -1 = 2 * (Y k - 1) + 1 by omega, h.onD, show X k - 1 + 1 = X k by omega, show Y k - 1 + 1 = Y k by omega]
    rw [show X k + -1 = X k - 1 by omega, show Y k + -1 = Y k - 1 by omega] at hn hc
    rintro (q | q)
    · exact hn q.symm
    · exact hc q.symm
  · rw [show 2 * Y k + -1 = 2 * (Y k - 1) + 1 by omega, h.onD, show Y k - 1 + 1 = Y k by omega]
    rw [show Y k + -1 = Y k - 1 by omega] at hn hc
    rintro (q | q)
    · exact hc q.symm
    · exact hn q.symm
end

/-- strictly between i and o, going round -/
def jAx (i o a : Fin 8) : Bool := decide (a ≠ i) && decide ((a - i).val < (o - i).val)
def ja1 (i : Fin 8) : Fin 8 := if i.val % 2 = 0 then i + 2 else i + 1
def ja2 (o : Fin 8) : Fin 8 := if o.val % 2 = 0 then o + 6 else o + 7
theorem j_rng (a : Fin 8) : (-1 ≤ jx a ∧ jx a ≤ 1) ∧ (-1 ≤ jy a ∧ jy a ≤ 1) := by revert a; decide
theorem ja1_even (i : Fin 8) : (ja1 i).val % 2 = 0 := by revert i; decide
theorem ja2_even (i : Fin 8) : (ja2 i).val % 2 = 0 := by revert i; decide
set_option maxRecDepth 20000 in
theorem jAx_ne : ∀ i o a : Fin 8, jAx i o a = true → a ≠ i ∧ a ≠ o := by decide
set_option maxRecDepth 20000 in
theorem jAx_mid : ∀ i o a : Fin 8, jAx i o a = true → jAx i o (a + 2) = true → a + 1 ≠ i ∧ a + 1 ≠ o := by decide
set_option maxRecDepth 20000 in
theorem jAx_all : ∀ i o a : Fin 8, a.val % 2 = 0 → jAx i o a = true → jAx i o (ja1 i) = true ∧ (a = ja1 i ∨ a = ja1 i + 2 ∨ (a = ja1 i + 4 ∧ jAx i o (ja1 i + 2) = true) ∨ (a = ja1 i + 6 ∧ jAx i o (ja1 i + 2) = true ∧ jAx i o (ja1 i + 4) = true)) := by decide
set_option maxRecDepth 20000 in
theorem jAx_has : ∀ i o : Fin 8, i ≠ o → o ≠ i + 1 → ¬ (i.val % 2 = 0 ∧ o = i + 2) → jAx i o (ja1 i) = true ∧ jAx i o (ja2 o) = true := by decide
set_option maxRecDepth 20000 in
theorem jAx_no : ∀ i : Fin 8, jAx i (i + 1) (ja1 i) = false ∧ (i.val % 2 = 0 → jAx i (i + 2) (ja1 i) = false) ∧ i + 1 ≠ i + 2 := by decide
theorem j_id1 (o : Fin 8) : (2 * jx o + jx (ja1 (o + 4)) = jx (o + 7) + jx o) ∧ 2 * jy o + jy (ja1 (o + 4)) = jy (o + 7) + jy o := by revert o; decide
theorem j_id2 (o : Fin 8) : (2 * jx o + jx (o + 4) + jx (o + 5) = jx (ja2 o)) ∧ 2 * jy o + jy (o + 4) + jy (o + 5) = jy (ja2 o) := by revert o; decide
theorem j_id3 (o : Fin 8) (h : o.val % 2 = 1) : (jx o + jx (o + 5) = jx (o + 7)) ∧ jy o + jy (o + 5) = jy (o + 7) := by revert o; decide
theorem j_id4 (o : Fin 8) (h : o.val % 2 = 0) : (jx o + jx (o + 5) = jx (o + 6)) ∧ jy o + jy (o + 5) = jy (o + 6) := by revert o; decide
theorem j_id5 (o : Fin 8) (h : o.val % 2 = 0) : (jx (o + 7) = jx (o + 6) + jx o) ∧ jy (o + 7) = jy (o + 6) + jy o := by revert o; decide
theorem j_prev (i o : Fin 8) (h : o = i + 1) : i = o + 7 := by revert i o; decide
theorem j_prev2 (i o : Fin 8) (h : o = i + 2) : i = o + 6 ∧ i + 1 = o + 7 := by revert i o; decide
theorem j_par (o : Fin 8) : o.val % 2 = 0 ∨ o.val % 2 = 1 := by revert o; decide
theorem j_par4 (o : Fin 8) : (o + 4).val % 2 = o.val % 2 ∧ (o + 7).val % 2 = 1 - o.val % 2 ∧ (o + 6).val % 2 = o.val % 2 ∧ (o + 5).val % 2 = 1 - o.val % 2 := by revert o; decide
def JBox (c r : Int) : Prop := -2 ≤ c ∧ c ≤ 48 ∧ -2 ≤ r ∧ r ≤ 32
/-- closed under ways to free places -/
def JC (X Y : Int → Int) (Q : Int → Int → Prop) : Prop :=
  (∀ c r c' r' : Int, ((c' = c + 1 ∨ c' = c - 1) ∧ r' = r ∨ c' = c ∧ (r' = r + 1 ∨ r' = r - 1)) → Q c r → ¬ JOn X Y c' r' → JBox c' r' → Q c' r') ∧
  ∀ x y e f : Int, (e = 1 ∨ e = -1) → (f = 1 ∨ f = -1) → ¬ JS X Y x y (x + e) (y + f) → (Q (2 * x + e) (2 * y) → ¬ JOn X Y (2 * x) (2 * y + f) → JBox (2 * x) (2 * y + f) → Q (2 * x) (2 * y + f)) ∧ (Q (2 * x) (2 * y + f) → ¬ JOn X Y (2 * x + e) (2 * y) → JBox (2 * x + e) (2 * y) → Q (2 * x + e) (2 * y))
section
variable {n : Int} {X Y : Int → Int} {D : Int → Fin 8} {Q : Int → Int → Prop}
theorem JP.bx2 (h : JP n X Y D) (k : Int) (a : Fin 8) : JBox (2 * X k + jx a) (2 * Y k + jy a) := by have := h.box k; have := j_rng a; unfold JBox; omega
theorem JP.rot (h : JP n X Y D) (hc : JC X Y Q) (k : Int) {a : Fin 8} (ha : a.val % 2 = 0) (h1 : jAx (ji D k) (D k) a = true) (h2 : jAx (ji D k) (D k) (a + 2) = true) (hq : Q (2 * X k + jx a) (2 * Y k + jy a)) : Q (2 * X k + jx (a + 2)) (2 * Y k + jy (a + 2)) := by
  have hm := jAx_mid _ _ _ h1 h2
  have hs := h.noS k hm.2 hm.1
  have hn := jAx_ne _ _ _ h2
  have hf := h.freeA k (a := a + 2) ((show ∀ b : Fin 8, b.val % 2 = 0 → (b + 2).val % 2 = 0 by decide) a ha) hn.2 hn.1
  have hb := h.bx2 k (a + 2)
  rcases j8 a with ⟨e, e1, e2⟩ | ⟨e, e1, e2⟩ | ⟨e, e1, e2⟩ | ⟨e, e1, e2⟩ | ⟨e, e1, e2⟩ | ⟨e, e1, e2⟩ | ⟨e, e1, e2⟩ | ⟨e, e1, e2⟩ <;> first | (subst e; exact absurd ha (by decide)) | skip
  all_goals (subst e; simp only [show ((0 : Fin 8) + 1) = 1 by decide, show ((0 : Fin 8) + 2) = 2 by decide, show ((2 : Fin 8) + 1) = 3 by decide, show ((2 : Fin 8) + 2) = 4 by decide, show ((4 : Fin 8) + 1) = 5 by decide, show ((4 : Fin 8) + 2) = 6 by decide, show ((6 : Fin 8) + 1) = 7 by decide, show ((6 : Fin 8) + 2) = 0 by decide, show jx 0 = 1 from rfl, show jy 0 = 0 from rfl, show jx 1 = 1 from rfl, show jy 1 = 1 from rfl, show jx 2 = 0 from rfl, show jy 2 = 1 from rfl, show jx 3 = -1 from rfl, show jy 3 = 1 from rfl, show jx 4 = -1 from rfl, show jy 4 = 0 from rfl, show jx 5 = -1 from rfl, show jy 5 = -1 from rfl, show jx 6 = 0 from rfl, show jy 6 = -1 from rfl, show jx 7 = 1 from rfl, show jy 7 = -1 from rfl, Int.add_zero] at *)
  · exact (hc.2 (X k) (Y k) 1 1 (Or.inl rfl) (Or.inl rfl) hs).1 hq hf hb
  · exact (hc.2 (X k) (Y k) (-1) 1 (Or.inr rfl) (Or.inl rfl) hs).2 hq hf hb
  · exact (hc.2 (X k) (Y k) (-1) (-1) (Or.inr rfl) (Or.inr rfl) hs).1 hq hf hb
  · exact (hc.2 (X k) (Y k) 1 (-1) (Or.inl rfl) (Or.inr rfl) hs).2 hq hf hb
/-- Q on the side of the k-th point that lies between its step back and its step on -/
def JF (X Y : Int → Int) (D : Int → Fin 8) (Q : Int → Int → Prop) (k : Int) : Prop :=
  (jAx (ji D k) (D k) (ja1 (ji D k)) = true → Q (2 * X k + jx (ja1 (ji D k))) (2 * Y k + jy (ja1 (ji D k)))) ∧
  ((ji D k).val % 2 = 0 → D k = ji D k + 2 → Q (2 * X k + jx (ji D k + 1)) (2 * Y k + jy (ji D k + 1))) ∧
  (D k = ji D k + 1 → Q (2 * X k + jx (ji D k) + jx (D k)) (2 * Y k + jy (ji D k) + jy (D k)))
theorem JP.arc (h : JP n X Y D) (hc : JC X Y Q) {k : Int} (hF : JF X Y D Q k) {a : Fin 8} (ha : a.val % 2 = 0) (h1 : jAx (ji D k) (D k) a = true) : Q (2 * X k + jx a) (2 * Y k + jy a) := by
  obtain ⟨g1, g2⟩ := jAx_all _ _ _ ha h1
  have q0 := hF.1 g1
  have e0 := ja1_even (ji D k)
  have e2 : (ja1 (ji D k) + 2).val % 2 = 0 := by revert e0; generalize ja1 (ji D k) = b; revert b; decide
  have e4 : (ja1 (ji D k) + 4).val % 2 = 0 := by revert e0; generalize ja1 (ji D k) = b; revert b; decide
  have s2 : ja1 (ji D k) + 2 + 2 = ja1 (ji D k) + 4 := by generalize ja1 (ji D k) = b; revert b; decide
  have s4 : ja1 (ji D k) + 4 + 2 = ja1 (ji D k) + 6 := by generalize ja1 (ji D k) = b; revert b; decide
  rcases g2 with g | g | ⟨g, g3⟩ | ⟨g, g3, g4⟩
  · rw [g]; exact q0
  · rw [g] at h1 ⊢; exact h.rot hc k e0 g1 h1 q0
  · have q2 := h.rot hc k e0 g1 g3 q0
    rw [g] at h1 ⊢
    rw [← s2] at h1 ⊢
    exact h.rot hc k e2 g3 h1 q2
  · have q2 := h.rot hc k e0 g1 g3 q0
    have q4 := h.rot hc k e2 g3 (by rw [s2]; exact g4) q2
    rw [s2] at q4
    rw [g] at h1 ⊢
    rw [← s4] at h1 ⊢
    exact h.rot hc k e4 g4 h1 q4
theorem ji_next (D : Int → Fin 8) (k : Int) : ji D (k + 1) = D k + 4 := by unfold ji; rw [show k + 1 - 1 = k by omega]
theorem JP.tri (h : JP n X Y D) (k : Int) (h1 : jx (D k) + jx (D (k + 1)) = jx (ji D k)) (h2 : jy (D k) + jy (D (k + 1)) = jy (ji D k)) : False := by
  have a := h.sx k; have b := h.sy k; have c := h.sx (k + 1); have d := h.sy (k + 1); have e := h.bx k; have f := h.by' k; have h4 := h.n4
  have := h.near (j := k + 1 + 1) (k := k - 1) (by omega) (by omega) (by omega)
  omega
/-- two sharp bends the same way, one after the other: no -/
theorem JP.sharp2 (h : JP n X Y D) (k : Int) (h1 : D k = ji D k + 1) (h2 : D (k + 1) = D k + 5) : False := by
  have hi := j_prev _ _ h1
  rcases j_par (D k) with hp | hp
  · have hb := h.backS k
    have hs := h.stepS (k + 1)
    rw [h.sx k, h.sy k, h2] at hs
    rw [hi] at hb
    rcases j8 (D k) with ⟨e, e1, e2⟩ | ⟨e, e1, e2⟩ | ⟨e, e1, e2⟩ | ⟨e, e1, e2⟩ | ⟨e, e1, e2⟩ | ⟨e, e1, e2⟩ | ⟨e, e1, e2⟩ | ⟨e, e1, e2⟩ <;> rw [e] at hp hb hs <;> first | exact absurd hp (by decide) | skip
    · exact h.cr (x := X k) (y := Y k) (e := 1) (f := -1) (Or.inl rfl) (Or.inr rfl) hb (by
        have := hs; simp only [show ((0 : Fin 8) + 5) = 5 by decide, show jx 0 = 1 from rfl, show jy 0 = 0 from rfl, show jx 5 = -1 from rfl, show jy 5 = -1 from rfl] at this
        rwa [show X k + 1 + -1 = X k by omega, show Y k + 0 + -1 = Y k + -1 by omega, show Y k + 0 = Y k by omega] at this)
    · exact h.cr (x := X k) (y := Y k) (e := 1) (f := 1) (Or.inl rfl) (Or.inl rfl) hb (by
        have := hs; simp only [show ((2 : Fin 8) + 5) = 7 by decide, show jx 2 = 0 from rfl, show jy 2 = 1 from rfl, show jx 7 = 1 from rfl, show jy 7 = -1 from rfl] at this
        rw [show X k + 0 + 1 = X k + 1 by omega, show Y k + 1 + -1 = Y k by omega, show X k + 0 = X k by omega] at this
        exact this.symm)
    · exact h.cr (x := X k) (y := Y k) (e := -1) (f := 1) (Or.inr rfl) (Or.inl rfl) hb (by
        have := hs; simp only [show ((4 : Fin 8) + 5) = 1 by decide, show jx 4 = -1 from rfl, show jy 4 = 0 from rfl, show jx 1 = 1 from rfl, show jy 1 = 1 from rfl] at this
        rwa [show X k + -1 + 1 = X k by omega, show Y k + 0 + 1 = Y k + 1 by omega, show Y k + 0 = Y k by omega] at this)
    · exact h.cr (x := X k) (y := Y k) (e := -1) (f := -1) (Or.inr rfl) (Or.inr rfl) hb (by
        have := hs; simp only [show ((6 : Fin 8) + 5) = 3 by decide, show jx 6 = 0 from rfl, show jy 6 = -1 from rfl, show jx 3 = -1 from rfl, show jy 3 = 1 from rfl] at this
        rw [show X k + 0 + -1 = X k + -1 by omega, show Y k + -1 + 1 = Y k by omega, show X k + 0 = X k by omega] at this
        exact this.symm)
  · have i3 := j_id3 _ hp
    exact h.tri k (by rw [h2, hi]; exact i3.1) (by rw [h2, hi]; exact i3.2)
theorem JP.jf (h : JP n X Y D) (hc : JC X Y Q) (k : Int) (hF : JF X Y D Q k) : JF X Y D Q (k + 1) := by
  have hj := ji_next D k
  have hio := h.io k
  have hio' := h.io (k + 1)
  have ex := h.sx k; have ey := h.sy k
  have n1 := jAx_no (ji D (k + 1))
  have hb := h.box k
  by_cases hs : D k = ji D k + 1
  · -- a sharp bend here
    have hi := j_prev _ _ hs
    have hne : D (k + 1) ≠ ji D (k + 1) + 1 := fun e => h.sharp2 k hs (by rw [e, hj]; generalize D k = b; revert b; decide)
    have hne2 : ¬ ((ji D (k + 1)).val % 2 = 0 ∧ D (k + 1) = ji D (k + 1) + 2) := by
      rintro ⟨e1, e2⟩
      have hp : (D k).val % 2 = 0 := by rw [hj] at e1; rw [← (j_par4 (D k)).1]; exact e1
      have hD : D (k + 1) = D k + 6 := by rw [e2, hj]; generalize D k = b; revert b; decide
      have i5 := j_id5 _ hp
      exact h.tri k (by rw [hD, hi, i5.1]; omega) (by rw [hD, hi, i5.2]; omega)
    refine ⟨fun _ => ?_, fun e1 e2 => absurd ⟨e1, e2⟩ hne2, fun e => absurd e hne⟩
    have q := hF.2.2 hs
    have i1 := j_id1 (D k)
    rw [hj, ex, ey]
    rw [hi] at q
    rw [show 2 * (X k + jx (D k)) + jx (ja1 (D k + 4)) = 2 * X k + jx (D k + 7) + jx (D k) by omega, show 2 * (Y k + jy (D k)) + jy (ja1 (D k + 4)) = 2 * Y k + jy (D k + 7) + jy (D k) by omega]
    exact q
  · by_cases hs' : D (k + 1) = ji D (k + 1) + 1
    · -- a sharp bend at the next point
      have hD : D (k + 1) = D k + 5 := by rw [hs', hj]; generalize D k = b; revert b; decide
      have hco : ¬ ((ji D k).val % 2 = 0 ∧ D k = ji D k + 2) := by
        rintro ⟨e1, e2⟩
        have hi := j_prev2 _ _ e2
        have hp : (D k).val % 2 = 0 := by rw [hi.1] at e1; rw [← (j_par4 (D k)).2.2.1]; exact e1
        have i4 := j_id4 _ hp
        exact h.tri k (by rw [hD, hi.1]; exact i4.1) (by rw [hD, hi.1]; exact i4.2)
      have hh := jAx_has _ _ hio hs hco
      have q := h.arc hc hF (ja2_even _) hh.2
      refine ⟨fun e => ?_, fun _ e2 => ?_, fun _ => ?_⟩
      · rw [hs', n1.1] at e; cases e
      · exact absurd (hs'.symm.trans e2) n1.2.2
      · have i2 := j_id2 (D k)
        rw [hD, hj, ex, ey, show 2 * (X k + jx (D k)) + jx (D k + 4) + jx (D k + 5) = 2 * X k + jx (ja2 (D k)) by omega, show 2 * (Y k + jy (D k)) + jy (D k + 4) + jy (D k + 5) = 2 * Y k + jy (ja2 (D k)) by omega]
        exact q
    · have hD5 : D k + 5 ≠ D (k + 1) := fun e => hs' (by rw [hj, ← e]; generalize D k = b; revert b; decide)
      have hD5i : D k + 5 ≠ ji D (k + 1) := by rw [hj]; generalize D k = b; revert b; decide
      rcases j_par (D k) with hp | hp
      · -- a step along an axis: the corner between
        have i5 := j_id5 _ hp
        have i4 := j_id4 _ hp
        have hfree : ¬ JOn X Y (2 * X k + jx (D k + 7)) (2 * Y k + jy (D k + 7)) := by
          refine h.freeC k (by rw [(j_par4 (D k)).2.1, hp]) (by generalize D k = b; revert b; decide) (fun e => hs (by rw [← e]; generalize D k = b; revert b; decide)) ?_
          have hn := h.noS (k + 1) hD5 hD5i
          rw [ex, ey] at hn
          have hx : (jy (D k) = 0 ∧ jx (D k + 6) = 0) ∨ (jx (D k) = 0 ∧ jy (D k + 6) = 0) := by revert hp; generalize D k = b; revert b; decide
          rcases hx with ⟨a1, a2⟩ | ⟨a1, a2⟩
          · rw [i5.1, i5.2, a1, a2, show X k + (0 + jx (D k)) = X k + jx (D k) by omega, show Y k + (jy (D k + 6) + 0) = Y k + jy (D k + 6) by omega]
            rw [a1, show X k + jx (D k) + jx (D k + 5) = X k by omega, show Y k + 0 + jy (D k + 5) = Y k + jy (D k + 6) by omega, show Y k + 0 = Y k by omega] at hn
            exact hn
          · rw [i5.1, i5.2, a1, a2, show X k + (jx (D k + 6) + 0) = X k + jx (D k + 6) by omega, show Y k + (0 + jy (D k)) = Y k + jy (D k) by omega]
            rw [a1, show X k + 0 + jx (D k + 5) = X k + jx (D k + 6) by omega, show Y k + jy (D k) + jy (D k + 5) = Y k by omega, show X k + 0 = X k by omega] at hn
            exact fun q => hn q.symm
        have hv : (jx (D k) = 1 ∨ jx (D k) = -1) ∧ jy (D k) = 0 ∨ jx (D k) = 0 ∧ (jy (D k) = 1 ∨ jy (D k) = -1) := by revert hp; generalize D k = b; revert b; decide
        have qc : Q (2 * X k + jx (D k + 7)) (2 * Y k + jy (D k + 7)) := by
          by_cases hco : (ji D k).val % 2 = 0 ∧ D k = ji D k + 2
          · have hi := j_prev2 _ _ hco.2
            have q := hF.2.1 hco.1 hco.2
            rw [hi.2] at q
            exact q
          · have hh := jAx_has _ _ hio hs hco
            have q := h.arc hc hF (ja2_even _) hh.2
            rw [show ja2 (D k) = D k + 6 from if_pos hp] at q
            exact hc.1 _ _ _ _ (by omega) q hfree (h.bx2 k _)
        refine ⟨fun e => ?_, fun e1 e2 => ?_, fun e => absurd e hs'⟩
        · have ja : ja1 (D k + 4) = D k + 6 := by revert hp; generalize D k = b; revert b; decide
          have hne := jAx_ne _ _ _ e
          have hf := h.freeA (k + 1) (ja1_even _) hne.2 hne.1
          have hbx := h.bx2 (k + 1) (ja1 (ji D (k + 1)))
          rw [hj, ja, ex, ey] at hf hbx ⊢
          exact hc.1 _ _ _ _ (by omega) qc hf hbx
        · have i6 : (jx (D k + 7) = 2 * jx (D k) + jx (D k + 5)) ∧ jy (D k + 7) = 2 * jy (D k) + jy (D k + 5) := by omega
          have s5 : D k + 4 + 1 = D k + 5 := by generalize D k = b; revert b; decide
          rw [hj, s5, ex, ey, show 2 * (X k + jx (D k)) + jx (D k + 5) = 2 * X k + jx (D k + 7) by omega, show 2 * (Y k + jy (D k)) + jy (D k + 5) = 2 * Y k + jy (D k + 7) by omega]
          exact qc
      · -- a slanting step
        have hco : ¬ ((ji D k).val % 2 = 0 ∧ D k = ji D k + 2) := by
          rintro ⟨e1, e2⟩
          have hi := j_prev2 _ _ e2
          rw [hi.1, (j_par4 (D k)).2.2.1] at e1
          omega
        have hh := jAx_has _ _ hio hs hco
        have q := h.arc hc hF (ja2_even _) hh.2
        rw [show ja2 (D k) = D k + 7 from if_neg (by omega)] at q
        refine ⟨fun e => ?_, fun e1 _ => ?_, fun e => absurd e hs'⟩
        · have ja : ja1 (D k + 4) = D k + 5 := by revert hp; generalize D k = b; revert b; decide
          have hne := jAx_ne _ _ _ e
          have hf := h.freeA (k + 1) (ja1_even _) hne.2 hne.1
          have hbx := h.bx2 (k + 1) (ja1 (ji D (k + 1)))
          have hst := h.stepS k
          rw [hj, ja, ex, ey] at hf hbx ⊢
          have hcr : ∀ e f : Int, (e = 1 ∨ e = -1) → (f = 1 ∨ f = -1) → jx (D k) = e → jy (D k) = f → ¬ JS X Y (X k + e) (Y k) (X k) (Y k + f) := fun e f he hf e1 e2 q2 => h.cr he hf (by rw [← e1, ← e2]; exact hst) q2
          rcases j8 (D k) with ⟨e, e1, e2⟩ | ⟨e, e1, e2⟩ | ⟨e, e1, e2⟩ | ⟨e, e1, e2⟩ | ⟨e, e1, e2⟩ | ⟨e, e1, e2⟩ | ⟨e, e1, e2⟩ | ⟨e, e1, e2⟩ <;> rw [e] at hp q hf hbx ⊢ <;> first | exact absurd hp (by decide) | skip
          · have hc1 := hcr 1 1 (Or.inl rfl) (Or.inl rfl) e1 e2
            have w := (hc.2 (X k + 1) (Y k) (-1) 1 (Or.inr rfl) (Or.inl rfl) (by rw [show X k + 1 + -1 = X k by omega]; exact hc1)).1
            simp only [show ((1 : Fin 8) + 7) = 0 by decide, show ((1 : Fin 8) + 5) = 6 by decide, show jx 0 = 1 from rfl, show jy 0 = 0 from rfl, show jx 1 = 1 from rfl, show jy 1 = 1 from rfl, show jx 6 = 0 from rfl, show jy 6 = -1 from rfl] at q hf hbx ⊢
            rw [show 2 * (X k + 1) + -1 = 2 * X k + 1 by omega, show 2 * (X k + 1) = 2 * (X k + 1) + 0 by omega, show 2 * Y k = 2 * Y k + 0 by omega, show 2 * Y k + 0 + 1 = 2 * (Y k + 1) + -1 by omega] at w
            exact w q hf hbx
          · have hc1 := hcr (-1) 1 (Or.inr rfl) (Or.inl rfl) e1 e2
            have w := (hc.2 (X k) (Y k + 1) (-1) (-1) (Or.inr rfl) (Or.inr rfl) (by rw [show Y k + 1 + -1 = Y k by omega]; exact fun z => hc1 z.symm)).2
            simp only [show ((3 : Fin 8) + 7) = 2 by decide, show ((3 : Fin 8) + 5) = 0 by decide, show jx 0 = 1 from rfl, show jy 0 = 0 from rfl, show jx 3 = -1 from rfl, show jy 3 = 1 from rfl, show jx 2 = 0 from rfl, show jy 2 = 1 from rfl] at q hf hbx ⊢
            rw [show 2 * (Y k + 1) + -1 = 2 * Y k + 1 by omega, show 2 * (Y k + 1) = 2 * (Y k + 1) + 0 by omega, show 2 * X k = 2 * X k + 0 by omega, show 2 * X k + 0 + -1 = 2 * (X k + -1) + 1 by omega] at w
            exact w q hf hbx
          · have hc1 := hcr (-1) (-1) (Or.inr rfl) (Or.inr rfl) e1 e2
            have w := (hc.2 (X k + -1) (Y k) 1 (-1) (Or.inl rfl) (Or.inr rfl) (by rw [show X k + -1 + 1 = X k by omega]; exact hc1)).1
            simp only [show ((5 : Fin 8) + 7) = 4 by decide, show ((5 : Fin 8) + 5) = 2 by decide, show jx 4 = -1 from rfl, show jy 4 = 0 from rfl, show jx 5 = -1 from rfl, show jy 5 = -1 from rfl, show jx 2 = 0 from rfl, show jy 2 = 1 from rfl] at q hf hbx ⊢
            rw [show 2 * (X k + -1) + 1 = 2 * X k + -1 by omega, show 2 * (X k + -1) = 2 * (X k + -1) + 0 by omega, show 2 * Y k = 2 * Y k + 0 by omega, show 2 * Y k + 0 + -1 = 2 * (Y k + -1) + 1 by omega] at w
            exact w q hf hbx
          · have hc1 := hcr 1 (-1) (Or.inl rfl) (Or.inr rfl) e1 e2
            have w := (hc.2 (X k) (Y k + -1) 1 1 (Or.inl rfl) (Or.inl rfl) (by rw [show Y k + -1 + 1 = Y k by omega]; exact fun z => hc1 z.symm)).2
            simp only [show ((7 : Fin 8) + 7) = 6 by decide, show ((7 : Fin 8) + 5) = 4 by decide, show jx 4 = -1 from rfl, show jy 4 = 0 from rfl, show jx 7 = 1 from rfl, show jy 7 = -1 from rfl, show jx 6 = 0 from rfl, show jy 6 = -1 from rfl] at q hf hbx ⊢
            rw [show 2 * (Y k + -1) + 1 = 2 * Y k + -1 by omega, show 2 * (Y k + -1) = 2 * (Y k + -1) + 0 by omega, show 2 * X k = 2 * X k + 0 by omega, show 2 * X k + 0 + 1 = 2 * (X k + 1) + -1 by omega] at w
            exact w q hf hbx
        · rw [hj, (j_par4 (D k)).1] at e1; omega
/-- round the whole line -/
theorem JP.jfAll (h : JP n X Y D) (hc : JC X Y Q) {t : Int} (hF : JF X Y D Q t) (k : Int) : JF X Y D Q k := by
  have up : ∀ j : Nat, JF X Y D Q (t + j) := by
    intro j
    induction j with
    | zero => rw [show t + ((0 : Nat) : Int) = t by omega]; exact hF
    | succ j ih => rw [show t + ((j + 1 : Nat) : Int) = t + j + 1 by omega]; exact h.jf hc _ ih
  have h4 := h.n4
  have hk := up (k - t + (t - k).toNat * n).toNat
  have hp := h.per k (t - k).toNat
  have hp1 := h.per (k - 1) (t - k).toNat
  have hge : (t - k : Int) ≤ (t - k).toNat * n := by
    have : ((t - k).toNat : Int) * 1 ≤ (t - k).toNat * n := Int.mul_le_mul_of_nonneg_left (by omega) (by omega)
    omega
  rw [show t + ((k - t + (t - k).toNat * n).toNat : Int) = k + (t - k).toNat * n by omega] at hk
  have hji : ji D (k + (t - k).toNat * n) = ji D k := by unfold ji; rw [show k + (t - k).toNat * n - 1 = k - 1 + (t - k).toNat * n by omega, hp1.2.2]
  unfold JF at hk ⊢
  rw [hji, hp.1, hp.2.1, hp.2.2] at hk
  exact hk
end

/-- whether a step crosses the ray that goes right from a place, a little below it -/
def jcr (x1 y1 x2 y2 c r : Int) : Bool := decide ((y2 = y1 + 1 ∧ y1 = r / 2 ∧ ((r % 2 = 0 ∧ c < 2 * x1) ∨ (r % 2 = 1 ∧ c < x1 + x2))) ∨ (y2 = y1 - 1 ∧ y2 = r / 2 ∧ ((r % 2 = 0 ∧ c < 2 * x2) ∨ (r % 2 = 1 ∧ c < x1 + x2))))
def jpar (X Y : Int → Int) (c r : Int) : Nat → Bool
  | 0 => false
  | k + 1 => Bool.xor (jpar X Y c r k) (jcr (X k) (Y k) (X (k + 1)) (Y (k + 1)) c r)
theorem xor_eq_of {a b c d : Bool} (h : Bool.xor a b = Bool.xor c d) : Bool.xor a c = Bool.xor b d := by revert h; cases a <;> cases b <;> cases c <;> cases d <;> decide
theorem jpar_tel {X Y : Int → Int} {c r c' r' : Int} (s : Int → Bool) : ∀ N : Nat, (∀ k : Int, Bool.xor (jcr (X k) (Y k) (X (k + 1)) (Y (k + 1)) c r) (jcr (X k) (Y k) (X (k + 1)) (Y (k + 1)) c' r') = Bool.xor (s k) (s (k + 1))) → Bool.xor (jpar X Y c r N) (jpar X Y c' r' N) = Bool.xor (s 0) (s N) := by
  intro N h
  induction N with
  | zero => show Bool.xor false false = _; simp
  | succ N ih =>
    have hk := h N
    rw [jpar, jpar]
    rw [show ((N + 1 : Nat) : Int) = (N : Int) + 1 by omega]
    revert ih hk
    generalize jpar X Y c r N = a1; generalize jpar X Y c' r' N = a2; generalize s 0 = a3; generalize s N = a4; generalize s (N + 1) = a5
    generalize jcr (X N) (Y N) (X (N + 1)) (Y (N + 1)) c r = a6; generalize jcr (X N) (Y N) (X (N + 1)) (Y (N + 1)) c' r' = a7
    revert a1 a2 a3 a4 a5 a6 a7; decide
theorem xor_d0 {p q : Prop} [Decidable p] [Decidable q] (h1 : p → q) (h2 : q → p) : Bool.xor (decide p) (decide q) = Bool.xor false false := by
  by_cases hp : p <;> by_cases hq : q <;> simp_all
theorem xor_d1 {p q u v : Prop} [Decidable p] [Decidable q] [Decidable u] [Decidable v] (h1 : p → v) (h2 : v → p) (h3 : q → u) (h4 : u → q) : Bool.xor (decide p) (decide q) = Bool.xor (decide u) (decide v) := by
  by_cases hp : p <;> by_cases hq : q <;> by_cases hu : u <;> by_cases hv : v <;> simp_all
theorem xor_d2 {p q u v : Prop} [Decidable p] [Decidable q] [Decidable u] [Decidable v] (h1 : p → u) (h2 : u → p) (h3 : q → v) (h4 : v → q) : Bool.xor (decide p) (decide q) = Bool.xor (decide u) (decide v) := by
  by_cases hp : p <;> by_cases hq : q <;> by_cases hu : u <;> by_cases hv : v <;> simp_all
theorem xor_d3 {p q u v : Prop} [Decidable p] [Decidable q] [Decidable u] [Decidable v] (h1 : ¬ p) (h2 : ¬ q) (h3 : u → v) (h4 : v → u) : Bool.xor (decide p) (decide q) = Bool.xor (decide u) (decide v) := by
  by_cases hp : p <;> by_cases hq : q <;> by_cases hu : u <;> by_cases hv : v <;> simp_all
section
variable {N : Nat} {X Y : Int → Int} {D : Int → Fin 8}
theorem JP.fin (h : JP N X Y D) (s : Int → Bool) (hs : ∀ j k : Int, X j = X k → Y j = Y k → s j = s k) {c r c' r' : Int} (hk : ∀ k : Int, Bool.xor (jcr (X k) (Y k) (X (k + 1)) (Y (k + 1)) c r) (jcr (X k) (Y k) (X (k + 1)) (Y (k + 1)) c' r') = Bool.xor (s k) (s (k + 1))) : jpar X Y c r N = jpar X Y c' r' N := by
  have t := jpar_tel s N hk
  have p := h.per 0 1
  rw [show (0 : Int) + 1 * N = N by omega] at p
  rw [hs N 0 p.1 p.2.1] at t
  revert t
  generalize jpar X Y c r N = a; generalize jpar X Y c' r' N = b; generalize s 0 = d
  revert a b d; decide
theorem JP.rg (h : JP N X Y D) (k : Int) : (-1 ≤ X (k + 1) - X k ∧ X (k + 1) - X k ≤ 1) ∧ (-1 ≤ Y (k + 1) - Y k ∧ Y (k + 1) - Y k ≤ 1) ∧ ¬ (X (k + 1) = X k ∧ Y (k + 1) = Y k) := by
  have a := h.sx k; have b := h.sy k
  rcases j8 (D k) with ⟨_, e1, e2⟩ | ⟨_, e1, e2⟩ | ⟨_, e1, e2⟩ | ⟨_, e1, e2⟩ | ⟨_, e1, e2⟩ | ⟨_, e1, e2⟩ | ⟨_, e1, e2⟩ | ⟨_, e1, e2⟩ <;> omega
theorem jnon {c r : Int} (h : ¬ JOn X Y c r) (k : Int) : ¬ (c = 2 * X k ∧ r = 2 * Y k) ∧ ¬ (c = 2 * X (k + 1) ∧ r = 2 * Y (k + 1)) ∧ ¬ (c = X k + X (k + 1) ∧ r = Y k + Y (k + 1)) :=
  ⟨fun q => h ⟨k, Or.inl q⟩, fun q => h ⟨k + 1, Or.inl q⟩, fun q => h ⟨k, Or.inr q⟩⟩
theorem JP.mvR (h : JP N X Y D) {c r : Int} (h2 : ¬ JOn X Y (c + 1) r) : jpar X Y c r N = jpar X Y (c + 1) r N := by
  refine h.fin (fun _ => false) (fun _ _ _ _ => rfl) fun k => ?_
  have f := jnon h2 k
  unfold jcr
  have rg := h.rg k
  refine xor_d0 (fun z => ?_) (fun z => ?_) <;> rcases z with ⟨z1, z2, z3⟩ | ⟨z1, z2, z3⟩
  · left; omega
  · right; omega
  · left; omega
  · right; omega
theorem JP.mvD0 (h : JP N X Y D) {c r : Int} (hr : r % 2 = 0) (h1 : ¬ JOn X Y c r) (h2 : ¬ JOn X Y c (r + 1)) : jpar X Y c r N = jpar X Y c (r + 1) N := by
  refine h.fin (fun _ => false) (fun _ _ _ _ => rfl) fun k => ?_
  have f := jnon h2 k
  have f1 := jnon h1 k
  unfold jcr
  have rg := h.rg k
  refine xor_d0 (fun z => ?_) (fun z => ?_) <;> rcases z with ⟨z1, z2, z3⟩ | ⟨z1, z2, z3⟩
  · left; omega
  · right; omega
  · left; omega
  · right; omega
theorem JP.mvD1 (h : JP N X Y D) {c r : Int} (hr : r % 2 = 1) (h1 : ¬ JOn X Y c r) (h2 : ¬ JOn X Y c (r + 1)) : jpar X Y c r N = jpar X Y c (r + 1) N := by
  refine h.fin (fun k => decide (2 * Y k = r + 1 ∧ c < 2 * X k)) (fun j k e1 e2 => by rw [e1, e2]) fun k => ?_
  have f := jnon h2 k
  have f1 := jnon h1 k
  unfold jcr
  have rg := h.rg k
  rcases (show Y (k + 1) = Y k + 1 ∨ Y (k + 1) = Y k - 1 ∨ Y (k + 1) = Y k by omega) with e' | e' | e'
  · exact xor_d1 (fun z => by omega) (fun z => by left; omega) (fun z => by omega) (fun z => by left; omega)
  · exact xor_d2 (fun z => by omega) (fun z => by right; omega) (fun z => by omega) (fun z => by right; omega)
  · exact xor_d3 (fun z => by omega) (fun z => by omega) (fun z => by omega) (fun z => by omega)
theorem jnoS {x y x' y' : Int} (h : ¬ JS X Y x y x' y') (k : Int) : ¬ (X k = x ∧ Y k = y ∧ X (k + 1) = x' ∧ Y (k + 1) = y') ∧ ¬ (X k = x' ∧ Y k = y' ∧ X (k + 1) = x ∧ Y (k + 1) = y) :=
  ⟨fun q => h ⟨k, Or.inl q⟩, fun q => h ⟨k, Or.inr q⟩⟩
theorem JP.mvS1 (h : JP N X Y D) {x y e : Int} (he : e = 1 ∨ e = -1) (hs : ¬ JS X Y x y (x + e) (y + 1)) (h1 : ¬ JOn X Y (2 * x + e) (2 * y)) (h2 : ¬ JOn X Y (2 * x) (2 * y + 1)) : jpar X Y (2 * x + e) (2 * y) N = jpar X Y (2 * x) (2 * y + 1) N := by
  refine h.fin (fun _ => false) (fun _ _ _ _ => rfl) fun k => ?_
  have f := jnon h2 k
  have f1 := jnon h1 k
  have f3 := jnoS hs k
  unfold jcr
  have rg := h.rg k
  rcases he with rfl | rfl <;> (refine xor_d0 (fun z => ?_) (fun z => ?_) <;> rcases z with ⟨z1, z2, z3⟩ | ⟨z1, z2, z3⟩ <;> first | (left; omega) | (right; omega))
theorem JP.mvS2 (h : JP N X Y D) {x y e : Int} (he : e = 1 ∨ e = -1) (hs : ¬ JS X Y x y (x + e) (y + -1)) (h1 : ¬ JOn X Y (2 * x + e) (2 * y)) (h2 : ¬ JOn X Y (2 * x) (2 * y + -1)) : jpar X Y (2 * x) (2 * y + -1) N = jpar X Y (2 * x + e) (2 * y) N := by
  refine h.fin (fun k => decide (Y k = y ∧ 2 * x + e < 2 * X k)) (fun j k e1 e2 => by rw [e1, e2]) fun k => ?_
  have f := jnon h2 k
  have f1 := jnon h1 k
  have f3 := jnoS hs k
  unfold jcr
  rcases he with rfl | rfl <;> skip
  all_goals
    have rg := h.rg k
    rcases (show Y (k + 1) = Y k + 1 ∨ Y (k + 1) = Y k - 1 ∨ Y (k + 1) = Y k by omega) with e' | e' | e'
    · exact xor_d1 (fun z => by omega) (fun z => by left; omega) (fun z => by omega) (fun z => by left; omega)
    · exact xor_d2 (fun z => by omega) (fun z => by right; omega) (fun z => by omega) (fun z => by right; omega)
    · exact xor_d3 (fun z => by omega) (fun z => by omega) (fun z => by omega) (fun z => by omega)
/-- how many crossings, odd or even, is the same on both ends of a way -/
theorem JP.axP (h : JP N X Y D) {c r c' r' : Int} (hm : (c' = c + 1 ∨ c' = c - 1) ∧ r' = r ∨ c' = c ∧ (r' = r + 1 ∨ r' = r - 1)) (h1 : ¬ JOn X Y c r) (h2 : ¬ JOn X Y c' r') : jpar X Y c r N = jpar X Y c' r' N := by
  rcases hm with ⟨rfl | rfl, rfl⟩ | ⟨rfl, rfl | rfl⟩
  · exact h.mvR h2
  · have := h.mvR (c := c - 1) (r := r') (by rwa [show c - 1 + 1 = c by omega])
    rw [show c - 1 + 1 = c by omega] at this
    exact this.symm
  · rcases (show r % 2 = 0 ∨ r % 2 = 1 by omega) with q | q
    · exact h.mvD0 q h1 h2
    · exact h.mvD1 q h1 h2
  · have e : r - 1 + 1 = r := by omega
    rcases (show (r - 1) % 2 = 0 ∨ (r - 1) % 2 = 1 by omega) with q | q
    · have := h.mvD0 (c := c') q h2 (by rwa [e]); rw [e] at this; exact this.symm
    · have := h.mvD1 (c := c') q h2 (by rwa [e]); rw [e] at this; exact this.symm
theorem JP.slP (h : JP N X Y D) {x y e f : Int} (he : e = 1 ∨ e = -1) (hf : f = 1 ∨ f = -1) (hs : ¬ JS X Y x y (x + e) (y + f)) (h1 : ¬ JOn X Y (2 * x + e) (2 * y)) (h2 : ¬ JOn X Y (2 * x) (2 * y + f)) : jpar X Y (2 * x + e) (2 * y) N = jpar X Y (2 * x) (2 * y + f) N := by
  rcases hf with rfl | rfl
  · exact h.mvS1 he hs h1 h2
  · exact (h.mvS2 he hs h1 h2).symm
/-- the places with one number of crossings are closed under ways -/
theorem JP.jcP (h : JP N X Y D) (b : Bool) : JC X Y (fun c r => ¬ JOn X Y c r ∧ jpar X Y c r N = b) :=
  ⟨fun _ _ _ _ hm hq hn _ => ⟨hn, by rw [← h.axP hm hq.1 hn]; exact hq.2⟩, fun _ _ _ _ he hf hs => ⟨fun hq hn _ => ⟨hn, by rw [← h.slP he hf hs hq.1 hn]; exact hq.2⟩, fun hq hn _ => ⟨hn, by rw [h.slP he hf hs hn hq.1]; exact hq.2⟩⟩⟩
end

section
variable {N : Nat} {X Y : Int → Int} {D : Int → Fin 8}
def jsum (f : Int → Bool) : Nat → Bool
  | 0 => false
  | k + 1 => Bool.xor (jsum f k) (f k)
theorem jsum_none (f : Int → Bool) : ∀ m : Nat, (∀ k : Nat, k < m → f k = false) → jsum f m = false := by
  intro m h
  induction m with
  | zero => rfl
  | succ m ih => rw [jsum, ih (fun k hk => h k (by omega)), h m (by omega)]; rfl
theorem jsum_one (f : Int → Bool) (j : Nat) (hj : f j = true) : ∀ m : Nat, (∀ k : Nat, k < m → k ≠ j → f k = false) → jsum f m = decide (j < m) := by
  intro m h
  induction m with
  | zero => simp [jsum]
  | succ m ih =>
    rw [jsum, ih (fun k hk hn => h k (by omega) hn)]
    by_cases e : m = j
    · subst e; rw [hj]; simp
    · rw [h m (by omega) e]
      by_cases e2 : j < m
      · simp [e2, show j < m + 1 by omega]
      · simp [e2, show ¬ j < m + 1 by omega]
theorem jpar_tel2 {c r : Int} (f s : Int → Bool) : ∀ m : Nat, (∀ k : Int, Bool.xor (jcr (X k) (Y k) (X (k + 1)) (Y (k + 1)) c r) (f k) = Bool.xor (s k) (s (k + 1))) → Bool.xor (jpar X Y c r m) (jsum f m) = Bool.xor (s 0) (s m) := by
  intro m h
  induction m with
  | zero => show Bool.xor false false = _; simp
  | succ m ih =>
    have hk := h m
    rw [jpar, jsum, show ((m + 1 : Nat) : Int) = (m : Int) + 1 by omega]
    revert ih hk
    generalize jpar X Y c r m = a1; generalize jsum f m = a2; generalize s 0 = a3; generalize s m = a4; generalize s (m + 1) = a5
    generalize jcr (X m) (Y m) (X (m + 1)) (Y (m + 1)) c r = a6; generalize f m = a7
    revert a1 a2 a3 a4 a5 a6 a7; decide
theorem JP.one (h : JP N X Y D) (k0 : Int) (s : Int → Bool) (hs : ∀ j k : Int, X j = X k → Y j = Y k → s j = s k) {c r : Int}
    (hk : ∀ k : Int, Bool.xor (jcr (X k) (Y k) (X (k + 1)) (Y (k + 1)) c r) (decide (X k = X k0 ∧ Y k = Y k0)) = Bool.xor (s k) (s (k + 1))) : jpar X Y c r N = true := by
  have h4 := h.n4
  have t := jpar_tel2 (fun k => decide (X k = X k0 ∧ Y k = Y k0)) s N hk
  have p := h.per 0 1
  rw [show (0 : Int) + 1 * N = N by omega] at p
  rw [hs N 0 p.1 p.2.1] at t
  have hm := Int.emod_nonneg k0 (show (N : Int) ≠ 0 by omega)
  have hm2 := Int.emod_lt_of_pos k0 (show (0 : Int) < N by omega)
  have hd := Int.emod_add_mul_ediv k0 N
  have pk := h.per (k0 % N) (k0 / N)
  rw [show k0 % N + k0 / N * N = k0 by rw [Int.mul_comm]; exact hd] at pk
  have o := jsum_one (fun k => decide (X k = X k0 ∧ Y k = Y k0)) (k0 % N).toNat (by
    simp only [decide_eq_true_eq]; rw [show ((k0 % N).toNat : Int) = k0 % N by omega]; exact ⟨pk.1.symm, pk.2.1.symm⟩) N (by
    intro k hk hn
    simp only [decide_eq_false_iff_not]
    rintro ⟨e1, e2⟩
    have := h.near (j := k) (k := k0 % N) (by rw [e1, pk.1]) (by rw [e2, pk.2.1]) (by omega)
    omega)
  rw [o, show decide ((k0 % N).toNat < N) = true from decide_eq_true (by omega)] at t
  revert t
  generalize jpar X Y c r N = a; generalize s 0 = d
  revert a d; decide
/-- the uppermost point, of these the one on the right -/
def JT (X Y : Int → Int) (t : Int) : Prop := ∀ k, Y t ≤ Y k ∧ (Y k = Y t → X k ≤ X t)
theorem JP.top (h : JP N X Y D) : ∃ t, JT X Y t := by
  have h4 := h.n4
  have fin : ∀ m : Nat, ∃ t : Nat, ∀ k : Nat, k ≤ m → 24 * Y t - X t ≤ 24 * Y k - X k := by
    intro m
    induction m with
    | zero => exact ⟨0, fun k hk => by rw [show k = 0 by omega]; omega⟩
    | succ m ih =>
      obtain ⟨t, ht⟩ := ih
      by_cases e : 24 * Y t - X t ≤ 24 * Y (m + 1 : Nat) - X (m + 1 : Nat)
      · exact ⟨t, fun k hk => by by_cases q : k = m + 1; (subst q; exact e); exact ht k (by omega)⟩
      · exact ⟨m + 1, fun k hk => by by_cases q : k = m + 1; (subst q; omega); (have := ht k (by omega); omega)⟩
  obtain ⟨t, ht⟩ := fin N
  refine ⟨t, fun k => ?_⟩
  have hm := Int.emod_nonneg k (show (N : Int) ≠ 0 by omega)
  have hm2 := Int.emod_lt_of_pos k (show (0 : Int) < N by omega)
  have hd := Int.emod_add_mul_ediv k N
  have pk := h.per (k % N) (k / N)
  rw [show k % N + k / N * N = k by rw [Int.mul_comm]; exact hd] at pk
  have := ht (k % N).toNat (by omega)
  rw [show ((k % N).toNat : Int) = k % N by omega, ← pk.1, ← pk.2.1] at this
  have b1 := h.box k; have b2 := h.box t
  omega
theorem JP.topD (h : JP N X Y D) {t : Int} (ht : JT X Y t) : (D t = 1 ∨ D t = 2 ∨ D t = 3 ∨ D t = 4) ∧ (ji D t = 1 ∨ ji D t = 2 ∨ ji D t = 3 ∨ ji D t = 4) := by
  have a := h.sx t; have b := h.sy t; have c := h.bx t; have d := h.by' t
  have e := ht (t + 1); have f := ht (t - 1)
  constructor
  · rcases j8 (D t) with ⟨q, e1, e2⟩ | ⟨q, e1, e2⟩ | ⟨q, e1, e2⟩ | ⟨q, e1, e2⟩ | ⟨q, e1, e2⟩ | ⟨q, e1, e2⟩ | ⟨q, e1, e2⟩ | ⟨q, e1, e2⟩ <;> first | (exfalso; omega) | simp [q]
  · rcases j8 (ji D t) with ⟨q, e1, e2⟩ | ⟨q, e1, e2⟩ | ⟨q, e1, e2⟩ | ⟨q, e1, e2⟩ | ⟨q, e1, e2⟩ | ⟨q, e1, e2⟩ | ⟨q, e1, e2⟩ | ⟨q, e1, e2⟩ <;> first | (exfalso; omega) | simp [q]
theorem JP.noTri (h : JP N X Y D) (t : Int) : ¬ JS X Y (X (t - 1)) (Y (t - 1)) (X (t + 1)) (Y (t + 1)) := by
  have h4 := h.n4
  rintro ⟨j, ⟨h1, h2, h3, h4'⟩ | ⟨h1, h2, h3, h4'⟩⟩
  · have s := h.same h1 h2 1
    rw [show t - 1 + 1 = t by omega] at s
    have := h.near (j := t) (k := t + 1) (by omega) (by omega) (by omega)
    omega
  · have s := h.same h1 h2 1
    have := h.near (j := t + 1 + 1) (k := t - 1) (by omega) (by omega) (by omega)
    omega
end

