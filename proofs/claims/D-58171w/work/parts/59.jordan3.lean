/-! JORDAN 3 -/
section
variable {N : Nat} {X Y : Int → Int} {D : Int → Fin 8} {G : Int → Int → Prop}
theorem JP.oddF (h : JP N X Y D) {t : Int} (ht : JT X Y t) (hlt : (ji D t).val < (D t).val) : JF X Y D (fun c r => ¬ JOn X Y c r ∧ jpar X Y c r N = true) t := by
  have hd := h.topD ht
  have c12 : ∀ z : Int, z + 0 = z := Int.add_zero
  unfold JF
  rcases hd.1 with ho | ho | ho | ho <;> rcases hd.2 with hi | hi | hi | hi <;> first | (rw [ho, hi] at hlt; exact absurd hlt (by decide)) | skip
  · have q := h.odd12 ht hi ho
    rw [ho, hi]
    refine ⟨fun e => absurd e (by decide), fun e => absurd e (by decide), fun _ => ?_⟩
    rw [show jx 1 = 1 from rfl, show jx 2 = 0 from rfl, show jy 1 = 1 from rfl, show jy 2 = 1 from rfl, show 2 * X t + 1 + 0 = 2 * X t + 1 by omega, show 2 * Y t + 1 + 1 = 2 * Y t + 2 by omega]
    exact q
  · have q := h.odd13 ht hi ho
    rw [ho, hi]
    refine ⟨fun _ => ?_, fun e => absurd e (by decide), fun e => absurd e (by decide)⟩
    rw [show ja1 1 = 2 from rfl, show jx 2 = 0 from rfl, show jy 2 = 1 from rfl]; exact q
  · have q := h.odd23 ht hi ho
    rw [ho, hi]
    refine ⟨fun e => absurd e (by decide), fun _ e => absurd e (by decide), fun _ => ?_⟩
    rw [show jx 2 = 0 from rfl, show jx 3 = -1 from rfl, show jy 2 = 1 from rfl, show jy 3 = 1 from rfl, show 2 * X t + 0 + -1 = 2 * X t + -1 by omega, show 2 * Y t + 1 + 1 = 2 * Y t + 2 by omega]
    exact q
  · have q := h.odd14 ht hi ho
    rw [ho, hi]
    refine ⟨fun _ => ?_, fun e => absurd e (by decide), fun e => absurd e (by decide)⟩
    rw [show ja1 1 = 2 from rfl, show jx 2 = 0 from rfl, show jy 2 = 1 from rfl]; exact q
  · have q := h.odd24 ht hi ho
    rw [ho, hi]
    refine ⟨fun e => absurd e (by decide), fun _ _ => ?_, fun e => absurd e (by decide)⟩
    rw [show (2 : Fin 8) + 1 = 3 from rfl, show jx 3 = -1 from rfl, show jy 3 = 1 from rfl]; exact q
  · have q := h.odd34 ht hi ho
    rw [ho, hi]
    refine ⟨fun e => absurd e (by decide), fun e => absurd e (by decide), fun _ => ?_⟩
    rw [show jx 3 = -1 from rfl, show jx 4 = -1 from rfl, show jy 3 = 1 from rfl, show jy 4 = 0 from rfl, show 2 * X t + -1 + -1 = 2 * X t + -2 by omega, show 2 * Y t + 1 + 0 = 2 * Y t + 1 by omega]
    exact q
/-- above the uppermost point, and on the border, all is free -/
theorem JP.freeUp (h : JP N X Y D) {t : Int} (ht : JT X Y t) {c r : Int} (hr : r < 2 * Y t) : ¬ JOn X Y c r := by
  rintro ⟨k, ⟨-, e⟩ | ⟨-, e⟩⟩
  · have := (ht k).1; omega
  · have := (ht k).1; have := (ht (k + 1)).1; omega
theorem JP.freeB (h : JP N X Y D) {c r : Int} (hb : c < 0 ∨ 46 < c ∨ r < 0 ∨ 30 < r) : ¬ JOn X Y c r := by
  rintro ⟨k, ⟨e1, e2⟩ | ⟨e1, e2⟩⟩
  · have := h.box k; omega
  · have := h.box k; have := h.box (k + 1); omega
theorem JC.right (hc : JC X Y G) {c r : Int} (hq : G c r) : ∀ j : Nat, (∀ i : Int, c < i → i ≤ c + j → ¬ JOn X Y i r ∧ JBox i r) → G (c + j) r := by
  intro j
  induction j with
  | zero => intro _; rw [show c + ((0 : Nat) : Int) = c by omega]; exact hq
  | succ j ih =>
    intro hf
    have := ih (fun i h1 h2 => hf i h1 (by omega))
    have hi := hf (c + (j + 1 : Nat)) (by omega) (by omega)
    exact hc.1 _ _ _ _ (Or.inl ⟨Or.inl (by omega), rfl⟩) this hi.1 hi.2
theorem JC.left (hc : JC X Y G) {c r : Int} (hq : G c r) : ∀ j : Nat, (∀ i : Int, i < c → c - j ≤ i → ¬ JOn X Y i r ∧ JBox i r) → G (c - j) r := by
  intro j
  induction j with
  | zero => intro _; rw [show c - ((0 : Nat) : Int) = c by omega]; exact hq
  | succ j ih =>
    intro hf
    have := ih (fun i h1 h2 => hf i h1 (by omega))
    have hi := hf (c - (j + 1 : Nat)) (by omega) (by omega)
    exact hc.1 _ _ _ _ (Or.inl ⟨Or.inr (by omega), rfl⟩) this hi.1 hi.2
theorem JC.down (hc : JC X Y G) {c r : Int} (hq : G c r) : ∀ j : Nat, (∀ i : Int, r < i → i ≤ r + j → ¬ JOn X Y c i ∧ JBox c i) → G c (r + j) := by
  intro j
  induction j with
  | zero => intro _; rw [show r + ((0 : Nat) : Int) = r by omega]; exact hq
  | succ j ih =>
    intro hf
    have := ih (fun i h1 h2 => hf i h1 (by omega))
    have hi := hf (r + (j + 1 : Nat)) (by omega) (by omega)
    exact hc.1 _ _ _ _ (Or.inr ⟨rfl, Or.inl (by omega)⟩) this hi.1 hi.2
theorem JP.outF (h : JP N X Y D) (hc : JC X Y G) (h0 : G (-2) (-2)) {t : Int} (ht : JT X Y t) (hlt : (D t).val < (ji D t).val) : JF X Y D G t := by
  have hd := h.topD ht
  have hb := h.box t
  have up : ∀ c : Int, -2 ≤ c → c ≤ 48 → G c (2 * Y t - 1) := by
    intro c c1 c2
    have r1 := hc.right h0 (c + 2).toNat (fun i h1 h2 => ⟨h.freeB (by omega), by unfold JBox; omega⟩)
    rw [show (-2 : Int) + ((c + 2).toNat : Int) = c by omega] at r1
    have r2 := hc.down r1 (2 * Y t + 1).toNat (fun i h1 h2 => ⟨h.freeUp ht (by omega), by unfold JBox; omega⟩)
    rwa [show (-2 : Int) + ((2 * Y t + 1).toNat : Int) = 2 * Y t - 1 by omega] at r2
  unfold JF
  rcases hd.1 with ho | ho | ho | ho <;> rcases hd.2 with hi | hi | hi | hi <;> first | (rw [ho, hi] at hlt; exact absurd hlt (by decide)) | skip
  all_goals first
    | (have hf := h.freeA t (a := 4) rfl (by rw [ho]; decide) (by rw [hi]; decide)
       rw [ho, hi]
       refine ⟨fun _ => ?_, fun e e2 => absurd e (by first | decide | (revert e2; decide)), fun e => absurd e (by decide)⟩
       rw [show ja1 2 = 4 from rfl, show jx 4 = -1 from rfl, show jy 4 = 0 from rfl]
       rw [show jx 4 = -1 from rfl, show jy 4 = 0 from rfl] at hf
       exact hc.1 _ _ _ _ (Or.inr ⟨rfl, Or.inl (by omega)⟩) (up (2 * X t + -1) (by omega) (by omega)) hf (by unfold JBox; omega))
    | (have hf := h.freeA t (a := 4) rfl (by rw [ho]; decide) (by rw [hi]; decide)
       rw [ho, hi]
       refine ⟨fun _ => ?_, fun e e2 => absurd e (by first | decide | (revert e2; decide)), fun e => absurd e (by decide)⟩
       rw [show ja1 3 = 4 from rfl, show jx 4 = -1 from rfl, show jy 4 = 0 from rfl]
       rw [show jx 4 = -1 from rfl, show jy 4 = 0 from rfl] at hf
       exact hc.1 _ _ _ _ (Or.inr ⟨rfl, Or.inl (by omega)⟩) (up (2 * X t + -1) (by omega) (by omega)) hf (by unfold JBox; omega))
    | (rw [ho, hi]
       refine ⟨fun _ => ?_, fun e e2 => absurd e2 (by decide), fun e => absurd e (by decide)⟩
       rw [show ja1 4 = 6 from rfl, show jx 6 = 0 from rfl, show jy 6 = -1 from rfl]
       have := up (2 * X t) (by omega) (by omega)
       rwa [show 2 * X t + 0 = 2 * X t by omega, show 2 * Y t + -1 = 2 * Y t - 1 by omega])
/-- the line the other way round -/
def jrx (X : Int → Int) (k : Int) : Int := X (-k)
def jrd (D : Int → Fin 8) (k : Int) : Fin 8 := ji D (-k)
theorem jr_ji (D : Int → Fin 8) (k : Int) : ji (jrd D) k = D (-k) := by
  unfold ji jrd ji
  rw [show -(k - 1) - 1 = -k by omega]
  generalize D (-k) = a; revert a; decide
theorem jr_S {x y x' y' : Int} : JS (jrx X) (jrx Y) x y x' y' ↔ JS X Y x y x' y' := by
  constructor
  · rintro ⟨k, hk | hk⟩
    · unfold jrx at hk
      exact ⟨-(k + 1), Or.inr (by rw [show -(k + 1) + 1 = -k by omega]; omega)⟩
    · unfold jrx at hk
      exact ⟨-(k + 1), Or.inl (by rw [show -(k + 1) + 1 = -k by omega]; omega)⟩
  · rintro ⟨k, hk | hk⟩
    · exact ⟨-(k + 1), Or.inr (by unfold jrx; rw [show -(-(k + 1) + 1) = k by omega, show - -(k + 1) = k + 1 by omega]; omega)⟩
    · exact ⟨-(k + 1), Or.inl (by unfold jrx; rw [show -(-(k + 1) + 1) = k by omega, show - -(k + 1) = k + 1 by omega]; omega)⟩
theorem jr_On {c r : Int} : JOn (jrx X) (jrx Y) c r ↔ JOn X Y c r := by
  constructor
  · rintro ⟨k, hk | hk⟩
    · exact ⟨-k, Or.inl hk⟩
    · unfold jrx at hk; exact ⟨-(k + 1), Or.inr (by rw [show -(k + 1) + 1 = -k by omega]; omega)⟩
  · rintro ⟨k, hk | hk⟩
    · exact ⟨-k, Or.inl (by unfold jrx; rw [show - -k = k by omega]; exact hk)⟩
    · exact ⟨-(k + 1), Or.inr (by unfold jrx; rw [show -(-(k + 1) + 1) = k by omega, show - -(k + 1) = k + 1 by omega]; omega)⟩
theorem JP.rev (h : JP N X Y D) : JP N (jrx X) (jrx Y) (jrd D) := by
  refine ⟨h.n4, fun k => ?_, fun k z => ?_, fun j k h1 h2 => ?_, fun x y e f he hf h1 h2 => h.cr he hf (jr_S.mp h1) (jr_S.mp h2), fun k => h.box (-k)⟩
  · unfold jrx jrd
    have := h.bx (-k); have := h.by' (-k)
    rw [show -(k + 1) = -k - 1 by omega]
    omega
  · have p := h.per (-k) (-z); have p2 := h.per (-k - 1) (-z)
    unfold jrx jrd ji
    rw [show -(k + z * N) = -k + -z * N by rw [Int.neg_mul]; omega]
    rw [show -k + -z * (N : Int) - 1 = -k - 1 + -z * N by omega]
    exact ⟨p.1, p.2.1, by rw [p2.2.2]⟩
  · obtain ⟨z, hz⟩ := h.dis (j := -j) (k := -k) h1 h2
    exact ⟨-z, by rw [Int.neg_mul]; omega⟩
theorem JC.rev (hc : JC X Y G) : JC (jrx X) (jrx Y) G := by
  refine ⟨fun c r c' r' hm hq hn => hc.1 c r c' r' hm hq (fun z => hn (jr_On.mpr z)), fun x y e f he hf hs => ?_⟩
  have := hc.2 x y e f he hf (fun z => hs (jr_S.mpr z))
  exact ⟨fun q n b => this.1 q (fun z => n (jr_On.mpr z)) b, fun q n b => this.2 q (fun z => n (jr_On.mpr z)) b⟩
theorem JT.rev {t : Int} (ht : JT X Y t) : JT (jrx X) (jrx Y) (-t) := fun k => by unfold jrx; rw [show - -t = t by omega]; exact ht (-k)
theorem jsum_first (f : Int → Bool) : ∀ m : Nat, jsum f (m + 1) = Bool.xor (f 0) (jsum (fun k => f (k + 1)) m) := by
  intro m
  induction m with
  | zero => show Bool.xor false (f 0) = Bool.xor (f 0) false; simp
  | succ m ih =>
    rw [jsum, ih, jsum, show ((m + 1 : Nat) : Int) = (m : Int) + 1 by omega]
    simp [Bool.xor_assoc]
theorem jsum_rev : ∀ (m : Nat) (f : Int → Bool), jsum (fun k => f ((m : Int) - 1 - k)) m = jsum f m := by
  intro m
  induction m with
  | zero => intro f; rfl
  | succ m ih =>
    intro f
    rw [jsum_first f m, ← ih (fun k => f (k + 1)), jsum]
    rw [show ((m + 1 : Nat) : Int) - 1 - (m : Int) = 0 by omega]
    have e : (fun k : Int => f (((m + 1 : Nat) : Int) - 1 - k)) = fun k : Int => f ((m : Int) - 1 - k + 1) := by
      funext k; rw [show ((m + 1 : Nat) : Int) - 1 - k = (m : Int) - 1 - k + 1 by omega]
    rw [e, Bool.xor_comm]
theorem jpar_sum (c r : Int) : ∀ m : Nat, jpar X Y c r m = jsum (fun k => jcr (X k) (Y k) (X (k + 1)) (Y (k + 1)) c r) m := by
  intro m
  induction m with
  | zero => rfl
  | succ m ih => rw [jpar, jsum, ih]
theorem jcr_comm (x1 y1 x2 y2 c r : Int) : jcr x1 y1 x2 y2 c r = jcr x2 y2 x1 y1 c r := by
  unfold jcr
  rw [decide_eq_decide]
  constructor <;> intro z <;> omega
theorem JP.parRev (h : JP N X Y D) (c r : Int) : jpar (jrx X) (jrx Y) c r N = jpar X Y c r N := by
  rw [jpar_sum, jpar_sum, ← jsum_rev N (fun k => jcr (X k) (Y k) (X (k + 1)) (Y (k + 1)) c r)]
  congr 1
  funext k
  have p := h.per (-k - 1) 1
  have p2 := h.per (-k) 1
  unfold jrx
  rw [jcr_comm]
  rw [show (N : Int) - 1 - k + 1 = -k + 1 * N by omega, show (N : Int) - 1 - k = -k - 1 + 1 * N by omega, p.1, p.2.1, p2.1, p2.2.1, show -(k + 1) = -k - 1 by omega]
/-- of the two sides of the line one is found, one has an odd number of crossings -/
theorem JP.sides (h : JP N X Y D) (hc : JC X Y G) (h0 : G (-2) (-2)) (k : Int) (h4o : (4 : Fin 8) ≠ D k) (h4i : 4 ≠ ji D k) (hp : jpar X Y (2 * X k + -1) (2 * Y k) N = false) : G (2 * X k + -1) (2 * Y k) := by
  obtain ⟨t, ht⟩ := h.top
  have hcP := h.jcP true
  have arcs : jAx (ji D k) (D k) 4 = true ∨ jAx (D k) (ji D k) 4 = true := by
    revert h4o h4i; have hio := h.io k; revert hio; generalize ji D k = i; generalize D k = o; revert i o; decide
  have out : ∀ (X Y : Int → Int) (D : Int → Fin 8), JP N X Y D → JC X Y G → ∀ t, JT X Y t → (D t).val < (ji D t).val → ∀ k, jAx (ji D k) (D k) 4 = true → G (2 * X k + -1) (2 * Y k) := by
    intro X Y D h hc t ht hlt k ha
    have q := h.arc hc (h.jfAll hc (h.outF hc h0 ht hlt) k) (a := 4) rfl ha
    rwa [show jx 4 = -1 from rfl, show jy 4 = 0 from rfl, show 2 * Y k + 0 = 2 * Y k by omega] at q
  have inn : ∀ (X Y : Int → Int) (D : Int → Fin 8) (P : Int → Int → Prop), JP N X Y D → JC X Y P → ∀ t, JF X Y D P t → ∀ k, jAx (ji D k) (D k) 4 = true → P (2 * X k + -1) (2 * Y k) := by
    intro X Y D P h hc t hF k ha
    have q := h.arc hc (h.jfAll hc hF k) (a := 4) rfl ha
    rwa [show jx 4 = -1 from rfl, show jy 4 = 0 from rfl, show 2 * Y k + 0 = 2 * Y k by omega] at q
  have hio := h.io t
  have rk1 : jrx X (-k) = X k := by unfold jrx; rw [show - -k = k by omega]
  have rk2 : jrx Y (-k) = Y k := by unfold jrx; rw [show - -k = k by omega]
  have rk3 : ji (jrd D) (-k) = D k := by rw [jr_ji, show - -k = k by omega]
  have rk4 : jrd D (-k) = ji D k := by unfold jrd; rw [show - -k = k by omega]
  have rt3 : ji (jrd D) (-t) = D t := by rw [jr_ji, show - -t = t by omega]
  have rt4 : jrd D (-t) = ji D t := by unfold jrd; rw [show - -t = t by omega]
  rcases (show (ji D t).val < (D t).val ∨ (D t).val < (ji D t).val by
    rcases Nat.lt_trichotomy (ji D t).val (D t).val with q | q | q
    · exact Or.inl q
    · exact absurd (Fin.ext q) hio
    · exact Or.inr q) with hlt | hlt
  · -- the inner side lies between the step back and the step on
    rcases arcs with ha | ha
    · have := inn X Y D _ h hcP t (h.oddF ht hlt) k ha
      rw [hp] at this; exact absurd this.2 (by decide)
    · have q := out _ _ _ h.rev hc.rev (-t) ht.rev (by rw [rt3, rt4]; exact hlt) (-k) (by rw [rk3, rk4]; exact ha)
      rwa [rk1, rk2] at q
  · rcases arcs with ha | ha
    · exact out X Y D h hc t ht hlt k ha
    · have oF := h.rev.oddF ht.rev (by rw [rt3, rt4]; exact hlt)
      have hcR := h.rev.jcP true
      have q := inn _ _ _ _ h.rev hcR (-t) oF (-k) (by rw [rk3, rk4]; exact ha)
      rw [rk1, rk2] at q
      rw [h.parRev, hp] at q
      exact absurd q.2 (by decide)
end

section
variable {N : Nat} {X Y : Int → Int} {D : Int → Fin 8} {G : Int → Int → Prop}
theorem JP.parRight (h : JP N X Y D) {c r : Int} : ∀ j : Nat, (∀ i : Int, c < i → i ≤ c + j → ¬ JOn X Y i r) → jpar X Y c r N = jpar X Y (c + j) r N := by
  intro j
  induction j with
  | zero => intro _; rw [show c + ((0 : Nat) : Int) = c by omega]
  | succ j ih =>
    intro hf
    rw [ih (fun i h1 h2 => hf i h1 (by omega)), show c + ((j + 1 : Nat) : Int) = c + j + 1 by omega]
    exact h.mvR (hf _ (by omega) (by omega))
theorem jfirst (P : Nat → Prop) : ∀ m : Nat, (∀ i, i ≤ m → ¬ P i) ∨ ∃ j, j ≤ m ∧ P j ∧ ∀ i, i < j → ¬ P i := by
  intro m
  induction m with
  | zero =>
    by_cases h : P 0
    · exact Or.inr ⟨0, Nat.le_refl _, h, fun i hi => absurd hi (Nat.not_lt_zero i)⟩
    · exact Or.inl fun i hi => by rw [show i = 0 by omega]; exact h
  | succ m ih =>
    rcases ih with h | ⟨j, h1, h2, h3⟩
    · by_cases hp : P (m + 1)
      · exact Or.inr ⟨m + 1, Nat.le_refl _, hp, fun i hi => h i (by omega)⟩
      · exact Or.inl fun i hi => by
          by_cases e : i = m + 1
          · rw [e]; exact hp
          · exact h i (by omega)
    · exact Or.inr ⟨j, by omega, h2, h3⟩
/-- a point beside the line with an even number of crossings is found -/
theorem JP.found (h : JP N X Y D) (hc : JC X Y G) (h0 : G (-2) (-2)) {x y : Int} (hx : 0 ≤ x ∧ x ≤ 23) (hy : 0 ≤ y ∧ y ≤ 15) (hn : ¬ JOn X Y (2 * x) (2 * y)) (hp : jpar X Y (2 * x) (2 * y) N = false) : G (2 * x) (2 * y) := by
  rcases jfirst (fun j => JOn X Y (2 * x + j) (2 * y)) (48 - 2 * x).toNat with hf | ⟨j, hj, hon, hf⟩
  · have r1 := hc.right h0 50 (fun i h1 h2 => ⟨h.freeB (by omega), by unfold JBox; omega⟩)
    rw [show (-2 : Int) + ((50 : Nat) : Int) = 48 by omega] at r1
    have r2 := hc.down r1 (2 * y + 2).toNat (fun i h1 h2 => ⟨h.freeB (by omega), by unfold JBox; omega⟩)
    rw [show (-2 : Int) + ((2 * y + 2).toNat : Int) = 2 * y by omega] at r2
    have r3 := hc.left r2 (48 - 2 * x).toNat (fun i h1 h2 => ⟨by
      have := hf (i - 2 * x).toNat (by omega)
      rwa [show 2 * x + ((i - 2 * x).toNat : Int) = i by omega] at this, by unfold JBox; omega⟩)
    rwa [show (48 : Int) - ((48 - 2 * x).toNat : Int) = 2 * x by omega] at r3
  · have hj0 : j ≠ 0 := by
      intro e
      rw [e, show 2 * x + ((0 : Nat) : Int) = 2 * x by omega] at hon
      exact hn hon
    have hfree : ∀ i : Int, 2 * x ≤ i → i < 2 * x + j → ¬ JOn X Y i (2 * y) := fun i h1 h2 => by
      have := hf (i - 2 * x).toNat (by omega)
      rwa [show 2 * x + ((i - 2 * x).toNat : Int) = i by omega] at this
    have hl := hfree (2 * x + j - 1) (by omega) (by omega)
    obtain ⟨k, hk⟩ : ∃ k, 2 * x + j = 2 * X k ∧ 2 * y = 2 * Y k := by
      obtain ⟨k, e | e⟩ := hon
      · exact ⟨k, e⟩
      · exfalso
        have a := h.sx k; have b := h.sy k
        rcases j8 (D k) with ⟨_, e1, e2⟩ | ⟨_, e1, e2⟩ | ⟨_, e1, e2⟩ | ⟨_, e1, e2⟩ | ⟨_, e1, e2⟩ | ⟨_, e1, e2⟩ | ⟨_, e1, e2⟩ | ⟨_, e1, e2⟩ <;> first | omega | exact hl ⟨k, Or.inl (by omega)⟩ | exact hl ⟨k + 1, Or.inl (by omega)⟩
    have h4o : (4 : Fin 8) ≠ D k := by
      intro e
      have a := h.sx k; have b := h.sy k
      rw [← e, show jx 4 = -1 from rfl] at a; rw [← e, show jy 4 = 0 from rfl] at b
      exact hl ⟨k, Or.inr (by omega)⟩
    have h4i : (4 : Fin 8) ≠ ji D k := by
      intro e
      have a := h.bx k; have b := h.by' k
      rw [← e, show jx 4 = -1 from rfl] at a; rw [← e, show jy 4 = 0 from rfl] at b
      exact hl ⟨k - 1, Or.inr (by rw [show k - 1 + 1 = k by omega]; omega)⟩
    have hpp := h.parRight (c := 2 * x) (r := 2 * y) (j - 1) (fun i h1 h2 => hfree i (by omega) (by omega))
    rw [hp, show 2 * x + ((j - 1 : Nat) : Int) = 2 * X k + -1 by omega, hk.2] at hpp
    have q := h.sides hc h0 k h4o h4i hpp.symm
    have r3 := hc.left q (j - 1) (fun i h1 h2 => ⟨by rw [← hk.2]; exact hfree i (by omega) (by omega), by unfold JBox; omega⟩)
    rw [show 2 * X k + -1 - ((j - 1 : Nat) : Int) = 2 * x by omega, ← hk.2] at r3
    exact r3
/-- a slanting way: the same number of crossings -/
theorem JP.slQ (h : JP N X Y D) {c r e f : Int} (he : e = 1 ∨ e = -1) (hf : f = 1 ∨ f = -1) (h1 : ¬ JOn X Y c r) (h2 : ¬ JOn X Y (c + e) (r + f))
    (hs : ∀ x y e' f' : Int, (e' = 1 ∨ e' = -1) → (f' = 1 ∨ f' = -1) → ((c = 2 * x + e' ∧ r = 2 * y ∧ c + e = 2 * x ∧ r + f = 2 * y + f') ∨ (c = 2 * x ∧ r = 2 * y + f' ∧ c + e = 2 * x + e' ∧ r + f = 2 * y)) → ¬ JS X Y x y (x + e') (y + f')) : jpar X Y c r N = jpar X Y (c + e) (r + f) N := by
  have ev : ∀ {c r e f : Int}, (e = 1 ∨ e = -1) → (f = 1 ∨ f = -1) → c % 2 = 0 → r % 2 = 0 → ¬ JOn X Y c r → ¬ JOn X Y (c + e) (r + f) → jpar X Y c r N = jpar X Y (c + e) (r + f) N := by
    intro c r e f he hf hc hr h1 h2
    have hm : ¬ JOn X Y (c + e) r := by
      rintro ⟨k, q | q⟩
      · omega
      · have a := h.sx k; have b := h.sy k
        rcases j8 (D k) with ⟨_, e1, e2⟩ | ⟨_, e1, e2⟩ | ⟨_, e1, e2⟩ | ⟨_, e1, e2⟩ | ⟨_, e1, e2⟩ | ⟨_, e1, e2⟩ | ⟨_, e1, e2⟩ | ⟨_, e1, e2⟩ <;> first | omega | (rcases he with rfl | rfl <;> first | exact h1 ⟨k, Or.inl (by omega)⟩ | exact h1 ⟨k + 1, Or.inl (by omega)⟩)
    rw [h.axP (c' := c + e) (r' := r) (Or.inl ⟨by omega, rfl⟩) h1 hm]
    exact h.axP (Or.inr ⟨rfl, by omega⟩) hm h2
  rcases (show c % 2 = 0 ∨ c % 2 = 1 by omega) with hc | hc <;> rcases (show r % 2 = 0 ∨ r % 2 = 1 by omega) with hr | hr
  · exact ev he hf hc hr h1 h2
  · -- from a place above or below a point to one beside it
    have e1 : c = 2 * (c / 2) := by omega
    have e2 : r + f = 2 * ((r + f) / 2) := by omega
    have w := h.slP (x := c / 2) (y := (r + f) / 2) (e := e) (f := -f) he (by omega) (hs _ _ _ _ he (by omega) (Or.inr ⟨e1, by omega, by omega, e2⟩)) (by rwa [← e1, ← e2]) (by rw [← e1, ← e2, show r + f + -f = r by omega]; exact h1)
    rw [← e1, ← e2, show r + f + -f = r by omega] at w
    exact w.symm
  · have e1 : c + e = 2 * ((c + e) / 2) := by omega
    have e2 : r = 2 * (r / 2) := by omega
    have w := h.slP (x := (c + e) / 2) (y := r / 2) (e := -e) (f := f) (by omega) hf (hs _ _ _ _ (by omega) hf (Or.inl ⟨by omega, e2, e1, by omega⟩)) (by rw [← e1, ← e2, show c + e + -e = c by omega]; exact h1) (by rwa [← e1, ← e2])
    rw [← e1, ← e2, show c + e + -e = c by omega] at w
    exact w
  · have w := ev (c := c + e) (r := r + f) (e := -e) (f := -f) (by omega) (by omega) (by omega) (by omega) h2 (by rw [show c + e + -e = c by omega, show r + f + -f = r by omega]; exact h1)
    rw [show c + e + -e = c by omega, show r + f + -f = r by omega] at w
    exact w.symm
end

