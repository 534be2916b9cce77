/-! JORDAN 2 -/
section
variable {N : Nat} {X Y : Int → Int} {D : Int → Fin 8}
theorem JP.onFacts (h : JP N X Y D) (t : Int) : (∀ k, X k = X t → Y k = Y t → X (k + 1) = X t + jx (D t) ∧ Y (k + 1) = Y t + jy (D t)) ∧ (∀ k, X k = X t + jx (ji D t) → Y k = Y t + jy (ji D t) → X (k + 1) = X t ∧ Y (k + 1) = Y t) ∧ (∀ k, X (k + 1) = X t → Y (k + 1) = Y t → X k = X t + jx (ji D t) ∧ Y k = Y t + jy (ji D t)) := by
  refine ⟨fun k h1 h2 => ?_, fun k h1 h2 => ?_, fun k h1 h2 => ?_⟩
  · have s := h.same h1 h2 1
    rw [s.1, s.2.1]; exact ⟨h.sx t, h.sy t⟩
  · rw [← h.bx t] at h1; rw [← h.by' t] at h2
    have s := h.same h1 h2 1
    rw [show t - 1 + 1 = t by omega] at s
    exact ⟨s.1, s.2.1⟩
  · have s := h.same h1 h2 (-1)
    rw [show k + 1 + -1 = k by omega, show t + -1 = t - 1 by omega] at s
    rw [s.1, s.2.1]; exact ⟨h.bx t, h.by' t⟩
theorem JP.odd12 (h : JP N X Y D) {t : Int} (ht : JT X Y t) (hi : ji D t = 1) (ho : D t = 2) : ¬ JOn X Y (2 * X t + 1) (2 * Y t + 2) ∧ jpar X Y (2 * X t + 1) (2 * Y t + 2) N = true := by
  have oF := h.onFacts t
  have hn := h.noTri t
  have bx := h.bx t; have by1 := h.by' t; have sx := h.sx t; have sy := h.sy t
  rw [hi] at bx by1 oF; rw [ho] at sx sy oF
  have v1 : jx 1 = 1 := rfl; have v2 : jy 1 = 1 := rfl; have v3 : jx 2 = 0 := rfl; have v4 : jy 2 = 1 := rfl
  rw [v1, v2, v3, v4] at oF; rw [v1] at bx; rw [v2] at by1; rw [v3] at sx; rw [v4] at sy
  rw [bx, by1, sx, sy] at hn
  refine ⟨?_, ?_⟩
  · rw [show 2 * Y t + 2 = 2 * (Y t + 1) by omega, h.onH]
    intro q; exact hn (by rw [show X t + 0 = X t by omega]; exact q.symm)
  · refine h.one (t - 1) (fun k => decide (Y k = Y t + 1 ∧ 2 * X t + 1 < 2 * X k)) (fun j k e1 e2 => by rw [e1, e2]) fun k => ?_
    rw [bx, by1]
    have rg := h.rg k
    unfold jcr
    rcases (show Y (k + 1) = Y k + 1 ∨ Y (k + 1) = Y k - 1 ∨ Y (k + 1) = Y k by omega) with e | e | e
    · refine xor_d2 (fun z => by omega) (fun z => by left; omega) (fun z => ?_) (fun z => ?_)
      · have f := oF.2.1 k z.1 z.2; omega
      · exfalso
        have z4 : Y k = Y t := by omega
        by_cases z5 : X k = X t
        · have f := oF.1 k z5 z4; omega
        · have g := (ht k).2 z4; omega
    · refine xor_d1 (fun z => by omega) (fun z => by right; omega) (fun z => ?_) (fun z => ?_)
      · have f := oF.2.1 k z.1 z.2; omega
      · have z4 : Y (k + 1) = Y t := by omega
        by_cases z5 : X (k + 1) = X t
        · exact oF.2.2 k z5 z4
        · exfalso; have g := (ht (k + 1)).2 z4; omega
    · have hnk := jnoS hn k
      refine xor_d3 (fun z => by omega) (fun z => ?_) (fun z => by omega) (fun z => by omega)
      have f := oF.2.1 k z.1 z.2; omega
theorem JP.odd13 (h : JP N X Y D) {t : Int} (ht : JT X Y t) (hi : ji D t = 1) (ho : D t = 3) : ¬ JOn X Y (2 * X t + 0) (2 * Y t + 1) ∧ jpar X Y (2 * X t + 0) (2 * Y t + 1) N = true := by
  have oF := h.onFacts t
  have hn := h.noTri t
  have bx := h.bx t; have by1 := h.by' t; have sx := h.sx t; have sy := h.sy t
  rw [hi] at bx by1 oF; rw [ho] at sx sy oF
  have v1 : jx 1 = 1 := rfl; have v2 : jy 1 = 1 := rfl; have v3 : jx 3 = -1 := rfl; have v4 : jy 3 = 1 := rfl
  rw [v1, v2, v3, v4] at oF; rw [v1] at bx; rw [v2] at by1; rw [v3] at sx; rw [v4] at sy
  rw [bx, by1, sx, sy] at hn
  have hst := h.stepS t
  rw [ho, v3, v4] at hst
  have hx := jnoS (fun q => h.cr (x := X t) (y := Y t) (e := -1) (f := 1) (Or.inr rfl) (Or.inl rfl) hst q)
  refine ⟨?_, ?_⟩
  · have f := h.freeA t (a := 2) rfl (by rw [ho]; decide) (by rw [hi]; decide)
    rwa [show jx 2 = 0 from rfl, show jy 2 = 1 from rfl] at f
  · refine h.one (t - 1) (fun _ => false) (fun _ _ _ _ => rfl) fun k => ?_
    rw [bx, by1]
    have rg := h.rg k
    have hxk := hx k
    unfold jcr
    refine xor_d0 (fun z => ?_) (fun z => ?_)
    · rcases z with ⟨z1, z2, z3⟩ | ⟨z1, z2, z3⟩
      · exfalso
        have z4 : Y k = Y t := by omega
        by_cases z5 : X k = X t
        · have f := oF.1 k z5 z4; omega
        · have g := (ht k).2 z4; omega
      · have z4 : Y (k + 1) = Y t := by omega
        by_cases z5 : X (k + 1) = X t
        · exact oF.2.2 k z5 z4
        · exfalso; have g := (ht (k + 1)).2 z4; omega
    · have f := oF.2.1 k z.1 z.2
      right; omega
theorem JP.odd14 (h : JP N X Y D) {t : Int} (ht : JT X Y t) (hi : ji D t = 1) (ho : D t = 4) : ¬ JOn X Y (2 * X t + 0) (2 * Y t + 1) ∧ jpar X Y (2 * X t + 0) (2 * Y t + 1) N = true := by
  have oF := h.onFacts t
  have hn := h.noTri t
  have bx := h.bx t; have by1 := h.by' t; have sx := h.sx t; have sy := h.sy t
  rw [hi] at bx by1 oF; rw [ho] at sx sy oF
  have v1 : jx 1 = 1 := rfl; have v2 : jy 1 = 1 := rfl; have v3 : jx 4 = -1 := rfl; have v4 : jy 4 = 0 := rfl
  rw [v1, v2, v3, v4] at oF; rw [v1] at bx; rw [v2] at by1; rw [v3] at sx; rw [v4] at sy
  rw [bx, by1, sx, sy] at hn
  refine ⟨?_, ?_⟩
  · have f := h.freeA t (a := 2) rfl (by rw [ho]; decide) (by rw [hi]; decide)
    rwa [show jx 2 = 0 from rfl, show jy 2 = 1 from rfl] at f
  · refine h.one (t - 1) (fun _ => false) (fun _ _ _ _ => rfl) fun k => ?_
    rw [bx, by1]
    have rg := h.rg k
    unfold jcr
    refine xor_d0 (fun z => ?_) (fun z => ?_)
    · rcases z with ⟨z1, z2, z3⟩ | ⟨z1, z2, z3⟩
      · exfalso
        have z4 : Y k = Y t := by omega
        by_cases z5 : X k = X t
        · have f := oF.1 k z5 z4; omega
        · have g := (ht k).2 z4; omega
      · have z4 : Y (k + 1) = Y t := by omega
        by_cases z5 : X (k + 1) = X t
        · exact oF.2.2 k z5 z4
        · exfalso; have g := (ht (k + 1)).2 z4; omega
    · have f := oF.2.1 k z.1 z.2
      right; omega
theorem JP.odd23 (h : JP N X Y D) {t : Int} (ht : JT X Y t) (hi : ji D t = 2) (ho : D t = 3) : ¬ JOn X Y (2 * X t + -1) (2 * Y t + 2) ∧ jpar X Y (2 * X t + -1) (2 * Y t + 2) N = true := by
  have oF := h.onFacts t
  have hn := h.noTri t
  have bx := h.bx t; have by1 := h.by' t; have sx := h.sx t; have sy := h.sy t
  rw [hi] at bx by1 oF; rw [ho] at sx sy oF
  have v1 : jx 2 = 0 := rfl; have v2 : jy 2 = 1 := rfl; have v3 : jx 3 = -1 := rfl; have v4 : jy 3 = 1 := rfl
  rw [v1, v2, v3, v4] at oF; rw [v1] at bx; rw [v2] at by1; rw [v3] at sx; rw [v4] at sy
  rw [bx, by1, sx, sy] at hn
  have hst := h.stepS t
  rw [ho, v3, v4] at hst
  have hx := jnoS (fun q => h.cr (x := X t) (y := Y t) (e := -1) (f := 1) (Or.inr rfl) (Or.inl rfl) hst q)
  refine ⟨?_, ?_⟩
  · rw [show 2 * X t + -1 = 2 * (X t + -1) + 1 by omega, show 2 * Y t + 2 = 2 * (Y t + 1) by omega, h.onH]
    intro q; exact hn (by rw [show X t + -1 + 1 = X t by omega] at q; rw [show X t + 0 = X t by omega]; exact q.symm)
  · refine h.one (t - 1) (fun k => decide (Y k = Y t + 1 ∧ 2 * X t + -1 < 2 * X k)) (fun j k e1 e2 => by rw [e1, e2]) fun k => ?_
    rw [bx, by1]
    have rg := h.rg k
    have hxk := hx k
    unfold jcr
    rcases (show Y (k + 1) = Y k + 1 ∨ Y (k + 1) = Y k - 1 ∨ Y (k + 1) = Y k by omega) with e | e | e
    · refine xor_d2 (fun z => by omega) (fun z => by left; omega) (fun z => ?_) (fun z => ?_)
      · have f := oF.2.1 k z.1 z.2; omega
      · exfalso
        have z4 : Y k = Y t := by omega
        by_cases z5 : X k = X t
        · have f := oF.1 k z5 z4; omega
        · have g := (ht k).2 z4; omega
    · refine xor_d1 (fun z => by omega) (fun z => by right; omega) (fun z => ?_) (fun z => ?_)
      · have f := oF.2.1 k z.1 z.2; omega
      · have z4 : Y (k + 1) = Y t := by omega
        by_cases z5 : X (k + 1) = X t
        · exact oF.2.2 k z5 z4
        · exfalso; have g := (ht (k + 1)).2 z4; omega
    · have hnk := jnoS hn k
      refine xor_d3 (fun z => by omega) (fun z => ?_) (fun z => by omega) (fun z => by omega)
      have f := oF.2.1 k z.1 z.2; omega
theorem JP.odd24 (h : JP N X Y D) {t : Int} (ht : JT X Y t) (hi : ji D t = 2) (ho : D t = 4) : ¬ JOn X Y (2 * X t + -1) (2 * Y t + 1) ∧ jpar X Y (2 * X t + -1) (2 * Y t + 1) N = true := by
  have oF := h.onFacts t
  have hn := h.noTri t
  have bx := h.bx t; have by1 := h.by' t; have sx := h.sx t; have sy := h.sy t
  rw [hi] at bx by1 oF; rw [ho] at sx sy oF
  have v1 : jx 2 = 0 := rfl; have v2 : jy 2 = 1 := rfl; have v3 : jx 4 = -1 := rfl; have v4 : jy 4 = 0 := rfl
  rw [v1, v2, v3, v4] at oF; rw [v1] at bx; rw [v2] at by1; rw [v3] at sx; rw [v4] at sy
  rw [bx, by1, sx, sy] at hn
  refine ⟨?_, ?_⟩
  · have f := h.freeC t (b := 3) rfl (by rw [ho]; decide) (by rw [hi]; decide) (by
      rw [show jx 3 = -1 from rfl, show jy 3 = 1 from rfl]; intro q; exact hn (by rw [show X t + 0 = X t by omega, show Y t + 0 = Y t by omega]; exact q.symm))
    rwa [show jx 3 = -1 from rfl, show jy 3 = 1 from rfl] at f
  · refine h.one (t - 1) (fun _ => false) (fun _ _ _ _ => rfl) fun k => ?_
    rw [bx, by1]
    have rg := h.rg k
    unfold jcr
    refine xor_d0 (fun z => ?_) (fun z => ?_)
    · rcases z with ⟨z1, z2, z3⟩ | ⟨z1, z2, z3⟩
      · exfalso
        have z4 : Y k = Y t := by omega
        by_cases z5 : X k = X t
        · have f := oF.1 k z5 z4; omega
        · have g := (ht k).2 z4; omega
      · have z4 : Y (k + 1) = Y t := by omega
        by_cases z5 : X (k + 1) = X t
        · exact oF.2.2 k z5 z4
        · exfalso; have g := (ht (k + 1)).2 z4; omega
    · have f := oF.2.1 k z.1 z.2
      right; omega
theorem JP.odd34 (h : JP N X Y D) {t : Int} (ht : JT X Y t) (hi : ji D t = 3) (ho : D t = 4) : ¬ JOn X Y (2 * X t + -2) (2 * Y t + 1) ∧ jpar X Y (2 * X t + -2) (2 * Y t + 1) N = true := by
  have oF := h.onFacts t
  have hn := h.noTri t
  have bx := h.bx t; have by1 := h.by' t; have sx := h.sx t; have sy := h.sy t
  rw [hi] at bx by1 oF; rw [ho] at sx sy oF
  have v1 : jx 3 = -1 := rfl; have v2 : jy 3 = 1 := rfl; have v3 : jx 4 = -1 := rfl; have v4 : jy 4 = 0 := rfl
  rw [v1, v2, v3, v4] at oF; rw [v1] at bx; rw [v2] at by1; rw [v3] at sx; rw [v4] at sy
  rw [bx, by1, sx, sy] at hn
  have hst := h.backS t
  rw [hi, v1, v2] at hst
  have hx := jnoS (fun q => h.cr (x := X t) (y := Y t) (e := -1) (f := 1) (Or.inr rfl) (Or.inl rfl) hst q)
  refine ⟨?_, ?_⟩
  · rw [show 2 * X t + -2 = 2 * (X t + -1) by omega, h.onV]
    intro q; exact hn (by rw [show Y t + 0 = Y t by omega]; exact q.symm)
  · refine h.one (t - 1) (fun _ => false) (fun _ _ _ _ => rfl) fun k => ?_
    rw [bx, by1]
    have rg := h.rg k
    have hxk := hx k
    unfold jcr
    refine xor_d0 (fun z => ?_) (fun z => ?_)
    · rcases z with ⟨z1, z2, z3⟩ | ⟨z1, z2, z3⟩
      · exfalso
        have z4 : Y k = Y t := by omega
        by_cases z5 : X k = X t
        · have f := oF.1 k z5 z4; omega
        · have g := (ht k).2 z4; omega
      · have z4 : Y (k + 1) = Y t := by omega
        by_cases z5 : X (k + 1) = X t
        · exact oF.2.2 k z5 z4
        · exfalso; have g := (ht (k + 1)).2 z4; omega
    · have f := oF.2.1 k z.1 z.2
      right; omega
end

