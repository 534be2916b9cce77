/-! MATH 21: a state with a line more, a line less -/
abbrev kEn (D : kG) (H : Heap) (e : Nat) (b : Bool) : Prop := kO D H e (if b = true then 5 else 4) []
theorem fA_app (F : Fts) (q : Nat × Nat × Nat) (k : Nat) : (k < F.length → fA (F ++ [q]) k = fA F k ∧ fP (F ++ [q]) k = fP F k ∧ fS (F ++ [q]) k = fS F k) ∧ (k = F.length → fA (F ++ [q]) k = q.1 ∧ fP (F ++ [q]) k = q.2.1 ∧ fS (F ++ [q]) k = q.2.2) := by
  unfold fA fP fS
  refine ⟨fun h => ?_, fun h => ?_⟩
  · rw [List.getD_eq_getElem?_getD, List.getD_eq_getElem?_getD, List.getElem?_append_left h]
    exact ⟨rfl, rfl, rfl⟩
  · subst h
    rw [List.getD_eq_getElem?_getD, List.getElem?_append_right (Nat.le_refl _), Nat.sub_self]
    exact ⟨rfl, rfl, rfl⟩
theorem st_ln_app (S : Ls) (L : Ln) (k : Nat) : (k < S.length → st_ln (S ++ [L]) k = st_ln S k) ∧ (k = S.length → st_ln (S ++ [L]) k = L) := by
  unfold st_ln
  refine ⟨fun h => ?_, fun h => ?_⟩
  · rw [List.getD_eq_getElem?_getD, List.getD_eq_getElem?_getD, List.getElem?_append_left h]
  · subst h
    rw [List.getD_eq_getElem?_getD, List.getElem?_append_right (Nat.le_refl _), Nat.sub_self]
    rfl
theorem kState.push {D : kG} (hd : kDis D) (hx : ¬ kBase D ≤ D.2.2.2 2) {H H1 : Heap} {st la ea ea2 a pa sa : Nat} {gap mc2 : Int} {S : Ls} {F : Fts} {L : Ln} {A : Nat → Prop} (h : kState D H st la ea gap S F) (q : kFr A H H1) (hA : ∀ x, A x → H.size ≤ x ∨ x = la ∨ (x = ea ∧ kBase D ≤ ea))
    (hla : kO D H1 la 9 [.int (kI mc2), .ref ea2, .int (kI ((S.length + 1 : Nat) : Int))]) (hls : kLs D H1 ea2 (S.length + 1) (F ++ [(a, pa, sa)])) (hL : LnAt D H1 a pa sa L) (hn : H.size ≤ a ∧ H.size ≤ pa ∧ H.size ≤ sa) (hne : pa ≠ sa) (hsz : kBase D ≤ H.size) : kState D H1 st la ea2 gap (S ++ [L]) (F ++ [(a, pa, sa)]) := by
  obtain ⟨⟨h1, mc, h2⟩, h3, h4, h5, h6, h7, h8, h9⟩ := h
  have hlen : (S ++ [L]).length = S.length + 1 := by simp
  have hea : kBase D ≤ ea → ∃ g, kAq D H ea 4 10 g := by
    intro hb
    rcases h3 with ⟨-, e⟩ | ⟨-, -, g, e2, -⟩
    · rw [e] at hb; exact absurd hb hx
    · exact ⟨g, e2⟩
  have hold : ∀ k, k < S.length → LnAt D H1 (fA F k) (fP F k) (fS F k) (st_ln S k) := by
    intro k hk
    refine (h4 k hk).fr hd q (fun x hxx => ?_)
    obtain ⟨ek, gp, gs, k1, k2, k3, k4, k5⟩ := h4 k hk
    rcases hA x hxx with z | z | ⟨z, zb⟩
    · exact Or.inl z
    · rw [z]
      exact Or.inr ⟨Or.inl ⟨9, _, by decide, by decide, by decide, h2⟩, kO_ne hd h2 k1 (by decide) (by decide) (by decide), kOA_ne hd h2 k2 (by decide) (by decide), kOA_ne hd h2 k3 (by decide) (by decide)⟩
    · rw [z]
      obtain ⟨g, hg⟩ := hea zb
      exact Or.inr ⟨Or.inr ⟨4, _, by decide, hg⟩, (kOA_ne hd k1 hg (by decide) (by decide)).symm, kA_ne hd hg k2, kA_ne hd hg k3⟩
  have hlt := fun k (hk : k < S.length) => (h4 k hk).lt
  unfold kState
  rw [hlen]
  refine ⟨⟨h1.fr q (fun z => ?_), mc2, hla⟩, hls, fun k hk => ?_, by simp [h5], ⟨fun i j hi hj hij => ?_, fun i j hi hj => ?_⟩, h7, h8, fun k hk => ?_⟩
  · rcases hA _ z with e | e | ⟨e, zb⟩
    · exact absurd h1.lt (by omega)
    · exact kO_ne hd h1 h2 (by decide) (by decide) (by decide) e
    · obtain ⟨g, hg⟩ := hea zb
      exact kOA_ne hd h1 hg (by decide) (by decide) e
  · rw [hlen] at hk
    by_cases e : k < S.length
    · have e1 := (fA_app F (a, pa, sa) k).1 (by omega)
      rw [e1.1, e1.2.1, e1.2.2, (st_ln_app S L k).1 e]
      exact hold k e
    · have e1 := (fA_app F (a, pa, sa) k).2 (by omega)
      rw [e1.1, e1.2.1, e1.2.2, (st_ln_app S L k).2 (by omega)]
      exact hL
  · by_cases ei : i < S.length
    · have e1 := (fA_app F (a, pa, sa) i).1 (by omega)
      have l1 := hlt i ei
      rw [e1.1, e1.2.1, e1.2.2]
      by_cases ej : j < S.length
      · have e2 := (fA_app F (a, pa, sa) j).1 (by omega)
        rw [e2.1, e2.2.1, e2.2.2]
        exact h6.1 i j ei ej hij
      · have e2 := (fA_app F (a, pa, sa) j).2 (by omega)
        rw [e2.1, e2.2.1, e2.2.2]
        dsimp only
        omega
    · have e1 := (fA_app F (a, pa, sa) i).2 (by omega)
      rw [e1.1, e1.2.1, e1.2.2]
      have ej : j < S.length := by omega
      have l1 := hlt j ej
      have e2 := (fA_app F (a, pa, sa) j).1 (by omega)
      rw [e2.1, e2.2.1, e2.2.2]
      dsimp only
      omega
  · by_cases ei : i < S.length
    · have e1 := (fA_app F (a, pa, sa) i).1 (by omega)
      have l1 := hlt i ei
      rw [e1.2.1]
      by_cases ej : j < S.length
      · have e2 := (fA_app F (a, pa, sa) j).1 (by omega)
        rw [e2.2.2]
        exact h6.2 i j ei ej
      · have e2 := (fA_app F (a, pa, sa) j).2 (by omega)
        rw [e2.2.2]
        dsimp only
        omega
    · have e1 := (fA_app F (a, pa, sa) i).2 (by omega)
      rw [e1.2.1]
      by_cases ej : j < S.length
      · have l1 := hlt j ej
        have e2 := (fA_app F (a, pa, sa) j).1 (by omega)
        rw [e2.2.2]
        dsimp only
        omega
      · have e2 := (fA_app F (a, pa, sa) j).2 (by omega)
        rw [e2.2.2]
        exact hne
  · by_cases e : k < S.length
    · have e1 := (fA_app F (a, pa, sa) k).1 (by omega)
      rw [e1.1, e1.2.1, e1.2.2]
      exact h9 k e
    · have e1 := (fA_app F (a, pa, sa) k).2 (by omega)
      rw [e1.1, e1.2.1, e1.2.2]
      dsimp only
      omega
theorem fA_erase (F : Fts) (i k : Nat) : fA (F.eraseIdx i) k = fA F (if k < i then k else k + 1) ∧ fP (F.eraseIdx i) k = fP F (if k < i then k else k + 1) ∧ fS (F.eraseIdx i) k = fS F (if k < i then k else k + 1) := by
  unfold fA fP fS
  rw [List.getD_eq_getElem?_getD, List.getD_eq_getElem?_getD, List.getElem?_eraseIdx]
  split <;> exact ⟨rfl, rfl, rfl⟩
theorem st_ln_erase2 (S : Ls) (i k : Nat) : st_ln (S.eraseIdx i) k = st_ln S (if k < i then k else k + 1) := by
  unfold st_ln
  rw [List.getD_eq_getElem?_getD, List.getD_eq_getElem?_getD, List.getElem?_eraseIdx]
  split <;> rfl
theorem kState.erase {D : kG} (hd : kDis D) {H H1 : Heap} {st la ea i : Nat} {gap mc2 : Int} {S : Ls} {F : Fts} {A : Nat → Prop} (h : kState D H st la ea gap S F) (hi : i < S.length) {g g2 : Nat → Option Nat} (hg : kAq D H ea 4 10 g) (hgv : ∀ k, k < S.length → g k = some (fA F k)) (q : kFr A H H1) (hA : ∀ x, A x → x = la ∨ x = ea)
    (hla : kO D H1 la 9 [.int (kI mc2), .ref ea, .int (kI ((S.length - 1 : Nat) : Int))]) (hg2 : kAq D H1 ea 4 10 g2) (hg2v : ∀ j, j < S.length - 1 → g2 j = g (if j < i then j else j + 1)) (hbe : kBase D ≤ ea) (h10 : S.length ≤ 10) : kState D H1 st la ea gap (S.eraseIdx i) (F.eraseIdx i) := by
  obtain ⟨⟨h1, mc, h2⟩, h3, h4, h5, h6, h7, h8, h9⟩ := h
  have hlen : (S.eraseIdx i).length = S.length - 1 := List.length_eraseIdx_of_lt hi
  have hold : ∀ k, k < S.length → LnAt D H1 (fA F k) (fP F k) (fS F k) (st_ln S k) := by
    intro k hk
    refine (h4 k hk).fr hd q (fun x hxx => ?_)
    obtain ⟨ek, gp, gs, k1, k2, k3, k4, k5⟩ := h4 k hk
    rcases hA x hxx with z | z
    · rw [z]
      exact Or.inr ⟨Or.inl ⟨9, _, by decide, by decide, by decide, h2⟩, kO_ne hd h2 k1 (by decide) (by decide) (by decide), kOA_ne hd h2 k2 (by decide) (by decide), kOA_ne hd h2 k3 (by decide) (by decide)⟩
    · rw [z]
      exact Or.inr ⟨Or.inr ⟨4, _, by decide, hg⟩, (kOA_ne hd k1 hg (by decide) (by decide)).symm, kA_ne hd hg k2, kA_ne hd hg k3⟩
  have hix : ∀ k, k < S.length - 1 → (if k < i then k else k + 1) < S.length := by intro k hk; split <;> omega
  unfold kState
  rw [hlen]
  refine ⟨⟨h1.fr q (fun z => ?_), mc2, hla⟩, Or.inr ⟨hbe, by omega, g2, hg2, fun k hk => ?_⟩, fun k hk => ?_, by rw [List.length_eraseIdx_of_lt (by omega)]; omega, ⟨fun a b ha hb hab => ?_, fun a b ha hb => ?_⟩, h7, h8, fun k hk => ?_⟩
  · rcases hA _ z with e | e
    · exact kO_ne hd h1 h2 (by decide) (by decide) (by decide) e
    · exact kOA_ne hd h1 hg (by decide) (by decide) e
  · rw [hg2v k hk, hgv _ (hix k hk), (fA_erase F i k).1]
  · rw [hlen] at hk
    rw [(fA_erase F i k).1, (fA_erase F i k).2.1, (fA_erase F i k).2.2, st_ln_erase2]
    exact hold _ (hix k hk)
  · rw [(fA_erase F i a).1, (fA_erase F i a).2.1, (fA_erase F i a).2.2, (fA_erase F i b).1, (fA_erase F i b).2.1, (fA_erase F i b).2.2]
    exact h6.1 _ _ (hix a ha) (hix b hb) (by split <;> split <;> omega)
  · rw [(fA_erase F i a).2.1, (fA_erase F i b).2.2]
    exact h6.2 _ _ (hix a ha) (hix b hb)
  · rw [(fA_erase F i k).1, (fA_erase F i k).2.1, (fA_erase F i k).2.2]
    exact h9 _ (hix k hk)
theorem kState.new {D : kG} {H : Heap} {st la : Nat} {gap mc : Int} (h1 : kO D H st 1 [.ref la, .int (kI gap)]) (h2 : kO D H la 9 [.int (kI mc), .ref (D.2.2.2 2), .int (kI 0)]) (b1 : kBase D ≤ st) (b2 : kBase D ≤ la) : kState D H st la (D.2.2.2 2) gap [] [] :=
  ⟨⟨h1, mc, h2⟩, Or.inl ⟨rfl, rfl⟩, fun k hk => absurd hk (Nat.not_lt_zero k), rfl, ⟨fun i j hi => absurd hi (Nat.not_lt_zero i), fun i j hi => absurd hi (Nat.not_lt_zero i)⟩, b1, b2, fun k hk => absurd hk (Nat.not_lt_zero k)⟩
theorem kState.gap {D : kG} (hd : kDis D) {H H1 : Heap} {st la ea : Nat} {gap gap2 : Int} {S : Ls} {F : Fts} {A : Nat → Prop} (h : kState D H st la ea gap S F) (q : kFr A H H1) (hA : ∀ x, A x → x = st) (h2 : kO D H1 st 1 [.ref la, .int (kI gap2)]) : kState D H1 st la ea gap2 S F := by
  obtain ⟨⟨h1, mc, h2'⟩, h3, h4, h5, h6, h7, h8, h9⟩ := h
  refine ⟨⟨h2, mc, h2'.fr q (fun z => kO_ne hd h2' h1 (by decide) (by decide) (by decide) (hA _ z))⟩, ?_, fun k hk => ?_, h5, h6, h7, h8, h9⟩
  · rcases h3 with e | ⟨e0, e1, g, e2, e3⟩
    · exact Or.inl e
    · exact Or.inr ⟨e0, e1, g, e2.fr q (fun z => kOA_ne hd h1 e2 (by decide) (by decide) (hA _ z).symm), e3⟩
  · obtain ⟨ek, gp, gs, k1, k2, k3, k4, k5⟩ := h4 k hk
    refine (h4 k hk).fr hd q (fun x hx => ?_)
    rw [hA x hx]
    exact Or.inr ⟨Or.inl ⟨1, _, by decide, by decide, by decide, h1⟩, kO_ne hd h1 k1 (by decide) (by decide) (by decide), kOA_ne hd h1 k2 (by decide) (by decide), kOA_ne hd h1 k3 (by decide) (by decide)⟩

