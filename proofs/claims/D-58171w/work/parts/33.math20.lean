/-! MATH 20: kinds of cells; a state's cells kept and changed -/
def kDis (D : kG) : Prop := (∀ i j, i < 19 → j < 19 → i ≠ j → D.1.1 i ≠ D.1.1 j) ∧ (∀ i t, i < 19 → t < 4 → D.1.1 i ≠ D.2.1 t) ∧ (∀ i, i < 19 → D.1.1 i ≠ D.2.1 4) ∧ D.2.1 4 ≠ D.2.1 0
def kNm (i : Nat) : String := (vwCl.getD i ("", kT0, 0)).1
theorem kNm_ne : ∀ i, i < 19 → ∀ j, j < 19 → i ≠ j → kNm i ≠ kNm j := by decide +kernel
theorem kNm_arr : ∀ i, i < 19 → kNm i ≠ "[I" ∧ kNm i ≠ "[B" ∧ kNm i ≠ "[J" ∧ kNm i ≠ "[D" ∧ kNm i ≠ "[Ljava/lang/Object;" := by decide +kernel
theorem kK.cls {D : kG} {s : State} (hK : kK D s) {i : Nat} (hi : i < 19) : s.vm.findClass (kNm i) = some (D.1.1 i) := by
  have hlt : i < vwCl.length := hi
  have h : vwCl[i]? = some (vwCl[i]'hlt) := List.getElem?_eq_getElem hlt
  have e : kNm i = (vwCl[i]'hlt).1 := by unfold kNm; rw [List.getD_eq_getElem?_getD, h]; rfl
  rw [e]
  exact (hK.at (C := (vwCl[i]'hlt).1) (T := (vwCl[i]'hlt).2.1) (N := (vwCl[i]'hlt).2.2) h).1
theorem findClass_inj {s : State} {A B : String} {c : ClassId} (h1 : s.vm.findClass A = some c) (h2 : s.vm.findClass B = some c) : A = B := by
  obtain ⟨k1, b1, b2⟩ := Vm.findClass_spec h1
  obtain ⟨k2, b3, b4⟩ := Vm.findClass_spec h2
  cases b1.symm.trans b3
  exact b2.symm.trans b4
theorem kK.dis {D : kG} {s : State} (hK : kK D s) : kDis D := by
  have a0 := va_nm_int (hK.va.2 0 _ rfl).2
  have a1 := va_nm_byte (hK.va.2 1 _ rfl).2
  have a2 := va_nm_long (hK.va.2 2 _ rfl).2
  have a3 := va_nm_double (hK.va.2 3 _ rfl).2
  have a4 : s.vm.findClass "[Ljava/lang/Object;" = some (D.2.1 4) := va_nmO (hK.va.2 4 _ rfl).2 (by decide)
  refine ⟨fun i j hi hj hne e => ?_, fun i t hi ht e => ?_, fun i hi e => ?_, fun e => ?_⟩
  · have h1 := hK.cls hi
    rw [e] at h1
    exact kNm_ne i hi j hj hne (findClass_inj h1 (hK.cls hj))
  · have h1 := hK.cls hi
    rw [e] at h1
    have h2 := kNm_arr i hi
    match t, ht with
    | 0, _ => exact h2.1 (findClass_inj h1 a0)
    | 1, _ => exact h2.2.1 (findClass_inj h1 a1)
    | 2, _ => exact h2.2.2.1 (findClass_inj h1 a2)
    | 3, _ => exact h2.2.2.2.1 (findClass_inj h1 a3)
  · have h1 := hK.cls hi
    rw [e] at h1
    exact (kNm_arr i hi).2.2.2.2 (findClass_inj h1 a4)
  · rw [e] at a4
    exact absurd (findClass_inj a4 a0) (by decide)
theorem kO_cls {D : kG} {H : Heap} {a ci : Nat} {fs : List Value} (h : kO D H a ci fs) : ∃ cell : Cell, H[a]? = some cell ∧ cell.cls = D.1.1 ci := by
  rcases h with h | h
  · obtain ⟨r, -, cell, h1, h2, -⟩ := h
    exact ⟨cell, h1, h2⟩
  · obtain ⟨_, _, r, cell, _, h1, h2, _⟩ := h
    exact ⟨cell, h1, h2⟩
theorem kA_cls {D : kG} {H : Heap} {a t : Nat} {x : vp_A} (h : kA D H a t x) : ∃ cell : Cell, H[a]? = some cell ∧ cell.cls = D.2.1 t := by
  refine ⟨_, h, ?_⟩
  obtain ⟨n, f | f | f | f | f⟩ := x <;> rfl
theorem kO_ne {D : kG} (hd : kDis D) {H : Heap} {a b ci cj : Nat} {fs gs : List Value} (h1 : kO D H a ci fs) (h2 : kO D H b cj gs) (hi : ci < 19) (hj : cj < 19) (hne : ci ≠ cj) : a ≠ b := by
  intro e
  subst e
  obtain ⟨c1, e1, e2⟩ := kO_cls h1
  obtain ⟨c2, e3, e4⟩ := kO_cls h2
  cases e1.symm.trans e3
  exact hd.1 ci cj hi hj hne (e2.symm.trans e4)
theorem kOA_ne {D : kG} (hd : kDis D) {H : Heap} {a b ci t : Nat} {fs : List Value} {x : vp_A} (h1 : kO D H a ci fs) (h2 : kA D H b t x) (hi : ci < 19) (ht : t < 5) : a ≠ b := by
  intro e
  subst e
  obtain ⟨c1, e1, e2⟩ := kO_cls h1
  obtain ⟨c2, e3, e4⟩ := kA_cls h2
  cases e1.symm.trans e3
  by_cases h4 : t = 4
  · subst h4; exact hd.2.2.1 ci hi (e2.symm.trans e4)
  · exact hd.2.1 ci t hi (by omega) (e2.symm.trans e4)
theorem kA_ne {D : kG} (hd : kDis D) {H : Heap} {a b : Nat} {x y : vp_A} (h1 : kA D H a 4 x) (h2 : kA D H b 0 y) : a ≠ b := by
  intro e
  subst e
  obtain ⟨c1, e1, e2⟩ := kA_cls h1
  obtain ⟨c2, e3, e4⟩ := kA_cls h2
  cases e1.symm.trans e3
  exact hd.2.2.2 (e2.symm.trans e4)
/-- no ends object: of another kind -/
def kTy (D : kG) (H : Heap) (q : Nat) : Prop := (∃ ci fs, ci < 19 ∧ ci ≠ 4 ∧ ci ≠ 5 ∧ kO D H q ci fs) ∨ ∃ t x, t < 5 ∧ kA D H q t x
theorem kTy.ne {D : kG} (hd : kDis D) {H : Heap} {q e : Nat} {b : Bool} (h : kTy D H q) (he : kO D H e (if b = true then 5 else 4) []) : q ≠ e := by
  rcases h with ⟨ci, fs, h1, h2, h3, h4⟩ | ⟨t, x, h1, h2⟩
  · cases b
    · exact kO_ne hd h4 he h1 (by decide) h2
    · exact kO_ne hd h4 he h1 (by decide) h3
  · cases b
    · exact (kOA_ne hd he h2 (by decide) h1).symm
    · exact (kOA_ne hd he h2 (by decide) h1).symm
/-- what may be written beside a line: new cells, and old ones that are no ends objects -/
theorem LnAt.fr {D : kG} (hd : kDis D) {H H1 : Heap} {a pa sa : Nat} {L : Ln} {A : Nat → Prop} (h : LnAt D H a pa sa L) (q : kFr A H H1) (hA : ∀ x, A x → H.size ≤ x ∨ (kTy D H x ∧ x ≠ a ∧ x ≠ pa ∧ x ≠ sa)) : LnAt D H1 a pa sa L := by
  obtain ⟨ea, gp, gs, h1, h2, h3, h4, h5⟩ := h
  refine ⟨ea, gp, gs, h1.fr q (fun z => ?_), h2.fr q (fun z => ?_), h3.fr q (fun z => ?_), h4.fr q (fun z => ?_), h5⟩
  · rcases hA _ z with e | ⟨-, e, -⟩
    · exact absurd h1.lt (by omega)
    · exact e rfl
  · rcases hA _ z with e | ⟨-, -, e, -⟩
    · exact absurd h2.lt (by omega)
    · exact e rfl
  · rcases hA _ z with e | ⟨-, -, -, e⟩
    · exact absurd h3.lt (by omega)
    · exact e rfl
  · rcases hA _ z with e | ⟨e, -⟩
    · exact absurd h4.lt (by omega)
    · exact e.ne hd h4 rfl
/-- lines' cells differ -/
def kDs (F : Fts) (n : Nat) : Prop := (∀ i j, i < n → j < n → i ≠ j → fA F i ≠ fA F j ∧ fP F i ≠ fP F j ∧ fS F i ≠ fS F j) ∧ ∀ i j, i < n → j < n → fP F i ≠ fS F j
/-- a state: its list, its lines -/
def kState (D : kG) (H : Heap) (st la ea : Nat) (gap : Int) (S : Ls) (F : Fts) : Prop :=
  (kO D H st 1 [.ref la, .int (kI gap)] ∧ ∃ mc : Int, kO D H la 9 [.int (kI mc), .ref ea, .int (kI ((S.length : Nat) : Int))]) ∧ kLs D H ea S.length F ∧ kLn D H F S ∧ F.length = S.length ∧ kDs F S.length ∧
  kBase D ≤ st ∧ kBase D ≤ la ∧ ∀ k, k < S.length → kBase D ≤ fA F k ∧ kBase D ≤ fP F k ∧ kBase D ≤ fS F k
/-- the cells that a state owns -/
def kOwn (D : kG) (st la ea : Nat) (F : Fts) (n : Nat) : Nat → Prop := fun q => q = st ∨ q = la ∨ (q = ea ∧ kBase D ≤ ea) ∨ ∃ k, k < n ∧ (q = fA F k ∨ q = fP F k ∨ q = fS F k)
theorem LnAt.tyA {D : kG} {H : Heap} {a pa sa : Nat} {L : Ln} (h : LnAt D H a pa sa L) : kTy D H a ∧ kTy D H pa ∧ kTy D H sa := by
  obtain ⟨ea, gp, gs, h1, h2, h3, h4, h5⟩ := h
  exact ⟨Or.inl ⟨3, _, by decide, by decide, by decide, h1⟩, Or.inr ⟨0, _, by decide, h2⟩, Or.inr ⟨0, _, by decide, h3⟩⟩
theorem LnAt.lt {D : kG} {H : Heap} {a pa sa : Nat} {L : Ln} (h : LnAt D H a pa sa L) : a < H.size ∧ pa < H.size ∧ sa < H.size := by
  obtain ⟨ea, gp, gs, h1, h2, h3, h4, h5⟩ := h
  exact ⟨h1.lt, h2.lt, h3.lt⟩
theorem kLs.lt {D : kG} {H : Heap} {ea n : Nat} {F : Fts} (h : kLs D H ea n F) (hb : kBase D ≤ ea) (hx : D.2.2.2 2 < kBase D) : ea < H.size := by
  rcases h with ⟨-, h⟩ | ⟨-, -, g, h, -⟩
  · omega
  · exact h.lt
/-- a state that nothing of its own is written -/
theorem kState.fr {D : kG} (hd : kDis D) {H H1 : Heap} {st la ea : Nat} {gap : Int} {S : Ls} {F : Fts} {A : Nat → Prop} (h : kState D H st la ea gap S F) (q : kFr A H H1) (hA : ∀ x, A x → H.size ≤ x ∨ (kTy D H x ∧ ¬ kOwn D st la ea F S.length x)) : kState D H1 st la ea gap S F := by
  obtain ⟨⟨h1, mc, h2⟩, h3, h4, h5, h6, h7, h8, h9⟩ := h
  refine ⟨⟨h1.fr q (fun z => ?_), mc, h2.fr q (fun z => ?_)⟩, ?_, fun k hk => (h4 k hk).fr hd q (fun x hx => ?_), h5, h6, h7, h8, h9⟩
  · rcases hA _ z with e | ⟨-, e⟩
    · exact absurd h1.lt (by omega)
    · exact e (Or.inl rfl)
  · rcases hA _ z with e | ⟨-, e⟩
    · exact absurd h2.lt (by omega)
    · exact e (Or.inr (Or.inl rfl))
  · rcases h3 with e | ⟨e0, e1, g, e2, e3⟩
    · exact Or.inl e
    · refine Or.inr ⟨e0, e1, g, e2.fr q (fun z => ?_), e3⟩
      rcases hA _ z with e | ⟨-, e⟩
      · exact absurd e2.lt (by omega)
      · exact e (Or.inr (Or.inr (Or.inl ⟨rfl, e0⟩)))
  · rcases hA x hx with e | ⟨e1, e2⟩
    · exact Or.inl e
    · exact Or.inr ⟨e1, fun z => e2 (Or.inr (Or.inr (Or.inr ⟨k, hk, Or.inl z⟩))), fun z => e2 (Or.inr (Or.inr (Or.inr ⟨k, hk, Or.inr (Or.inl z)⟩))), fun z => e2 (Or.inr (Or.inr (Or.inr ⟨k, hk, Or.inr (Or.inr z)⟩)))⟩
/-- one line of a state is changed -/
theorem kState.line {D : kG} (hd : kDis D) {H H1 : Heap} {st la ea : Nat} {gap : Int} {S : Ls} {F : Fts} {A : Nat → Prop} (h : kState D H st la ea gap S F) {k : Nat} (hk : k < S.length) (q : kFr A H H1) (hA : ∀ x, A x → H.size ≤ x ∨ x = fA F k ∨ x = fP F k ∨ x = fS F k) {L : Ln} (hL : LnAt D H1 (fA F k) (fP F k) (fS F k) L) : kState D H1 st la ea gap (S.set k L) F := by
  obtain ⟨⟨h1, mc, h2⟩, h3, h4, h5, h6, h7, h8, h9⟩ := h
  have hty := (h4 k hk).tyA
  obtain ⟨ek, gp, gs, k1, k2, k3, k4, k5⟩ := h4 k hk
  have hne : ∀ {x ci : Nat} {fs : List Value}, kO D H x ci fs → ci < 19 → ci ≠ 3 → ¬ A x := by
    intro x ci fs hx h19 h3' z
    rcases hA x z with e | e | e | e
    · exact absurd hx.lt (by omega)
    · exact kO_ne hd hx k1 h19 (by decide) h3' e
    · exact kOA_ne hd hx k2 h19 (by decide) e
    · exact kOA_ne hd hx k3 h19 (by decide) e
  have hlen : (S.set k L).length = S.length := List.length_set
  unfold kState
  rw [hlen]
  refine ⟨⟨h1.fr q (hne h1 (by decide) (by decide)), mc, h2.fr q (hne h2 (by decide) (by decide))⟩, ?_, fun j hj => ?_, h5, h6, h7, h8, h9⟩
  · rcases h3 with e | ⟨e0, e1, g, e2, e3⟩
    · exact Or.inl e
    · refine Or.inr ⟨e0, e1, g, e2.fr q (fun z => ?_), e3⟩
      rcases hA _ z with e | e | e | e
      · exact absurd e2.lt (by omega)
      · exact kOA_ne hd k1 e2 (by decide) (by decide) e.symm
      · exact kA_ne hd e2 k2 e
      · exact kA_ne hd e2 k3 e
  · rw [hlen] at hj
    by_cases e : j = k
    · subst e
      rw [st_ln_set hk, if_pos rfl]
      exact hL
    · rw [st_ln_set hk, if_neg e]
      refine (h4 j hj).fr hd q (fun x hx => ?_)
      rcases hA x hx with z | z | z | z
      · exact Or.inl z
      · refine Or.inr ⟨by rw [z]; exact hty.1, ?_, ?_, ?_⟩
        · rw [z]; exact (h6.1 k j hk hj (fun w => e w.symm)).1
        · rw [z]; obtain ⟨_, _, _, _, j2, _⟩ := h4 j hj; exact kOA_ne hd k1 j2 (by decide) (by decide)
        · rw [z]; obtain ⟨_, _, _, _, _, j3, _⟩ := h4 j hj; exact kOA_ne hd k1 j3 (by decide) (by decide)
      · refine Or.inr ⟨by rw [z]; exact hty.2.1, ?_, ?_, ?_⟩
        · rw [z]; obtain ⟨_, _, _, j1, _⟩ := h4 j hj; exact (kOA_ne hd j1 k2 (by decide) (by decide)).symm
        · rw [z]; exact (h6.1 k j hk hj (fun w => e w.symm)).2.1
        · rw [z]; exact h6.2 k j hk hj
      · refine Or.inr ⟨by rw [z]; exact hty.2.2, ?_, ?_, ?_⟩
        · rw [z]; obtain ⟨_, _, _, j1, _⟩ := h4 j hj; exact (kOA_ne hd j1 k3 (by decide) (by decide)).symm
        · rw [z]; exact (h6.2 j k hj hk).symm
        · rw [z]; exact (h6.1 k j hk hj (fun w => e w.symm)).2.2

