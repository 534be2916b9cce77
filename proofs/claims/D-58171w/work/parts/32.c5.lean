/-! MATH 19: a state's cells -/
abbrev Fts : Type := List (Nat × Nat × Nat)
def fA (F : Fts) (k : Nat) : Nat := (F.getD k (0, 0, 0)).1
def fP (F : Fts) (k : Nat) : Nat := (F.getD k (0, 0, 0)).2.1
def fS (F : Fts) (k : Nat) : Nat := (F.getD k (0, 0, 0)).2.2
/-- a line's cells: itself, its points, its steps; what is known of its ends -/
def LnAt (D : kG) (H : Heap) (a pa sa : Nat) (L : Ln) : Prop := ∃ (ea : Nat) (gp gs : Nat → Int), kO D H a 3 [.int (kI (ln_lv L)), .ref pa, .ref sa, .int (kI ((ln_n L : Nat) : Int)), .ref ea, .int (kI (ln_lb L))] ∧ kAi D H pa 61 gp ∧ kAi D H sa 60 gs ∧ kO D H ea (if ln_cl L = true then 5 else 4) [] ∧ MLn gp gs L
theorem LnAt.ex {D : kG} {H H1 : Heap} {a pa sa : Nat} {L : Ln} (h : LnAt D H a pa sa L) (q : kEx H H1) : LnAt D H1 a pa sa L := by
  obtain ⟨ea, gp, gs, h1, h2, h3, h4, h5⟩ := h
  exact ⟨ea, gp, gs, h1.ex q, h2.ex q, h3.ex q, h4.ex q, h5⟩
/-- the list's array: the first has none -/
def kLs (D : kG) (H : Heap) (ea n : Nat) (F : Fts) : Prop := (n = 0 ∧ ea = D.2.2.2 2) ∨ (kBase D ≤ ea ∧ n ≤ 10 ∧ ∃ g, kAq D H ea 4 10 g ∧ ∀ k, k < n → g k = some (fA F k))
theorem kLs.ex {D : kG} {H H1 : Heap} {ea n : Nat} {F : Fts} (h : kLs D H ea n F) (q : kEx H H1) : kLs D H1 ea n F := by
  rcases h with h | ⟨h0, h1, g, h2, h3⟩
  · exact Or.inl h
  · exact Or.inr ⟨h0, h1, g, h2.ex q, h3⟩
theorem kLs.up {D : kG} {H H1 : Heap} {ea n b : Nat} {F : Fts} (h : kLs D H ea n F) (q : kUp H b H1) (hn : ea ≠ b) : kLs D H1 ea n F := by
  rcases h with h | ⟨h0, h1, g, h2, h3⟩
  · exact Or.inl h
  · exact Or.inr ⟨h0, h1, g, h2.up q hn, h3⟩
theorem kLs.fr {D : kG} {H H1 : Heap} {ea n : Nat} {F : Fts} {A : Nat → Prop} (h : kLs D H ea n F) (q : kFr A H H1) (hn : ¬ A ea) : kLs D H1 ea n F := by
  rcases h with h | ⟨h0, h1, g, h2, h3⟩
  · exact Or.inl h
  · exact Or.inr ⟨h0, h1, g, h2.fr q hn, h3⟩
def kLn (D : kG) (H : Heap) (F : Fts) (S : Ls) : Prop := ∀ k, k < S.length → LnAt D H (fA F k) (fP F k) (fS F k) (st_ln S k)
theorem kLn.ex {D : kG} {H H1 : Heap} {F : Fts} {S : Ls} (h : kLn D H F S) (q : kEx H H1) : kLn D H1 F S := fun k hk => (h k hk).ex q
theorem LnAt.open_ {D : kG} {H : Heap} {a pa sa : Nat} {L : Ln} (h : LnAt D H a pa sa L) (hc : ln_cl L = false) : ∃ (ea : Nat) (gp gs : Nat → Int), kO D H a 3 [.int (kI (ln_lv L)), .ref pa, .ref sa, .int (kI ((ln_n L : Nat) : Int)), .ref ea, .int (kI (ln_lb L))] ∧ kAi D H pa 61 gp ∧ kAi D H sa 60 gs ∧ kO D H ea 4 [] ∧ MLn gp gs L := by
  obtain ⟨ea, gp, gs, h1, h2, h3, h4, h5⟩ := h
  rw [if_neg (by rw [hc]; decide)] at h4
  exact ⟨ea, gp, gs, h1, h2, h3, h4, h5⟩
theorem LnAt.closed_ {D : kG} {H : Heap} {a pa sa : Nat} {L : Ln} (h : LnAt D H a pa sa L) (hc : ln_cl L = true) : ∃ (ea : Nat) (gp gs : Nat → Int), kO D H a 3 [.int (kI (ln_lv L)), .ref pa, .ref sa, .int (kI ((ln_n L : Nat) : Int)), .ref ea, .int (kI (ln_lb L))] ∧ kAi D H pa 61 gp ∧ kAi D H sa 60 gs ∧ kO D H ea 5 [] ∧ MLn gp gs L := by
  obtain ⟨ea, gp, gs, h1, h2, h3, h4, h5⟩ := h
  rw [if_pos hc] at h4
  exact ⟨ea, gp, gs, h1, h2, h3, h4, h5⟩
/-- lines that have no point twice: who has a point is who owns it -/
def StDis (S : Ls) : Prop := ∀ i j p, i < S.length → j < S.length → ln_has (st_ln S i) p = true → ln_has (st_ln S j) p = true → i = j
theorem firstIdx_of {P : Nat → Bool} : ∀ (f i k : Nat), i ≤ k → k < i + f → P k = true → (∀ j, P j = true → j = k) → firstIdx P f i = (k : Int) := by
  intro f
  induction f with
  | zero => intro i k h1 h2; omega
  | succ f ih =>
    intro i k h1 h2 h3 h4
    rw [firstIdx]
    split
    · rename_i q; rw [h4 i q]
    · rename_i q
      exact ih (i + 1) k (by have : i ≠ k := fun e => q (by rw [e]; exact h3); omega) (by omega) h3 h4
theorem firstIdx_no {P : Nat → Bool} : ∀ (f i : Nat), (∀ j, i ≤ j → j < i + f → P j = false) → firstIdx P f i = -1 := by
  intro f
  induction f with
  | zero => intro i h; rfl
  | succ f ih =>
    intro i h
    rw [firstIdx, if_neg (by rw [h i (by omega) (by omega)]; decide)]
    exact ih (i + 1) (fun j h1 h2 => h j (by omega) (by omega))
theorem firstIdx_has {P : Nat → Bool} : ∀ (f i k : Nat), firstIdx P f i = (k : Int) → i ≤ k ∧ k < i + f ∧ P k = true := by
  intro f
  induction f with
  | zero => intro i k h; unfold firstIdx at h; omega
  | succ f ih =>
    intro i k h
    rw [firstIdx] at h
    split at h
    · rename_i q
      have : i = k := by omega
      subst this
      exact ⟨by omega, by omega, q⟩
    · have := ih (i + 1) k h
      exact ⟨by omega, by omega, this.2.2⟩
theorem firstIdx_none {P : Nat → Bool} : ∀ (f i : Nat), firstIdx P f i = -1 → ∀ j, i ≤ j → j < i + f → P j = false := by
  intro f
  induction f with
  | zero => intro i h j h1 h2; omega
  | succ f ih =>
    intro i h j h1 h2
    rw [firstIdx] at h
    split at h
    · omega
    · rename_i q
      by_cases e : j = i
      · subst e; simpa using q
      · exact ih (i + 1) h j (by omega) (by omega)
/-- with disjoint lines: a point is on a line iff the line is its first owner -/
theorem owner_has {S : Ls} (hd : StDis S) {l : Nat} (hl : l < S.length) (p : Int) : (st_owner S p = (l : Int)) ↔ ln_has (st_ln S l) p = true := by
  constructor
  · intro h
    exact (firstIdx_has _ _ _ h).2.2
  · intro h
    have h1 : st_owner S p ≠ -1 := by
      intro h2
      have := firstIdx_none _ _ h2 l (by omega) (by omega)
      rw [h] at this
      exact absurd this (by decide)
    have h3 : ∀ (f i : Nat), firstIdx (fun k => ln_has (st_ln S k) p) f i = -1 ∨ ∃ k : Nat, firstIdx (fun k => ln_has (st_ln S k) p) f i = (k : Int) := by
      intro f
      induction f with
      | zero => intro i; exact Or.inl rfl
      | succ f ih =>
        intro i
        rw [firstIdx]
        split
        · exact Or.inr ⟨i, rfl⟩
        · exact ih (i + 1)
    rcases h3 S.length 0 with h4 | ⟨k, h4⟩
    · exact absurd h4 h1
    · have h5 := firstIdx_has _ _ _ h4
      have h6 := hd k l p (by omega) hl h5.2.2 h
      subst h6
      exact h4
theorem st_cont_eq {S : Ls} (hd : StDis S) {l : Nat} (hl : l < S.length) (p : Int) : st_cont S l p = ((ln_cl (st_ln S l) && !ln_has (st_ln S l) p) && ln_rayTo (st_ln S l) p (ln_n (st_ln S l))) := by
  unfold st_cont
  have h := owner_has hd hl p
  cases hh : ln_has (st_ln S l) p with
  | true => have e := h.mpr hh; simp [e]
  | false => have e : st_owner S p ≠ (l : Int) := (fun z => by have := h.mp z; rw [hh] at this; exact absurd this (by decide)); simp [e]
theorem firstIdx_first {P : Nat → Bool} {f k : Nat} (hk : k < f) (h : P k = true) (hn : ∀ j, j < k → P j = false) : firstIdx P f 0 = (k : Int) := by
  have h3 : ∀ (f i : Nat), i ≤ k → k < i + f → firstIdx P f i = (k : Int) := by
    intro f
    induction f with
    | zero => intro i h1 h2; omega
    | succ f ih =>
      intro i h1 h2
      rw [firstIdx]
      by_cases e : i = k
      · subst e; rw [if_pos h]
      · rw [if_neg (by rw [hn i (by omega)]; decide)]
        exact ih (i + 1) (by omega) (by omega)
  exact h3 f 0 (by omega) (by omega)
theorem ln_has_bg (L : Ln) : ln_has L (ln_bg L) = true := by
  unfold ln_has
  have h : ∀ n, ln_hasTo L (ln_bg L) (n + 1) = true := by
    intro n
    induction n with
    | zero => simp [ln_hasTo, ln_pos]
    | succ n ih => rw [ln_hasTo, ih]; rfl
  exact h _
theorem st_cont_self {S : Ls} (hd : StDis S) {l : Nat} (hl : l < S.length) : st_cont S l (ln_bg (st_ln S l)) = false := by
  rw [st_cont_eq hd hl, ln_has_bg]
  simp
set_option maxHeartbeats 4000000 in
set_option maxRecDepth 100000 in
theorem m_get (l : Launch) (D : kG) (H : Heap) (la : Nat) (mc : Int) (ea : Nat) (n : Nat) (F : Fts) (i : Nat) (hO_la : kO D H la 9 [.int (kI (mc)), .ref ea, .int (kI ((n : Nat) : Int))]) (hP_kLs_ea : kLs D H ea n F) (hi : i < n) : Met l yJ2_get (ws_ yJ2_get cJ2_get 2 (some (.object "java/lang/Object"))) ({ frames := 2, cells := 0, slots := 0, locals := 43 } : Room) (kPre D H [.ref la, .int (kI ((i : Nat) : Int))]) (kQr (fun (r : Nat) H' => H' = H ∧ r = fA F i) kNO) (0) (0) (kNO) := by
  rcases hP_kLs_ea with h0 | ⟨h0, h1, g, h2, h3⟩
  · exact absurd hi (by omega)
  · exact m_J2_get l D H la mc ea n g i (fA F i) hO_la h2 hi h1 (h3 i hi)

set_option maxHeartbeats 4000000 in
set_option maxRecDepth 100000 in
theorem m_X2_has (l : Launch) (D : kG) (H : Heap) (st : Nat) (la : Nat) (mc : Int) (ea : Nat) (n : Nat) (gap : Int) (ln : Nat) (hO_st : kO D H st 1 [.ref la, .int (kI (gap))]) (hO_la : kO D H la 9 [.int (kI (mc)), .ref ea, .int (kI ((n : Nat) : Int))]) (hln9 : ln ≤ 1000) (hn9 : n ≤ 1000) : Met l yX2_has (ws_ yX2_has cX2_has 2 (some .boolean)) ({ frames := 1, cells := 0, slots := 0, locals := 20 } : Room) (kPre D H [.ref st, .int (kI ((ln : Nat) : Int))]) (kQb (fun (r : Bool) H' => H' = H ∧ r = decide (ln < n)) kNO) (0) (0) (kNO) := by
  refine Met.ofW (cc := cX2_has) (maxL := 2) (ret := (some .boolean)) (by decide) rfl ?_
  intro p e s m args below meth c s₁ B hml hv
  obtain ⟨rfl, hH, hK⟩ := hv
  subst hH
  have hx := B.exec
  have hb := B.bytes
  have hr := B.returns
  have hts := atoms_spec (ws := ws_ yX2_has cX2_has 2 (some .boolean)) B.pre
  have hts : ∀ w ∈ lw_all, w.before _ s = true := fun w h => hts w (List.mem_cons_of_mem _ h)
  have hown : s.vm.findClass RX2 = some m.cls := findClass_of_methodNamed B.named
  have hlk := B.notSynchronized
  have hS : va_S kNO s.heap s.heap [] := va_S.rf
  have hB : ∀ q, kNO q → kBase D ≤ q := fun _ h => h.elim
  have hl := lv_entry ([.ref st, .int (kI ((ln : Nat) : Int))]) (n := 2) (Nat.le_of_ble_eq_true rfl)
  rw [lg_entry_eq]
  generalize (lg_sl ([.ref st, .int (kI ((ln : Nat) : Int))]) ++ List.replicate (2 - (lg_sl ([.ref st, .int (kI ((ln : Nat) : Int))])).length) Slot.unset).toArray = ls at hl ⊢
  have hl : lv_has ls 2 [(0, .ref st), (1, .int (kI ((ln : Nat) : Int)))] := hl
  refine lv_iload_n hx hb dX2_has_0 rfl (lv_at hl 1 rfl) ?_
  refine lv_aload_n hx hb dX2_has_1 rfl (lv_at hl 0 rfl) ?_
  refine kx_get (v := .ref la) (C := RX2) (T := TX2) (N := 2) hx hb hts in_X2 hown hK hO_st rfl 0 (by decide) q167 (fun _ h9 => h9) rfl dX2_has_2 ?_
  refine kx_cFi0 (va_runF (C := RJ2) (As := []) (rest := [.int (kI ((ln : Nat) : Int))]) (hK.at (ci := 9) rfl) ⟨hx, hb, hml, hown, hts⟩ (m_J2_size l D s.heap la mc ea n hO_la ) (va_cwF (x := ({ cls := "java/util/List", name := "size", desc := "()I" } : Jvm.MethodName)) 0 hts (lw_F q279 q283 q285 q83 q287) rfl rfl rfl (hK.fw (by decide)) (by decide +kernel) ⟨Nat.le_of_ble_eq_true rfl, Nat.le_of_ble_eq_true rfl⟩) (kx_pv hK hS hB (kx_rc hK hO_la (C := RJ2) (T := TJ2) (N := 3) rfl)) rfl rfl hl.1 rfl (lv_room (Nat.le_of_ble_eq_true rfl)) dX2_has_5 ⟨by first | exact Nat.le_of_ble_eq_true rfl | omega | (show _ ≤ _; omega) | (dsimp only [headSpec]; omega), by first | exact Nat.le_of_ble_eq_true rfl | omega | (show _ ≤ _; omega) | (dsimp only [headSpec]; omega)⟩) hS (fun z_4 locs_1 hz_3 hS_2 => ?_)
  subst z_4
  refine kx_icmp_ge (x := ((ln : Nat) : Int)) (y := ((n : Nat) : Int)) (tgt := 17) hx hb dX2_has_10 (by decide) (by omega) (by omega) (by omega) (by omega) (fun c_10_5 => ?_) (fun c_10_5 => ?_)
  · -- taken at 10
    refine kx_iconst hx hb dX2_has_17 ?_
    exact kx_zret (z := false) hx hb hr hlk (⟨rfl, by first | rfl | exact (decide_eq_true (by omega)).symm | exact (decide_eq_false (by omega)).symm | grind⟩) hS_2 dX2_has_18
  · -- not taken at 10
    refine kx_iconst hx hb dX2_has_13 ?_
    refine lv_goto (tgt := 18) hx hb dX2_has_14 (by decide) ?_
    exact kx_zret (z := true) hx hb hr hlk (⟨rfl, by first | rfl | exact (decide_eq_true (by omega)).symm | exact (decide_eq_false (by omega)).symm | grind⟩) hS_2 dX2_has_18

set_option maxHeartbeats 4000000 in
set_option maxRecDepth 100000 in
theorem m_X2_lineAt (l : Launch) (D : kG) (H : Heap) (st : Nat) (la : Nat) (mc : Int) (ea : Nat) (F : Fts) (S : Ls) (gap : Int) (x : Int) (hO_st : kO D H st 1 [.ref la, .int (kI (gap))]) (hO_la : kO D H la 9 [.int (kI (mc)), .ref ea, .int (kI ((S.length : Nat) : Int))]) (hP_kLs_ea : kLs D H ea S.length F) (hP_kLn_F : kLn D H F S) (hok : LsOK S gap) (hr_x : -2147483648 ≤ x ∧ x ≤ 2147483647) : Met l yX2_lineAt (ws_ yX2_lineAt cX2_lineAt 3 (some .int)) ({ frames := 3, cells := 0, slots := 0, locals := 64 } : Room) (kPre D H [.ref st, .int (kI (x))]) (kQi (fun (r : Int) H' => H' = H ∧ r = st_owner S x) kNO) (0) (0) (kNO) := by
  refine Met.ofW (cc := cX2_lineAt) (maxL := 3) (ret := (some .int)) (by decide) rfl ?_
  intro p e s m args below meth c s₁ B hml hv
  obtain ⟨rfl, hH, hK⟩ := hv
  subst hH
  have hx := B.exec
  have hb := B.bytes
  have hr := B.returns
  have hts := atoms_spec (ws := ws_ yX2_lineAt cX2_lineAt 3 (some .int)) B.pre
  have hts : ∀ w ∈ lw_all, w.before _ s = true := fun w h => hts w (List.mem_cons_of_mem _ h)
  have hown : s.vm.findClass RX2 = some m.cls := findClass_of_methodNamed B.named
  have hlk := B.notSynchronized
  have hS : va_S kNO s.heap s.heap [] := va_S.rf
  have hB : ∀ q, kNO q → kBase D ≤ q := fun _ h => h.elim
  have hl := lv_entry ([.ref st, .int (kI (x))]) (n := 3) (Nat.le_of_ble_eq_true rfl)
  rw [lg_entry_eq]
  generalize (lg_sl ([.ref st, .int (kI (x))]) ++ List.replicate (3 - (lg_sl ([.ref st, .int (kI (x))])).length) Slot.unset).toArray = ls at hl ⊢
  have hl : lv_has ls 3 [(0, .ref st), (1, .int (kI (x)))] := hl
  have hL8 := hok.1
  refine kx_iconst hx hb dX2_lineAt_0 ?_
  refine lv_istore_n (lv' := [(2, .int (kI (0))), (0, .ref st), (1, .int (kI (x)))]) hx hb dX2_lineAt_1 rfl hl (by decide) rfl (fun ls hl => ?_)
  have lp_2_x_1 : ∀ (n_2 : Nat) (k : Nat) (hk : k ≤ S.length) (hno : ∀ j, j < k → ln_has (st_ln S j) x = false) (locs : List Loc) (hS : va_S kNO s.heap s.heap locs) (hm_2 : S.length - k < n_2) (ls : Array Slot), lv_has ls 3 [(0, .ref st), (1, .int (kI (x))), (2, .int (kI ((k : Nat) : Int)))] → W p l e (headSpec (ws_ yX2_lineAt cX2_lineAt 3 (some .int)) ({ frames := 3, cells := 0, slots := 0, locals := 64 } : Room)).room s m ([.ref st, .int (kI (x))] : List Value).toArray below meth c s.heap locs (0) (0) (MQ below (kQi (fun (r : Int) H' => H' = s.heap ∧ r = st_owner S x) kNO) ([.ref st, .int (kI (x))] : List Value).toArray s (0) (0) (kNO)) (F0 m 2 ls []) := by
    intro n_2
    induction n_2 with
    | zero => intro k hk hno locs hS hm_2; exact absurd hm_2 (Nat.not_lt_zero _)
    | succ n_2 ih_2 =>
      intro k hk hno locs hS hm_2 ls hl
      refine lv_iload_n hx hb dX2_lineAt_2 rfl (lv_at hl 2 rfl) ?_
      refine lv_aload_n hx hb dX2_lineAt_3 rfl (lv_at hl 0 rfl) ?_
      refine kx_get (v := .ref la) (C := RX2) (T := TX2) (N := 2) hx hb hts in_X2 hown hK hO_st rfl 0 (by decide) q167 (fun _ h9 => h9) rfl dX2_lineAt_4 ?_
      refine kx_cFi0 (va_runF (C := RJ2) (As := []) (rest := [.int (kI ((k : Nat) : Int))]) (hK.at (ci := 9) rfl) ⟨hx, hb, hml, hown, hts⟩ (m_J2_size l D s.heap la mc ea S.length hO_la ) (va_cwF (x := ({ cls := "java/util/List", name := "size", desc := "()I" } : Jvm.MethodName)) 0 hts (lw_F q279 q283 q285 q83 q287) rfl rfl rfl (hK.fw (by decide)) (by decide +kernel) ⟨Nat.le_of_ble_eq_true rfl, Nat.le_of_ble_eq_true rfl⟩) (kx_pv hK hS hB (kx_rc hK hO_la (C := RJ2) (T := TJ2) (N := 3) rfl)) rfl rfl hl.1 rfl (lv_room (Nat.le_of_ble_eq_true rfl)) dX2_lineAt_7 ⟨by first | exact Nat.le_of_ble_eq_true rfl | omega | (show _ ≤ _; omega) | (dsimp only [headSpec]; omega), by first | exact Nat.le_of_ble_eq_true rfl | omega | (show _ ≤ _; omega) | (dsimp only [headSpec]; omega)⟩) hS (fun z_5 locs_2 hz_4 hS_3 => ?_)
      subst z_5
      refine kx_icmp_ge (x := ((k : Nat) : Int)) (y := ((S.length : Nat) : Int)) (tgt := 43) hx hb dX2_lineAt_12 (by decide) (by omega) (by omega) (by omega) (by omega) (fun c_12_6 => ?_) (fun c_12_6 => ?_)
      · -- taken at 12
        refine kx_iconst hx hb dX2_lineAt_43 ?_
        exact kx_iret (z := (-1)) hx hb hr hlk (⟨rfl, by first | (unfold st_owner; exact (firstIdx_no _ _ (fun j _ hj => hno j (by omega))).symm) | (unfold st_owner; exact (firstIdx_first (P := fun k => ln_has (st_ln S k) x) (by omega) c32 hno).symm)⟩) hS_3 dX2_lineAt_44
      · -- not taken at 12
        refine lv_aload_n hx hb dX2_lineAt_15 rfl (lv_at hl 0 rfl) ?_
        refine kx_get (v := .ref la) (C := RX2) (T := TX2) (N := 2) hx hb hts in_X2 hown hK hO_st rfl 0 (by decide) q167 (fun _ h9 => h9) rfl dX2_lineAt_16 ?_
        refine lv_iload_n hx hb dX2_lineAt_19 rfl (lv_at hl 2 rfl) ?_
        refine kx_cFr0 (va_runF (C := RJ2) (As := [.int (kI ((k : Nat) : Int))]) (rest := []) (hK.at (ci := 9) rfl) ⟨hx, hb, hml, hown, hts⟩ (m_get l D s.heap la mc ea S.length F k hO_la hP_kLs_ea (by first | assumption | omega)) (va_cwF (x := ({ cls := "java/util/List", name := "get", desc := "(I)Ljava/lang/Object;" } : Jvm.MethodName)) 1 hts (lw_F q289 q292 q294 q83 q296) rfl rfl rfl (hK.fw (by decide)) (by decide +kernel) ⟨Nat.le_of_ble_eq_true rfl, Nat.le_of_ble_eq_true rfl⟩) (kx_pv hK hS_3 hB (kx_rc hK hO_la (C := RJ2) (T := TJ2) (N := 3) rfl)) rfl rfl hl.1 rfl (lv_room (Nat.le_of_ble_eq_true rfl)) dX2_lineAt_20 ⟨by first | exact Nat.le_of_ble_eq_true rfl | omega | (show _ ≤ _; omega) | (dsimp only [headSpec]; omega), by first | exact Nat.le_of_ble_eq_true rfl | omega | (show _ ≤ _; omega) | (dsimp only [headSpec]; omega)⟩) hS_3 (fun z_10 locs_7 hz_9 hS_8 => ?_)
        subst z_10
        obtain ⟨ea_11, gp_11, gs_11, ho_11, hp_11, hs_11, he_11, hm_11⟩ := (hP_kLn_F k (by omega))
        refine kx_castS hx hb hts hown q307 hK ho_11 rfl dX2_lineAt_25 ?_
        refine lv_iload_n hx hb dX2_lineAt_28 rfl (lv_at hl 1 rfl) ?_
        refine kx_cb0 (va_runV (As := [.int (kI (x))]) (rest := []) ⟨hx, hb, hml, hown, hts⟩ (m_X4_has l D s.heap (fA F k) (fP F k) (fS F k) ea_11 gp_11 gs_11 ((st_ln S k)) x ho_11 hp_11 hs_11 (by first | assumption | omega) ((hok.ln (by omega : k < S.length))) (by first | assumption | omega)) (cwV 1 hts (lw_V q1659 q1660 q1661 q99 q1662) rfl rfl rfl (by decide +kernel) ⟨Nat.le_of_ble_eq_true rfl, Nat.le_of_ble_eq_true rfl⟩) (kx_pv hK hS_8 hB (kx_rc hK ho_11 (C := RX4) (T := TX4) (N := 6) rfl)) rfl rfl hl.1 rfl (lv_room (Nat.le_of_ble_eq_true rfl)) dX2_lineAt_29 ⟨by first | exact Nat.le_of_ble_eq_true rfl | omega | (show _ ≤ _; omega) | (dsimp only [headSpec]; omega), by first | exact Nat.le_of_ble_eq_true rfl | omega | (show _ ≤ _; omega) | (dsimp only [headSpec]; omega)⟩) hS_8 (fun z_15 locs_12 hz_14 hS_13 => ?_)
        subst z_15
        refine kx_ifz (tgt := 37) hx hb dX2_lineAt_32 (by decide) (fun c32 => ?_) (fun c32 => ?_)
        · -- taken at 32
          refine lv_iinc (v := kI (((k + 1 : Nat) : Int))) (lv' := [(2, .int (kI ((k + 1 : Nat) : Int))), (0, .ref st), (1, .int (kI (x)))]) hx hb dX2_lineAt_37 hl (k := 2) rfl (kI_incN _ _) (by decide) rfl (fun ls hl => ?_)
          refine lv_goto (tgt := 2) hx hb dX2_lineAt_40 (by decide) ?_
          exact ih_2  (k + 1) (by first | assumption | omega | (simp_all; done) | grind) (fun j hj => by by_cases e9 : j = k; (rw [e9]; simpa using c32); exact hno j (by omega)) _ hS_13 (by omega) ls (lv_sub hl [1, 2, 0] rfl)
        · -- not taken at 32
          refine lv_iload_n hx hb dX2_lineAt_35 rfl (lv_at hl 2 rfl) ?_
          exact kx_iret (z := ((k : Nat) : Int)) hx hb hr hlk (⟨rfl, by first | (unfold st_owner; exact (firstIdx_no _ _ (fun j _ hj => hno j (by omega))).symm) | (unfold st_owner; exact (firstIdx_first (P := fun k => ln_has (st_ln S k) x) (by omega) c32 hno).symm)⟩) hS_13 dX2_lineAt_36
  exact lp_2_x_1 (S.length - 0 + 1) 0 (by first | assumption | omega | (simp_all; done) | grind) (fun j hj => absurd hj (Nat.not_lt_zero j)) _ hS (Nat.lt_succ_self _) ls (lv_sub hl [1, 2, 0] rfl)

set_option maxHeartbeats 4000000 in
set_option maxRecDepth 100000 in
theorem m_isClosed_o (l : Launch) (D : kG) (H : Heap) (a : Nat) (pa : Nat) (sa : Nat) (ea : Nat) (L : Ln) (hO_a : kO D H a 3 [.int (kI (ln_lv L)), .ref pa, .ref sa, .int (kI ((ln_n L : Nat) : Int)), .ref ea, .int (kI (ln_lb L))]) (hO_ea : kO D H ea 4 []) : Met l yX4_isClosed (ws_ yX4_isClosed cX4_isClosed 1 (some .boolean)) ({ frames := 0, cells := 0, slots := 0, locals := 0 } : Room) (kPre D H [.ref a]) (kQb (fun (r : Bool) H' => H' = H ∧ r = false) kNO) (0) (0) (kNO) := by
  refine Met.ofW (cc := cX4_isClosed) (maxL := 1) (ret := (some .boolean)) (by decide) rfl ?_
  intro p e s m args below meth c s₁ B hml hv
  obtain ⟨rfl, hH, hK⟩ := hv
  subst hH
  have hx := B.exec
  have hb := B.bytes
  have hr := B.returns
  have hts := atoms_spec (ws := ws_ yX4_isClosed cX4_isClosed 1 (some .boolean)) B.pre
  have hts : ∀ w ∈ lw_all, w.before _ s = true := fun w h => hts w (List.mem_cons_of_mem _ h)
  have hown : s.vm.findClass RX4 = some m.cls := findClass_of_methodNamed B.named
  have hlk := B.notSynchronized
  have hS : va_S kNO s.heap s.heap [] := va_S.rf
  have hB : ∀ q, kNO q → kBase D ≤ q := fun _ h => h.elim
  have hl := lv_entry ([.ref a]) (n := 1) (Nat.le_of_ble_eq_true rfl)
  rw [lg_entry_eq]
  generalize (lg_sl ([.ref a]) ++ List.replicate (1 - (lg_sl ([.ref a])).length) Slot.unset).toArray = ls at hl ⊢
  have hl : lv_has ls 1 [(0, .ref a)] := hl
  refine lv_aload_n hx hb dX4_isClosed_0 rfl (lv_at hl 0 rfl) ?_
  refine kx_get (v := .ref ea) (C := RX4) (T := TX4) (N := 6) hx hb hts in_X4 hown hK hO_a rfl 4 (by decide) q347 (fun _ h9 => h9) rfl dX4_isClosed_1 ?_
  refine kx_instNo hx hb hts hown q1699 hK hO_ea rfl (hK.nc (by decide)) dX4_isClosed_4 ?_
  exact kx_zret (z := false) hx hb hr hlk (⟨rfl, by rfl⟩) hS dX4_isClosed_7

set_option maxHeartbeats 4000000 in
set_option maxRecDepth 100000 in
theorem m_isClosed_c (l : Launch) (D : kG) (H : Heap) (a : Nat) (pa : Nat) (sa : Nat) (ea : Nat) (L : Ln) (hO_a : kO D H a 3 [.int (kI (ln_lv L)), .ref pa, .ref sa, .int (kI ((ln_n L : Nat) : Int)), .ref ea, .int (kI (ln_lb L))]) (hO_ea : kO D H ea 5 []) : Met l yX4_isClosed (ws_ yX4_isClosed cX4_isClosed 1 (some .boolean)) ({ frames := 0, cells := 0, slots := 0, locals := 0 } : Room) (kPre D H [.ref a]) (kQb (fun (r : Bool) H' => H' = H ∧ r = true) kNO) (0) (0) (kNO) := by
  refine Met.ofW (cc := cX4_isClosed) (maxL := 1) (ret := (some .boolean)) (by decide) rfl ?_
  intro p e s m args below meth c s₁ B hml hv
  obtain ⟨rfl, hH, hK⟩ := hv
  subst hH
  have hx := B.exec
  have hb := B.bytes
  have hr := B.returns
  have hts := atoms_spec (ws := ws_ yX4_isClosed cX4_isClosed 1 (some .boolean)) B.pre
  have hts : ∀ w ∈ lw_all, w.before _ s = true := fun w h => hts w (List.mem_cons_of_mem _ h)
  have hown : s.vm.findClass RX4 = some m.cls := findClass_of_methodNamed B.named
  have hlk := B.notSynchronized
  have hS : va_S kNO s.heap s.heap [] := va_S.rf
  have hB : ∀ q, kNO q → kBase D ≤ q := fun _ h => h.elim
  have hl := lv_entry ([.ref a]) (n := 1) (Nat.le_of_ble_eq_true rfl)
  rw [lg_entry_eq]
  generalize (lg_sl ([.ref a]) ++ List.replicate (1 - (lg_sl ([.ref a])).length) Slot.unset).toArray = ls at hl ⊢
  have hl : lv_has ls 1 [(0, .ref a)] := hl
  refine lv_aload_n hx hb dX4_isClosed_0 rfl (lv_at hl 0 rfl) ?_
  refine kx_get (v := .ref ea) (C := RX4) (T := TX4) (N := 6) hx hb hts in_X4 hown hK hO_a rfl 4 (by decide) q347 (fun _ h9 => h9) rfl dX4_isClosed_1 ?_
  refine kx_instS hx hb hts hown q1699 hK hO_ea rfl dX4_isClosed_4 ?_
  exact kx_zret (z := true) hx hb hr hlk (⟨rfl, by rfl⟩) hS dX4_isClosed_7

set_option maxHeartbeats 4000000 in
set_option maxRecDepth 100000 in
theorem m_X2_crosses (l : Launch) (D : kG) (H : Heap) (st : Nat) (la : Nat) (mc : Int) (ea : Nat) (F : Fts) (S : Ls) (gap : Int) (x : Int) (d : Int) (hO_st : kO D H st 1 [.ref la, .int (kI (gap))]) (hO_la : kO D H la 9 [.int (kI (mc)), .ref ea, .int (kI ((S.length : Nat) : Int))]) (hP_kLs_ea : kLs D H ea S.length F) (hP_kLn_F : kLn D H F S) (hok : LsOK S gap) (hpt : 0 ≤ x ∧ x ≤ 383) (hd : 0 ≤ d ∧ d ≤ 7) : Met l yX2_crosses (ws_ yX2_crosses cX2_crosses 7 (some .boolean)) ({ frames := 3, cells := 0, slots := 0, locals := 64 } : Room) (kPre D H [.ref st, .int (kI (x)), .int (kI (d))]) (kQb (fun (r : Bool) H' => H' = H ∧ r = (decide (d % 2 = 1) && st_step S (x + ac d) (x + 24 * dn d))) kNO) (0) (0) (kNO) := by
  refine Met.ofW (cc := cX2_crosses) (maxL := 7) (ret := (some .boolean)) (by decide) rfl ?_
  intro p e s m args below meth c s₁ B hml hv
  obtain ⟨rfl, hH, hK⟩ := hv
  subst hH
  have hx := B.exec
  have hb := B.bytes
  have hr := B.returns
  have hts := atoms_spec (ws := ws_ yX2_crosses cX2_crosses 7 (some .boolean)) B.pre
  have hts : ∀ w ∈ lw_all, w.before _ s = true := fun w h => hts w (List.mem_cons_of_mem _ h)
  have hown : s.vm.findClass RX2 = some m.cls := findClass_of_methodNamed B.named
  have hlk := B.notSynchronized
  have hS : va_S kNO s.heap s.heap [] := va_S.rf
  have hB : ∀ q, kNO q → kBase D ≤ q := fun _ h => h.elim
  have hl := lv_entry ([.ref st, .int (kI (x)), .int (kI (d))]) (n := 7) (Nat.le_of_ble_eq_true rfl)
  rw [lg_entry_eq]
  generalize (lg_sl ([.ref st, .int (kI (x)), .int (kI (d))]) ++ List.replicate (7 - (lg_sl ([.ref st, .int (kI (x)), .int (kI (d))])).length) Slot.unset).toArray = ls at hl ⊢
  have hl : lv_has ls 7 [(0, .ref st), (1, .int (kI (x))), (2, .int (kI (d)))] := hl
  have hL8 := hok.1
  have hac := ac_rng d
  have hdn := dn_rng d
  refine lv_iload_n hx hb dX2_crosses_0 rfl (lv_at hl 1 rfl) ?_
  refine kx_getsN (v := .ref (D.2.2.2 0)) hx hb hK.sA hS hB hown (hK.w q1718 rfl) (fun _ h9 => h9) dX2_crosses_1 ?_
  refine lv_iload_n hx hb dX2_crosses_4 rfl (lv_at hl 2 rfl) ?_
  refine kx_tab hx hb hK.tA hS hB d.toNat (by omega) (by omega) (by decide) dX2_crosses_5 ?_
  refine kx_iadd hx hb dX2_crosses_6 ?_
  refine lv_istore_n (lv' := [(3, .int (kI ((x + (ac d))))), (0, .ref st), (1, .int (kI (x))), (2, .int (kI (d)))]) hx hb dX2_crosses_7 rfl hl (by decide) rfl (fun ls hl => ?_)
  refine lv_iload_n hx hb dX2_crosses_8 rfl (lv_at hl 2 rfl) ?_
  refine kx_bipush hx hb (by decide) dX2_crosses_9 ?_
  refine kx_getsN (v := .ref (D.2.2.2 1)) hx hb hK.sD hS hB hown (hK.w q1719 rfl) (fun _ h9 => h9) dX2_crosses_11 ?_
  refine lv_iload_n hx hb dX2_crosses_14 rfl (lv_at hl 3 rfl) ?_
  refine kx_tab hx hb hK.tD hS hB d.toNat (by omega) (by omega) (by decide) dX2_crosses_15 ?_
  refine kx_imul hx hb dX2_crosses_16 ?_
  refine kx_iadd hx hb dX2_crosses_17 ?_
  refine lv_istore (lv' := [(4, .int (kI ((x + (24 * (dn d)))))), (3, .int (kI ((x + (ac d))))), (0, .ref st), (1, .int (kI (x))), (2, .int (kI (d)))]) hx hb dX2_crosses_18 hl (by decide) rfl (fun ls hl => ?_)
  refine kx_iconst hx hb dX2_crosses_20 ?_
  refine lv_istore (lv' := [(5, .int (kI (0))), (4, .int (kI ((x + (24 * (dn d)))))), (3, .int (kI ((x + (ac d))))), (0, .ref st), (1, .int (kI (x))), (2, .int (kI (d)))]) hx hb dX2_crosses_21 hl (by decide) rfl (fun ls hl => ?_)
  refine kx_iconst hx hb dX2_crosses_23 ?_
  refine lv_istore (lv' := [(6, .int (kI (0))), (5, .int (kI (0))), (4, .int (kI ((x + (24 * (dn d)))))), (3, .int (kI ((x + (ac d))))), (0, .ref st), (1, .int (kI (x))), (2, .int (kI (d)))]) hx hb dX2_crosses_24 hl (by decide) rfl (fun ls hl => ?_)
  have lp_26_x_1 : ∀ (n_26 : Nat) (k : Nat) (b : Bool) (hk : k ≤ S.length) (hbb : b = (decide (d % 2 = 1) && st_stepTo S (x + ac d) (x + 24 * dn d) k)) (locs : List Loc) (hS : va_S kNO s.heap s.heap locs) (hm_26 : S.length - k < n_26) (ls : Array Slot), lv_has ls 7 [(0, .ref st), (1, .int (kI (x))), (2, .int (kI (d))), (3, .int (kI ((x + ac d)))), (4, .int (kI ((x + 24 * dn d)))), (5, .int (kI (kb (b)))), (6, .int (kI ((k : Nat) : Int)))] → W p l e (headSpec (ws_ yX2_crosses cX2_crosses 7 (some .boolean)) ({ frames := 3, cells := 0, slots := 0, locals := 64 } : Room)).room s m ([.ref st, .int (kI (x)), .int (kI (d))] : List Value).toArray below meth c s.heap locs (0) (0) (MQ below (kQb (fun (r : Bool) H' => H' = s.heap ∧ r = (decide (d % 2 = 1) && st_step S (x + ac d) (x + 24 * dn d))) kNO) ([.ref st, .int (kI (x)), .int (kI (d))] : List Value).toArray s (0) (0) (kNO)) (F0 m 26 ls []) := by
    intro n_26
    induction n_26 with
    | zero => intro k b hk hbb locs hS hm_26; exact absurd hm_26 (Nat.not_lt_zero _)
    | succ n_26 ih_26 =>
      intro k b hk hbb locs hS hm_26 ls hl
      refine lv_iload hx hb dX2_crosses_26 (lv_at hl 6 rfl) ?_
      refine lv_aload_n hx hb dX2_crosses_28 rfl (lv_at hl 0 rfl) ?_
      refine kx_get (v := .ref la) (C := RX2) (T := TX2) (N := 2) hx hb hts in_X2 hown hK hO_st rfl 0 (by decide) q167 (fun _ h9 => h9) rfl dX2_crosses_29 ?_
      refine kx_cFi0 (va_runF (C := RJ2) (As := []) (rest := [.int (kI ((k : Nat) : Int))]) (hK.at (ci := 9) rfl) ⟨hx, hb, hml, hown, hts⟩ (m_J2_size l D s.heap la mc ea S.length hO_la ) (va_cwF (x := ({ cls := "java/util/List", name := "size", desc := "()I" } : Jvm.MethodName)) 0 hts (lw_F q279 q283 q285 q83 q287) rfl rfl rfl (hK.fw (by decide)) (by decide +kernel) ⟨Nat.le_of_ble_eq_true rfl, Nat.le_of_ble_eq_true rfl⟩) (kx_pv hK hS hB (kx_rc hK hO_la (C := RJ2) (T := TJ2) (N := 3) rfl)) rfl rfl hl.1 rfl (lv_room (Nat.le_of_ble_eq_true rfl)) dX2_crosses_32 ⟨by first | exact Nat.le_of_ble_eq_true rfl | omega | (show _ ≤ _; omega) | (dsimp only [headSpec]; omega), by first | exact Nat.le_of_ble_eq_true rfl | omega | (show _ ≤ _; omega) | (dsimp only [headSpec]; omega)⟩) hS (fun z_5 locs_2 hz_4 hS_3 => ?_)
      subst z_5
      refine kx_icmp_ge (x := ((k : Nat) : Int)) (y := ((S.length : Nat) : Int)) (tgt := 78) hx hb dX2_crosses_37 (by decide) (by omega) (by omega) (by omega) (by omega) (fun c_37_6 => ?_) (fun c_37_6 => ?_)
      · -- taken at 37
        refine lv_iload hx hb dX2_crosses_78 (lv_at hl 5 rfl) ?_
        exact kx_zret (z := b) hx hb hr hlk (⟨rfl, by rw [hbb]; first | (rw [show k = S.length by omega]; rfl) | simp_all⟩) hS_3 dX2_crosses_80
      · -- not taken at 37
        refine lv_iload_n hx hb dX2_crosses_40 rfl (lv_at hl 2 rfl) ?_
        refine kx_cb0 (va_runSN (As := [.int (kI (d))]) (rest := []) ⟨hx, hb, hml, hown, hts⟩ (m_X1_isSlanting l D s.heap d  (by first | assumption | omega)) ⟨va_cnB 1 hts (lw_meth q1722) rfl rfl rfl (hK.w q1720 rfl) (hts _ q79) (by decide +kernel) ⟨Nat.le_of_ble_eq_true rfl, Nat.le_of_ble_eq_true rfl⟩, hts _ q1721, trivial⟩ (kx_ps hK hS_3 hB) rfl rfl hl.1 rfl (lv_room (Nat.le_of_ble_eq_true rfl)) dX2_crosses_41 ⟨by first | exact Nat.le_of_ble_eq_true rfl | omega | (show _ ≤ _; omega) | (dsimp only [headSpec]; omega), by first | exact Nat.le_of_ble_eq_true rfl | omega | (show _ ≤ _; omega) | (dsimp only [headSpec]; omega)⟩) hS_3 (fun z_10 locs_7 hz_9 hS_8 => ?_)
        subst z_10
        refine kx_ifz (tgt := 78) hx hb dX2_crosses_44 (by decide) (fun c44 => ?_) (fun c44 => ?_)
        · -- taken at 44
          have c44 := of_decide_eq_false c44
          refine lv_iload hx hb dX2_crosses_78 (lv_at hl 5 rfl) ?_
          exact kx_zret (z := b) hx hb hr hlk (⟨rfl, by rw [hbb]; first | (rw [show k = S.length by omega]; rfl) | simp_all⟩) hS_8 dX2_crosses_80
        · -- not taken at 44
          have c44 := of_decide_eq_true c44
          refine lv_iload hx hb dX2_crosses_47 (lv_at hl 5 rfl) ?_
          refine lv_aload_n hx hb dX2_crosses_49 rfl (lv_at hl 0 rfl) ?_
          refine kx_get (v := .ref la) (C := RX2) (T := TX2) (N := 2) hx hb hts in_X2 hown hK hO_st rfl 0 (by decide) q167 (fun _ h9 => h9) rfl dX2_crosses_50 ?_
          refine lv_iload hx hb dX2_crosses_53 (lv_at hl 6 rfl) ?_
          refine kx_cFr0 (va_runF (C := RJ2) (As := [.int (kI ((k : Nat) : Int))]) (rest := [.int (kI (kb (b)))]) (hK.at (ci := 9) rfl) ⟨hx, hb, hml, hown, hts⟩ (m_get l D s.heap la mc ea S.length F k hO_la hP_kLs_ea (by first | assumption | omega)) (va_cwF (x := ({ cls := "java/util/List", name := "get", desc := "(I)Ljava/lang/Object;" } : Jvm.MethodName)) 1 hts (lw_F q289 q292 q294 q83 q296) rfl rfl rfl (hK.fw (by decide)) (by decide +kernel) ⟨Nat.le_of_ble_eq_true rfl, Nat.le_of_ble_eq_true rfl⟩) (kx_pv hK hS_8 hB (kx_rc hK hO_la (C := RJ2) (T := TJ2) (N := 3) rfl)) rfl rfl hl.1 rfl (lv_room (Nat.le_of_ble_eq_true rfl)) dX2_crosses_55 ⟨by first | exact Nat.le_of_ble_eq_true rfl | omega | (show _ ≤ _; omega) | (dsimp only [headSpec]; omega), by first | exact Nat.le_of_ble_eq_true rfl | omega | (show _ ≤ _; omega) | (dsimp only [headSpec]; omega)⟩) hS_8 (fun z_14 locs_11 hz_13 hS_12 => ?_)
          subst z_14
          obtain ⟨ea_15, gp_15, gs_15, ho_15, hp_15, hs_15, he_15, hm_15⟩ := (hP_kLn_F k (by omega))
          refine kx_castS hx hb hts hown q307 hK ho_15 rfl dX2_crosses_60 ?_
          refine lv_iload_n hx hb dX2_crosses_63 rfl (lv_at hl 3 rfl) ?_
          refine lv_iload hx hb dX2_crosses_64 (lv_at hl 4 rfl) ?_
          refine kx_cb0 (va_runV (As := [.int (kI ((x + ac d))), .int (kI ((x + 24 * dn d)))]) (rest := [.int (kI (kb (b)))]) ⟨hx, hb, hml, hown, hts⟩ (m_X4_hasStep l D s.heap (fA F k) (fP F k) (fS F k) ea_15 gp_15 gs_15 ((st_ln S k)) ((x + ac d)) ((x + 24 * dn d)) ho_15 hp_15 hs_15 (by first | assumption | omega) ((hok.ln (by omega : k < S.length))) (by first | assumption | omega) (by first | assumption | omega)) (cwV 2 hts (lw_V q1723 q1724 q1725 q99 q1726) rfl rfl rfl (by decide +kernel) ⟨Nat.le_of_ble_eq_true rfl, Nat.le_of_ble_eq_true rfl⟩) (kx_pv hK hS_12 hB (kx_rc hK ho_15 (C := RX4) (T := TX4) (N := 6) rfl)) rfl rfl hl.1 rfl (lv_room (Nat.le_of_ble_eq_true rfl)) dX2_crosses_66 ⟨by first | exact Nat.le_of_ble_eq_true rfl | omega | (show _ ≤ _; omega) | (dsimp only [headSpec]; omega), by first | exact Nat.le_of_ble_eq_true rfl | omega | (show _ ≤ _; omega) | (dsimp only [headSpec]; omega)⟩) hS_12 (fun z_19 locs_16 hz_18 hS_17 => ?_)
          subst z_19
          refine kx_iorb (x := b) (y := ln_step (st_ln S k) (x + ac d) (x + 24 * dn d)) hx hb dX2_crosses_69 ?_
          refine lv_istore (lv' := [(5, .int (kI (kb ((b || ln_step (st_ln S k) (x + ac d) (x + 24 * dn d)))))), (0, .ref st), (1, .int (kI (x))), (2, .int (kI (d))), (3, .int (kI ((x + ac d)))), (4, .int (kI ((x + 24 * dn d)))), (6, .int (kI ((k : Nat) : Int)))]) hx hb dX2_crosses_70 hl (by decide) rfl (fun ls hl => ?_)
          refine lv_iinc (v := kI (((k + 1 : Nat) : Int))) (lv' := [(6, .int (kI ((k + 1 : Nat) : Int))), (5, .int (kI (kb ((b || ln_step (st_ln S k) (x + ac d) (x + 24 * dn d)))))), (0, .ref st), (1, .int (kI (x))), (2, .int (kI (d))), (3, .int (kI ((x + ac d)))), (4, .int (kI ((x + 24 * dn d))))]) hx hb dX2_crosses_72 hl (k := 6) rfl (kI_incN _ _) (by decide) rfl (fun ls hl => ?_)
          refine lv_goto (tgt := 26) hx hb dX2_crosses_75 (by decide) ?_
          exact ih_26  (k + 1) ((b || ln_step (st_ln S k) (x + ac d) (x + 24 * dn d))) (by first | assumption | omega | (simp_all; done) | grind) (by rw [hbb, st_stepTo]; simp_all) _ hS_17 (by omega) ls (lv_sub hl [2, 3, 4, 5, 6, 1, 0] rfl)
  exact lp_26_x_1 (S.length - 0 + 1) 0 false (by first | assumption | omega | (simp_all; done) | grind) (by simp [st_stepTo]) _ hS (Nat.lt_succ_self _) ls (lv_sub hl [4, 5, 6, 3, 2, 1, 0] rfl)

set_option maxHeartbeats 4000000 in
set_option maxRecDepth 100000 in
theorem m_X2_far (l : Launch) (D : kG) (H : Heap) (st : Nat) (la : Nat) (mc : Int) (ea : Nat) (F : Fts) (S : Ls) (gap : Int) (ln : Nat) (pl : Nat) (hO_st : kO D H st 1 [.ref la, .int (kI (gap))]) (hO_la : kO D H la 9 [.int (kI (mc)), .ref ea, .int (kI ((S.length : Nat) : Int))]) (hP_kLs_ea : kLs D H ea S.length F) (hP_kLn_F : kLn D H F S) (hok : LsOK S gap) (hln : ln < S.length) (hpl : pl + ln_size (st_ln S ln) - 1 ≤ ln_n (st_ln S ln)) : Met l yX2_far (ws_ yX2_far cX2_far 7 (some .int)) ({ frames := 3, cells := 0, slots := 0, locals := 69 } : Room) (kPre D H [.ref st, .int (kI ((ln : Nat) : Int)), .int (kI ((pl : Nat) : Int))]) (kQi (fun (r : Int) H' => H' = H ∧ r = st_free S ln pl) kNO) (0) (0) (kNO) := by
  refine Met.ofW (cc := cX2_far) (maxL := 7) (ret := (some .int)) (by decide) rfl ?_
  intro p e s m args below meth c s₁ B hml hv
  obtain ⟨rfl, hH, hK⟩ := hv
  subst hH
  have hx := B.exec
  have hb := B.bytes
  have hr := B.returns
  have hts := atoms_spec (ws := ws_ yX2_far cX2_far 7 (some .int)) B.pre
  have hts : ∀ w ∈ lw_all, w.before _ s = true := fun w h => hts w (List.mem_cons_of_mem _ h)
  have hown : s.vm.findClass RX2 = some m.cls := findClass_of_methodNamed B.named
  have hlk := B.notSynchronized
  have hS : va_S kNO s.heap s.heap [] := va_S.rf
  have hB : ∀ q, kNO q → kBase D ≤ q := fun _ h => h.elim
  have hl := lv_entry ([.ref st, .int (kI ((ln : Nat) : Int)), .int (kI ((pl : Nat) : Int))]) (n := 7) (Nat.le_of_ble_eq_true rfl)
  rw [lg_entry_eq]
  generalize (lg_sl ([.ref st, .int (kI ((ln : Nat) : Int)), .int (kI ((pl : Nat) : Int))]) ++ List.replicate (7 - (lg_sl ([.ref st, .int (kI ((ln : Nat) : Int)), .int (kI ((pl : Nat) : Int))])).length) Slot.unset).toArray = ls at hl ⊢
  have hl : lv_has ls 7 [(0, .ref st), (1, .int (kI ((ln : Nat) : Int))), (2, .int (kI ((pl : Nat) : Int)))] := hl
  have hL8 := hok.1
  have hLn9 := hok.ln hln
  have hszn9 := ln_size_23 (st_ln S ln)
  refine kx_bipush hx hb (by decide) dX2_far_0 ?_
  refine lv_istore_n (lv' := [(3, .int (kI (99))), (0, .ref st), (1, .int (kI ((ln : Nat) : Int))), (2, .int (kI ((pl : Nat) : Int)))]) hx hb dX2_far_2 rfl hl (by decide) rfl (fun ls hl => ?_)
  refine kx_iconst hx hb dX2_far_3 ?_
  refine lv_istore (lv' := [(4, .int (kI (0))), (3, .int (kI (99))), (0, .ref st), (1, .int (kI ((ln : Nat) : Int))), (2, .int (kI ((pl : Nat) : Int)))]) hx hb dX2_far_4 hl (by decide) rfl (fun ls hl => ?_)
  have lp_6_x_1 : ∀ (n_6 : Nat) (k : Nat) (sm : Int) (hk : k ≤ S.length) (hsm : sm = st_freeTo S ln pl k) (hsr : 0 ≤ sm ∧ sm ≤ 99) (locs : List Loc) (hS : va_S kNO s.heap s.heap locs) (hm_6 : S.length - k < n_6) (ls : Array Slot), lv_has ls 7 [(0, .ref st), (1, .int (kI ((ln : Nat) : Int))), (2, .int (kI ((pl : Nat) : Int))), (3, .int (kI (sm))), (4, .int (kI ((k : Nat) : Int)))] → W p l e (headSpec (ws_ yX2_far cX2_far 7 (some .int)) ({ frames := 3, cells := 0, slots := 0, locals := 69 } : Room)).room s m ([.ref st, .int (kI ((ln : Nat) : Int)), .int (kI ((pl : Nat) : Int))] : List Value).toArray below meth c s.heap locs (0) (0) (MQ below (kQi (fun (r : Int) H' => H' = s.heap ∧ r = st_free S ln pl) kNO) ([.ref st, .int (kI ((ln : Nat) : Int)), .int (kI ((pl : Nat) : Int))] : List Value).toArray s (0) (0) (kNO)) (F0 m 6 ls []) := by
    intro n_6
    induction n_6 with
    | zero => intro k sm hk hsm hsr locs hS hm_6; exact absurd hm_6 (Nat.not_lt_zero _)
    | succ n_6 ih_6 =>
      intro k sm hk hsm hsr locs hS hm_6 ls hl
      refine lv_iload hx hb dX2_far_6 (lv_at hl 4 rfl) ?_
      refine lv_aload_n hx hb dX2_far_8 rfl (lv_at hl 0 rfl) ?_
      refine kx_get (v := .ref la) (C := RX2) (T := TX2) (N := 2) hx hb hts in_X2 hown hK hO_st rfl 0 (by decide) q167 (fun _ h9 => h9) rfl dX2_far_9 ?_
      refine kx_cFi0 (va_runF (C := RJ2) (As := []) (rest := [.int (kI ((k : Nat) : Int))]) (hK.at (ci := 9) rfl) ⟨hx, hb, hml, hown, hts⟩ (m_J2_size l D s.heap la mc ea S.length hO_la ) (va_cwF (x := ({ cls := "java/util/List", name := "size", desc := "()I" } : Jvm.MethodName)) 0 hts (lw_F q279 q283 q285 q83 q287) rfl rfl rfl (hK.fw (by decide)) (by decide +kernel) ⟨Nat.le_of_ble_eq_true rfl, Nat.le_of_ble_eq_true rfl⟩) (kx_pv hK hS hB (kx_rc hK hO_la (C := RJ2) (T := TJ2) (N := 3) rfl)) rfl rfl hl.1 rfl (lv_room (Nat.le_of_ble_eq_true rfl)) dX2_far_12 ⟨by first | exact Nat.le_of_ble_eq_true rfl | omega | (show _ ≤ _; omega) | (dsimp only [headSpec]; omega), by first | exact Nat.le_of_ble_eq_true rfl | omega | (show _ ≤ _; omega) | (dsimp only [headSpec]; omega)⟩) hS (fun z_5 locs_2 hz_4 hS_3 => ?_)
      subst z_5
      refine kx_icmp_ge (x := ((k : Nat) : Int)) (y := ((S.length : Nat) : Int)) (tgt := 96) hx hb dX2_far_17 (by decide) (by omega) (by omega) (by omega) (by omega) (fun c_17_6 => ?_) (fun c_17_6 => ?_)
      · -- taken at 17
        refine lv_iload_n hx hb dX2_far_96 rfl (lv_at hl 3 rfl) ?_
        exact kx_iret (z := sm) hx hb hr hlk (⟨rfl, by rw [hsm, st_free, show k = S.length by omega]⟩) hS_3 dX2_far_97
      · -- not taken at 17
        refine lv_aload_n hx hb dX2_far_20 rfl (lv_at hl 0 rfl) ?_
        refine kx_get (v := .ref la) (C := RX2) (T := TX2) (N := 2) hx hb hts in_X2 hown hK hO_st rfl 0 (by decide) q167 (fun _ h9 => h9) rfl dX2_far_21 ?_
        refine lv_iload hx hb dX2_far_24 (lv_at hl 4 rfl) ?_
        refine kx_cFr0 (va_runF (C := RJ2) (As := [.int (kI ((k : Nat) : Int))]) (rest := []) (hK.at (ci := 9) rfl) ⟨hx, hb, hml, hown, hts⟩ (m_get l D s.heap la mc ea S.length F k hO_la hP_kLs_ea (by first | assumption | omega)) (va_cwF (x := ({ cls := "java/util/List", name := "get", desc := "(I)Ljava/lang/Object;" } : Jvm.MethodName)) 1 hts (lw_F q289 q292 q294 q83 q296) rfl rfl rfl (hK.fw (by decide)) (by decide +kernel) ⟨Nat.le_of_ble_eq_true rfl, Nat.le_of_ble_eq_true rfl⟩) (kx_pv hK hS_3 hB (kx_rc hK hO_la (C := RJ2) (T := TJ2) (N := 3) rfl)) rfl rfl hl.1 rfl (lv_room (Nat.le_of_ble_eq_true rfl)) dX2_far_26 ⟨by first | exact Nat.le_of_ble_eq_true rfl | omega | (show _ ≤ _; omega) | (dsimp only [headSpec]; omega), by first | exact Nat.le_of_ble_eq_true rfl | omega | (show _ ≤ _; omega) | (dsimp only [headSpec]; omega)⟩) hS_3 (fun z_10 locs_7 hz_9 hS_8 => ?_)
        subst z_10
        obtain ⟨ea_11, gp_11, gs_11, ho_11, hp_11, hs_11, he_11, hm_11⟩ := (hP_kLn_F k (by omega))
        have hLk9 := hok.ln (by omega : k < S.length)
        have hlbk9 := hLk9.lb
        have hlbr9 := hLk9.lbr
        have hszk9 := ln_size_23 (st_ln S k)
        refine kx_castS hx hb hts hown q307 hK ho_11 rfl dX2_far_31 ?_
        refine lv_astore (lv' := [(5, .ref (fA F k)), (0, .ref st), (1, .int (kI ((ln : Nat) : Int))), (2, .int (kI ((pl : Nat) : Int))), (3, .int (kI (sm))), (4, .int (kI ((k : Nat) : Int)))]) hx hb dX2_far_34 hl (by decide) rfl (fun ls hl => ?_)
        refine lv_iload hx hb dX2_far_36 (lv_at hl 5 rfl) ?_
        refine lv_iload_n hx hb dX2_far_38 rfl (lv_at hl 2 rfl) ?_
        refine kx_icmp_eq (x := ((k : Nat) : Int)) (y := ((ln : Nat) : Int)) (tgt := 51) hx hb dX2_far_39 (by decide) (by omega) (by omega) (by omega) (by omega) (fun c39 => ?_) (fun c39 => ?_)
        · -- taken at 39
          refine kx_bipush hx hb (by decide) dX2_far_51 ?_
          refine lv_goto (tgt := 75) hx hb dX2_far_53 (by decide) ?_
          refine lv_istore (lv' := [(6, .int (kI (99))), (5, .ref (fA F k)), (0, .ref st), (1, .int (kI ((ln : Nat) : Int))), (2, .int (kI ((pl : Nat) : Int))), (3, .int (kI (sm))), (4, .int (kI ((k : Nat) : Int)))]) hx hb dX2_far_75 hl (by decide) rfl (fun ls hl => ?_)
          refine lv_iload hx hb dX2_far_77 (lv_at hl 0 rfl) ?_
          refine lv_iload_n hx hb dX2_far_79 rfl (lv_at hl 5 rfl) ?_
          refine kx_icmp_ge (x := 99) (y := sm) (tgt := 88) hx hb dX2_far_80 (by decide) (by omega) (by omega) (by omega) (by omega) (fun c_80_12 => ?_) (fun c_80_12 => ?_)
          · -- taken at 80
            refine lv_iload_n hx hb dX2_far_88 rfl (lv_at hl 5 rfl) ?_
            refine lv_istore_n (lv' := [(3, .int (kI (sm))), (6, .int (kI (99))), (5, .ref (fA F k)), (0, .ref st), (1, .int (kI ((ln : Nat) : Int))), (2, .int (kI ((pl : Nat) : Int))), (4, .int (kI ((k : Nat) : Int)))]) hx hb dX2_far_89 rfl hl (by decide) rfl (fun ls hl => ?_)
            refine lv_iinc (v := kI (((k + 1 : Nat) : Int))) (lv' := [(4, .int (kI ((k + 1 : Nat) : Int))), (3, .int (kI (sm))), (6, .int (kI (99))), (5, .ref (fA F k)), (0, .ref st), (1, .int (kI ((ln : Nat) : Int))), (2, .int (kI ((pl : Nat) : Int)))]) hx hb dX2_far_90 hl (k := 6) rfl (kI_incN _ _) (by decide) rfl (fun ls hl => ?_)
            refine lv_goto (tgt := 6) hx hb dX2_far_93 (by decide) ?_
            exact ih_6  (k + 1) sm (by first | assumption | omega | (simp_all; done) | grind) (by rw [st_freeTo, ← hsm]; first | (rw [if_pos ⟨by omega, by assumption⟩]; unfold lesser; first | (rw [if_pos (by omega)]; done) | (rw [if_neg (by omega)]; done)) | (rw [if_neg (by omega)]; unfold lesser; first | (rw [if_pos (by omega)]; done) | (rw [if_neg (by omega)]; done))) (by first | assumption | omega | (simp_all; done) | grind) _ hS_8 (by omega) ls (lv_sub hl [4, 5, 6, 1, 0] rfl)
          · -- not taken at 80
            refine lv_iload hx hb dX2_far_83 (lv_at hl 0 rfl) ?_
            refine lv_goto (tgt := 89) hx hb dX2_far_85 (by decide) ?_
            refine lv_istore_n (lv' := [(3, .int (kI (99))), (6, .int (kI (99))), (5, .ref (fA F k)), (0, .ref st), (1, .int (kI ((ln : Nat) : Int))), (2, .int (kI ((pl : Nat) : Int))), (4, .int (kI ((k : Nat) : Int)))]) hx hb dX2_far_89 rfl hl (by decide) rfl (fun ls hl => ?_)
            refine lv_iinc (v := kI (((k + 1 : Nat) : Int))) (lv' := [(4, .int (kI ((k + 1 : Nat) : Int))), (3, .int (kI (99))), (6, .int (kI (99))), (5, .ref (fA F k)), (0, .ref st), (1, .int (kI ((ln : Nat) : Int))), (2, .int (kI ((pl : Nat) : Int)))]) hx hb dX2_far_90 hl (k := 6) rfl (kI_incN _ _) (by decide) rfl (fun ls hl => ?_)
            refine lv_goto (tgt := 6) hx hb dX2_far_93 (by decide) ?_
            exact ih_6  (k + 1) 99 (by first | assumption | omega | (simp_all; done) | grind) (by rw [st_freeTo, ← hsm]; first | (rw [if_pos ⟨by omega, by assumption⟩]; unfold lesser; first | (rw [if_pos (by omega)]; done) | (rw [if_neg (by omega)]; done)) | (rw [if_neg (by omega)]; unfold lesser; first | (rw [if_pos (by omega)]; done) | (rw [if_neg (by omega)]; done))) (by first | assumption | omega | (simp_all; done) | grind) _ hS_8 (by omega) ls (lv_sub hl [4, 5, 6, 1, 0] rfl)
        · -- not taken at 39
          refine lv_aload hx hb dX2_far_42 (lv_at hl 0 rfl) ?_
          refine kx_get (v := .int (kI (ln_lb (st_ln S k)))) (C := RX4) (T := TX4) (N := 6) hx hb hts in_X4 hown hK ho_11 rfl 5 (by decide) q349 (fun _ h9 => h9) rfl dX2_far_44 ?_
          refine kx_iconst hx hb dX2_far_47 ?_
          refine kx_icmp_ne (x := ln_lb (st_ln S k)) (y := (-1)) (tgt := 56) hx hb dX2_far_48 (by decide) (by omega) (by omega) (by omega) (by omega) (fun c48 => ?_) (fun c48 => ?_)
          · -- taken at 48
            refine lv_aload_n hx hb dX2_far_56 rfl (lv_at hl 1 rfl) ?_
            refine kx_get (v := .ref la) (C := RX2) (T := TX2) (N := 2) hx hb hts in_X2 hown hK hO_st rfl 0 (by decide) q167 (fun _ h9 => h9) rfl dX2_far_57 ?_
            refine lv_iload_n hx hb dX2_far_60 rfl (lv_at hl 2 rfl) ?_
            refine kx_cFr0 (va_runF (C := RJ2) (As := [.int (kI ((ln : Nat) : Int))]) (rest := []) (hK.at (ci := 9) rfl) ⟨hx, hb, hml, hown, hts⟩ (m_get l D s.heap la mc ea S.length F ln hO_la hP_kLs_ea (by first | assumption | omega)) (va_cwF (x := ({ cls := "java/util/List", name := "get", desc := "(I)Ljava/lang/Object;" } : Jvm.MethodName)) 1 hts (lw_F q289 q292 q294 q83 q296) rfl rfl rfl (hK.fw (by decide)) (by decide +kernel) ⟨Nat.le_of_ble_eq_true rfl, Nat.le_of_ble_eq_true rfl⟩) (kx_pv hK hS_8 hB (kx_rc hK hO_la (C := RJ2) (T := TJ2) (N := 3) rfl)) rfl rfl hl.1 rfl (lv_room (Nat.le_of_ble_eq_true rfl)) dX2_far_61 ⟨by first | exact Nat.le_of_ble_eq_true rfl | omega | (show _ ≤ _; omega) | (dsimp only [headSpec]; omega), by first | exact Nat.le_of_ble_eq_true rfl | omega | (show _ ≤ _; omega) | (dsimp only [headSpec]; omega)⟩) hS_8 (fun z_16 locs_13 hz_15 hS_14 => ?_)
            subst z_16
            obtain ⟨ea_17, gp_17, gs_17, ho_17, hp_17, hs_17, he_17, hm_17⟩ := (hP_kLn_F ln (hln))
            refine kx_castS hx hb hts hown q307 hK ho_17 rfl dX2_far_66 ?_
            refine lv_iload_n hx hb dX2_far_69 rfl (lv_at hl 3 rfl) ?_
            refine lv_aload hx hb dX2_far_70 (lv_at hl 0 rfl) ?_
            refine kx_ci0 (va_runV (As := [.int (kI ((pl : Nat) : Int)), .ref (fA F k)]) (rest := []) ⟨hx, hb, hml, hown, hts⟩ (m_X4_far l D s.heap (fA F ln) (fP F ln) (fS F ln) ea_17 gp_17 gs_17 ((st_ln S ln)) pl (fA F k) (fP F k) (fS F k) ea_11 gp_11 gs_11 ((st_ln S k)) ho_17 hp_17 hs_17 ho_11 hp_11 hs_11 (by first | assumption | omega) ((hok.ln hln)) (by first | assumption | omega) (by first | assumption | omega) ((hok.ln (by omega : k < S.length))) ((by assumption))) (cwV 2 hts (lw_V q1162 q1163 q1164 q99 q1165) rfl rfl rfl (by decide +kernel) ⟨Nat.le_of_ble_eq_true rfl, Nat.le_of_ble_eq_true rfl⟩) (kx_pv hK hS_14 hB (kx_rc hK ho_17 (C := RX4) (T := TX4) (N := 6) rfl)) rfl rfl hl.1 rfl (lv_room (Nat.le_of_ble_eq_true rfl)) dX2_far_72 ⟨by first | exact Nat.le_of_ble_eq_true rfl | omega | (show _ ≤ _; omega) | (dsimp only [headSpec]; omega), by first | exact Nat.le_of_ble_eq_true rfl | omega | (show _ ≤ _; omega) | (dsimp only [headSpec]; omega)⟩) hS_14 (fun z_21 locs_18 hz_20 hS_19 => ?_)
            subst z_21
            have hbt9 := between_rng hLn9 hLk9 (p := pl) (q := (ln_lb (st_ln S k)).toNat) (by omega) (by have := hlbk9.2 (by assumption); omega)
            refine lv_istore (lv' := [(6, .int (kI (between (st_ln S ln) pl (st_ln S k) (ln_lb (st_ln S k)).toNat))), (5, .ref (fA F k)), (0, .ref st), (1, .int (kI ((ln : Nat) : Int))), (2, .int (kI ((pl : Nat) : Int))), (3, .int (kI (sm))), (4, .int (kI ((k : Nat) : Int)))]) hx hb dX2_far_75 hl (by decide) rfl (fun ls hl => ?_)
            refine lv_iload hx hb dX2_far_77 (lv_at hl 0 rfl) ?_
            refine lv_iload_n hx hb dX2_far_79 rfl (lv_at hl 5 rfl) ?_
            refine kx_icmp_ge (x := between (st_ln S ln) pl (st_ln S k) (ln_lb (st_ln S k)).toNat) (y := sm) (tgt := 88) hx hb dX2_far_80 (by decide) (by omega) (by omega) (by omega) (by omega) (fun c_80_22 => ?_) (fun c_80_22 => ?_)
            · -- taken at 80
              refine lv_iload_n hx hb dX2_far_88 rfl (lv_at hl 5 rfl) ?_
              refine lv_istore_n (lv' := [(3, .int (kI (sm))), (6, .int (kI (between (st_ln S ln) pl (st_ln S k) (ln_lb (st_ln S k)).toNat))), (5, .ref (fA F k)), (0, .ref st), (1, .int (kI ((ln : Nat) : Int))), (2, .int (kI ((pl : Nat) : Int))), (4, .int (kI ((k : Nat) : Int)))]) hx hb dX2_far_89 rfl hl (by decide) rfl (fun ls hl => ?_)
              refine lv_iinc (v := kI (((k + 1 : Nat) : Int))) (lv' := [(4, .int (kI ((k + 1 : Nat) : Int))), (3, .int (kI (sm))), (6, .int (kI (between (st_ln S ln) pl (st_ln S k) (ln_lb (st_ln S k)).toNat))), (5, .ref (fA F k)), (0, .ref st), (1, .int (kI ((ln : Nat) : Int))), (2, .int (kI ((pl : Nat) : Int)))]) hx hb dX2_far_90 hl (k := 6) rfl (kI_incN _ _) (by decide) rfl (fun ls hl => ?_)
              refine lv_goto (tgt := 6) hx hb dX2_far_93 (by decide) ?_
              exact ih_6  (k + 1) sm (by first | assumption | omega | (simp_all; done) | grind) (by rw [st_freeTo, ← hsm]; first | (rw [if_pos ⟨by omega, by assumption⟩]; unfold lesser; first | (rw [if_pos (by omega)]; done) | (rw [if_neg (by omega)]; done)) | (rw [if_neg (by omega)]; unfold lesser; first | (rw [if_pos (by omega)]; done) | (rw [if_neg (by omega)]; done))) (by first | assumption | omega | (simp_all; done) | grind) _ hS_19 (by omega) ls (lv_sub hl [4, 5, 6, 1, 0] rfl)
            · -- not taken at 80
              refine lv_iload hx hb dX2_far_83 (lv_at hl 0 rfl) ?_
              refine lv_goto (tgt := 89) hx hb dX2_far_85 (by decide) ?_
              refine lv_istore_n (lv' := [(3, .int (kI (between (st_ln S ln) pl (st_ln S k) (ln_lb (st_ln S k)).toNat))), (6, .int (kI (between (st_ln S ln) pl (st_ln S k) (ln_lb (st_ln S k)).toNat))), (5, .ref (fA F k)), (0, .ref st), (1, .int (kI ((ln : Nat) : Int))), (2, .int (kI ((pl : Nat) : Int))), (4, .int (kI ((k : Nat) : Int)))]) hx hb dX2_far_89 rfl hl (by decide) rfl (fun ls hl => ?_)
              refine lv_iinc (v := kI (((k + 1 : Nat) : Int))) (lv' := [(4, .int (kI ((k + 1 : Nat) : Int))), (3, .int (kI (between (st_ln S ln) pl (st_ln S k) (ln_lb (st_ln S k)).toNat))), (6, .int (kI (between (st_ln S ln) pl (st_ln S k) (ln_lb (st_ln S k)).toNat))), (5, .ref (fA F k)), (0, .ref st), (1, .int (kI ((ln : Nat) : Int))), (2, .int (kI ((pl : Nat) : Int)))]) hx hb dX2_far_90 hl (k := 6) rfl (kI_incN _ _) (by decide) rfl (fun ls hl => ?_)
              refine lv_goto (tgt := 6) hx hb dX2_far_93 (by decide) ?_
              exact ih_6  (k + 1) (between (st_ln S ln) pl (st_ln S k) (ln_lb (st_ln S k)).toNat) (by first | assumption | omega | (simp_all; done) | grind) (by rw [st_freeTo, ← hsm]; first | (rw [if_pos ⟨by omega, by assumption⟩]; unfold lesser; first | (rw [if_pos (by omega)]; done) | (rw [if_neg (by omega)]; done)) | (rw [if_neg (by omega)]; unfold lesser; first | (rw [if_pos (by omega)]; done) | (rw [if_neg (by omega)]; done))) (by first | assumption | omega | (simp_all; done) | grind) _ hS_19 (by omega) ls (lv_sub hl [4, 5, 6, 1, 0] rfl)
          · -- not taken at 48
            refine kx_bipush hx hb (by decide) dX2_far_51 ?_
            refine lv_goto (tgt := 75) hx hb dX2_far_53 (by decide) ?_
            refine lv_istore (lv' := [(6, .int (kI (99))), (5, .ref (fA F k)), (0, .ref st), (1, .int (kI ((ln : Nat) : Int))), (2, .int (kI ((pl : Nat) : Int))), (3, .int (kI (sm))), (4, .int (kI ((k : Nat) : Int)))]) hx hb dX2_far_75 hl (by decide) rfl (fun ls hl => ?_)
            refine lv_iload hx hb dX2_far_77 (lv_at hl 0 rfl) ?_
            refine lv_iload_n hx hb dX2_far_79 rfl (lv_at hl 5 rfl) ?_
            refine kx_icmp_ge (x := 99) (y := sm) (tgt := 88) hx hb dX2_far_80 (by decide) (by omega) (by omega) (by omega) (by omega) (fun c_80_23 => ?_) (fun c_80_23 => ?_)
            · -- taken at 80
              refine lv_iload_n hx hb dX2_far_88 rfl (lv_at hl 5 rfl) ?_
              refine lv_istore_n (lv' := [(3, .int (kI (sm))), (6, .int (kI (99))), (5, .ref (fA F k)), (0, .ref st), (1, .int (kI ((ln : Nat) : Int))), (2, .int (kI ((pl : Nat) : Int))), (4, .int (kI ((k : Nat) : Int)))]) hx hb dX2_far_89 rfl hl (by decide) rfl (fun ls hl => ?_)
              refine lv_iinc (v := kI (((k + 1 : Nat) : Int))) (lv' := [(4, .int (kI ((k + 1 : Nat) : Int))), (3, .int (kI (sm))), (6, .int (kI (99))), (5, .ref (fA F k)), (0, .ref st), (1, .int (kI ((ln : Nat) : Int))), (2, .int (kI ((pl : Nat) : Int)))]) hx hb dX2_far_90 hl (k := 6) rfl (kI_incN _ _) (by decide) rfl (fun ls hl => ?_)
              refine lv_goto (tgt := 6) hx hb dX2_far_93 (by decide) ?_
              exact ih_6  (k + 1) sm (by first | assumption | omega | (simp_all; done) | grind) (by rw [st_freeTo, ← hsm]; first | (rw [if_pos ⟨by omega, by assumption⟩]; unfold lesser; first | (rw [if_pos (by omega)]; done) | (rw [if_neg (by omega)]; done)) | (rw [if_neg (by omega)]; unfold lesser; first | (rw [if_pos (by omega)]; done) | (rw [if_neg (by omega)]; done))) (by first | assumption | omega | (simp_all; done) | grind) _ hS_8 (by omega) ls (lv_sub hl [4, 5, 6, 1, 0] rfl)
            · -- not taken at 80
              refine lv_iload hx hb dX2_far_83 (lv_at hl 0 rfl) ?_
              refine lv_goto (tgt := 89) hx hb dX2_far_85 (by decide) ?_
              refine lv_istore_n (lv' := [(3, .int (kI (99))), (6, .int (kI (99))), (5, .ref (fA F k)), (0, .ref st), (1, .int (kI ((ln : Nat) : Int))), (2, .int (kI ((pl : Nat) : Int))), (4, .int (kI ((k : Nat) : Int)))]) hx hb dX2_far_89 rfl hl (by decide) rfl (fun ls hl => ?_)
              refine lv_iinc (v := kI (((k + 1 : Nat) : Int))) (lv' := [(4, .int (kI ((k + 1 : Nat) : Int))), (3, .int (kI (99))), (6, .int (kI (99))), (5, .ref (fA F k)), (0, .ref st), (1, .int (kI ((ln : Nat) : Int))), (2, .int (kI ((pl : Nat) : Int)))]) hx hb dX2_far_90 hl (k := 6) rfl (kI_incN _ _) (by decide) rfl (fun ls hl => ?_)
              refine lv_goto (tgt := 6) hx hb dX2_far_93 (by decide) ?_
              exact ih_6  (k + 1) 99 (by first | assumption | omega | (simp_all; done) | grind) (by rw [st_freeTo, ← hsm]; first | (rw [if_pos ⟨by omega, by assumption⟩]; unfold lesser; first | (rw [if_pos (by omega)]; done) | (rw [if_neg (by omega)]; done)) | (rw [if_neg (by omega)]; unfold lesser; first | (rw [if_pos (by omega)]; done) | (rw [if_neg (by omega)]; done))) (by first | assumption | omega | (simp_all; done) | grind) _ hS_8 (by omega) ls (lv_sub hl [4, 5, 6, 1, 0] rfl)
  exact lp_6_x_1 (S.length - 0 + 1) 0 99 (by first | assumption | omega | (simp_all; done) | grind) (rfl) (by first | assumption | omega | (simp_all; done) | grind) _ hS (Nat.lt_succ_self _) ls (lv_sub hl [2, 3, 4, 1, 0] rfl)

set_option maxHeartbeats 4000000 in
set_option maxRecDepth 100000 in
theorem m_X2_labels (l : Launch) (D : kG) (H : Heap) (st : Nat) (la : Nat) (mc : Int) (ea : Nat) (F : Fts) (S : Ls) (gap : Int) (hO_st : kO D H st 1 [.ref la, .int (kI (gap))]) (hO_la : kO D H la 9 [.int (kI (mc)), .ref ea, .int (kI ((S.length : Nat) : Int))]) (hP_kLs_ea : kLs D H ea S.length F) (hP_kLn_F : kLn D H F S) (hok : LsOK S gap) : Met l yX2_labels (ws_ yX2_labels cX2_labels 3 (some .int)) ({ frames := 3, cells := 0, slots := 0, locals := 64 } : Room) (kPre D H [.ref st]) (kQi (fun (r : Int) H' => H' = H ∧ r = st_lab S) kNO) (0) (0) (kNO) := by
  refine Met.ofW (cc := cX2_labels) (maxL := 3) (ret := (some .int)) (by decide) rfl ?_
  intro p e s m args below meth c s₁ B hml hv
  obtain ⟨rfl, hH, hK⟩ := hv
  subst hH
  have hx := B.exec
  have hb := B.bytes
  have hr := B.returns
  have hts := atoms_spec (ws := ws_ yX2_labels cX2_labels 3 (some .int)) B.pre
  have hts : ∀ w ∈ lw_all, w.before _ s = true := fun w h => hts w (List.mem_cons_of_mem _ h)
  have hown : s.vm.findClass RX2 = some m.cls := findClass_of_methodNamed B.named
  have hlk := B.notSynchronized
  have hS : va_S kNO s.heap s.heap [] := va_S.rf
  have hB : ∀ q, kNO q → kBase D ≤ q := fun _ h => h.elim
  have hl := lv_entry ([.ref st]) (n := 3) (Nat.le_of_ble_eq_true rfl)
  rw [lg_entry_eq]
  generalize (lg_sl ([.ref st]) ++ List.replicate (3 - (lg_sl ([.ref st])).length) Slot.unset).toArray = ls at hl ⊢
  have hl : lv_has ls 3 [(0, .ref st)] := hl
  have hL8 := hok.1
  refine kx_iconst hx hb dX2_labels_0 ?_
  refine lv_istore_n (lv' := [(1, .int (kI (0))), (0, .ref st)]) hx hb dX2_labels_1 rfl hl (by decide) rfl (fun ls hl => ?_)
  refine kx_iconst hx hb dX2_labels_2 ?_
  refine lv_istore_n (lv' := [(2, .int (kI (0))), (1, .int (kI (0))), (0, .ref st)]) hx hb dX2_labels_3 rfl hl (by decide) rfl (fun ls hl => ?_)
  have lp_4_x_1 : ∀ (n_4 : Nat) (k : Nat) (sm : Int) (hk : k ≤ S.length) (hsm : sm = st_labTo S k) (locs : List Loc) (hS : va_S kNO s.heap s.heap locs) (hm_4 : S.length - k < n_4) (ls : Array Slot), lv_has ls 3 [(0, .ref st), (1, .int (kI (sm))), (2, .int (kI ((k : Nat) : Int)))] → W p l e (headSpec (ws_ yX2_labels cX2_labels 3 (some .int)) ({ frames := 3, cells := 0, slots := 0, locals := 64 } : Room)).room s m ([.ref st] : List Value).toArray below meth c s.heap locs (0) (0) (MQ below (kQi (fun (r : Int) H' => H' = s.heap ∧ r = st_lab S) kNO) ([.ref st] : List Value).toArray s (0) (0) (kNO)) (F0 m 4 ls []) := by
    intro n_4
    induction n_4 with
    | zero => intro k sm hk hsm locs hS hm_4; exact absurd hm_4 (Nat.not_lt_zero _)
    | succ n_4 ih_4 =>
      intro k sm hk hsm locs hS hm_4 ls hl
      refine lv_iload_n hx hb dX2_labels_4 rfl (lv_at hl 2 rfl) ?_
      refine lv_aload_n hx hb dX2_labels_5 rfl (lv_at hl 0 rfl) ?_
      refine kx_get (v := .ref la) (C := RX2) (T := TX2) (N := 2) hx hb hts in_X2 hown hK hO_st rfl 0 (by decide) q167 (fun _ h9 => h9) rfl dX2_labels_6 ?_
      refine kx_cFi0 (va_runF (C := RJ2) (As := []) (rest := [.int (kI ((k : Nat) : Int))]) (hK.at (ci := 9) rfl) ⟨hx, hb, hml, hown, hts⟩ (m_J2_size l D s.heap la mc ea S.length hO_la ) (va_cwF (x := ({ cls := "java/util/List", name := "size", desc := "()I" } : Jvm.MethodName)) 0 hts (lw_F q279 q283 q285 q83 q287) rfl rfl rfl (hK.fw (by decide)) (by decide +kernel) ⟨Nat.le_of_ble_eq_true rfl, Nat.le_of_ble_eq_true rfl⟩) (kx_pv hK hS hB (kx_rc hK hO_la (C := RJ2) (T := TJ2) (N := 3) rfl)) rfl rfl hl.1 rfl (lv_room (Nat.le_of_ble_eq_true rfl)) dX2_labels_9 ⟨by first | exact Nat.le_of_ble_eq_true rfl | omega | (show _ ≤ _; omega) | (dsimp only [headSpec]; omega), by first | exact Nat.le_of_ble_eq_true rfl | omega | (show _ ≤ _; omega) | (dsimp only [headSpec]; omega)⟩) hS (fun z_5 locs_2 hz_4 hS_3 => ?_)
      subst z_5
      refine kx_icmp_ge (x := ((k : Nat) : Int)) (y := ((S.length : Nat) : Int)) (tgt := 51) hx hb dX2_labels_14 (by decide) (by omega) (by omega) (by omega) (by omega) (fun c_14_6 => ?_) (fun c_14_6 => ?_)
      · -- taken at 14
        refine lv_iload_n hx hb dX2_labels_51 rfl (lv_at hl 1 rfl) ?_
        exact kx_iret (z := sm) hx hb hr hlk (⟨rfl, by rw [hsm, st_lab, show k = S.length by omega]⟩) hS_3 dX2_labels_52
      · -- not taken at 14
        refine lv_iload_n hx hb dX2_labels_17 rfl (lv_at hl 1 rfl) ?_
        refine lv_aload_n hx hb dX2_labels_18 rfl (lv_at hl 0 rfl) ?_
        refine kx_get (v := .ref la) (C := RX2) (T := TX2) (N := 2) hx hb hts in_X2 hown hK hO_st rfl 0 (by decide) q167 (fun _ h9 => h9) rfl dX2_labels_19 ?_
        refine lv_iload_n hx hb dX2_labels_22 rfl (lv_at hl 2 rfl) ?_
        refine kx_cFr0 (va_runF (C := RJ2) (As := [.int (kI ((k : Nat) : Int))]) (rest := [.int (kI (sm))]) (hK.at (ci := 9) rfl) ⟨hx, hb, hml, hown, hts⟩ (m_get l D s.heap la mc ea S.length F k hO_la hP_kLs_ea (by first | assumption | omega)) (va_cwF (x := ({ cls := "java/util/List", name := "get", desc := "(I)Ljava/lang/Object;" } : Jvm.MethodName)) 1 hts (lw_F q289 q292 q294 q83 q296) rfl rfl rfl (hK.fw (by decide)) (by decide +kernel) ⟨Nat.le_of_ble_eq_true rfl, Nat.le_of_ble_eq_true rfl⟩) (kx_pv hK hS_3 hB (kx_rc hK hO_la (C := RJ2) (T := TJ2) (N := 3) rfl)) rfl rfl hl.1 rfl (lv_room (Nat.le_of_ble_eq_true rfl)) dX2_labels_23 ⟨by first | exact Nat.le_of_ble_eq_true rfl | omega | (show _ ≤ _; omega) | (dsimp only [headSpec]; omega), by first | exact Nat.le_of_ble_eq_true rfl | omega | (show _ ≤ _; omega) | (dsimp only [headSpec]; omega)⟩) hS_3 (fun z_10 locs_7 hz_9 hS_8 => ?_)
        subst z_10
        obtain ⟨ea_11, gp_11, gs_11, ho_11, hp_11, hs_11, he_11, hm_11⟩ := (hP_kLn_F k (by omega))
        have hlbr9 := (hok.ln (by omega : k < S.length)).lbr
        refine kx_castS hx hb hts hown q307 hK ho_11 rfl dX2_labels_28 ?_
        refine kx_get (v := .int (kI (ln_lb (st_ln S k)))) (C := RX4) (T := TX4) (N := 6) hx hb hts in_X4 hown hK ho_11 rfl 5 (by decide) q349 (fun _ h9 => h9) rfl dX2_labels_31 ?_
        refine kx_iconst hx hb dX2_labels_34 ?_
        refine kx_icmp_ne (x := ln_lb (st_ln S k)) (y := (-1)) (tgt := 42) hx hb dX2_labels_35 (by decide) (by omega) (by omega) (by omega) (by omega) (fun c_35_12 => ?_) (fun c_35_12 => ?_)
        · -- taken at 35
          refine kx_iconst hx hb dX2_labels_42 ?_
          refine kx_iadd hx hb dX2_labels_43 ?_
          refine lv_istore_n (lv' := [(1, .int (kI ((sm + 1)))), (0, .ref st), (2, .int (kI ((k : Nat) : Int)))]) hx hb dX2_labels_44 rfl hl (by decide) rfl (fun ls hl => ?_)
          refine lv_iinc (v := kI (((k + 1 : Nat) : Int))) (lv' := [(2, .int (kI ((k + 1 : Nat) : Int))), (1, .int (kI ((sm + 1)))), (0, .ref st)]) hx hb dX2_labels_45 hl (k := 2) rfl (kI_incN _ _) (by decide) rfl (fun ls hl => ?_)
          refine lv_goto (tgt := 4) hx hb dX2_labels_48 (by decide) ?_
          exact ih_4  (k + 1) ((sm + 1)) (by first | assumption | omega | (simp_all; done) | grind) (by rw [st_labTo, ← hsm]; first | (rw [if_pos (by assumption)]; done) | (rw [if_neg (by omega)]; done)) _ hS_8 (by omega) ls (lv_sub hl [2, 1, 0] rfl)
        · -- not taken at 35
          refine kx_iconst hx hb dX2_labels_38 ?_
          refine lv_goto (tgt := 43) hx hb dX2_labels_39 (by decide) ?_
          refine kx_iadd hx hb dX2_labels_43 ?_
          refine lv_istore_n (lv' := [(1, .int (kI ((sm + 0)))), (0, .ref st), (2, .int (kI ((k : Nat) : Int)))]) hx hb dX2_labels_44 rfl hl (by decide) rfl (fun ls hl => ?_)
          refine lv_iinc (v := kI (((k + 1 : Nat) : Int))) (lv' := [(2, .int (kI ((k + 1 : Nat) : Int))), (1, .int (kI ((sm + 0)))), (0, .ref st)]) hx hb dX2_labels_45 hl (k := 2) rfl (kI_incN _ _) (by decide) rfl (fun ls hl => ?_)
          refine lv_goto (tgt := 4) hx hb dX2_labels_48 (by decide) ?_
          exact ih_4  (k + 1) ((sm + 0)) (by first | assumption | omega | (simp_all; done) | grind) (by rw [st_labTo, ← hsm]; first | (rw [if_pos (by assumption)]; done) | (rw [if_neg (by omega)]; done)) _ hS_8 (by omega) ls (lv_sub hl [2, 1, 0] rfl)
  exact lp_4_x_1 (S.length - 0 + 1) 0 0 (by first | assumption | omega | (simp_all; done) | grind) (rfl) _ hS (Nat.lt_succ_self _) ls (lv_sub hl [2, 1, 0] rfl)

set_option maxHeartbeats 4000000 in
set_option maxRecDepth 100000 in
theorem m_X2_isWithin (l : Launch) (D : kG) (H : Heap) (st : Nat) (la : Nat) (mc : Int) (ea : Nat) (F : Fts) (S : Ls) (gap : Int) (ln : Nat) (x : Int) (hO_st : kO D H st 1 [.ref la, .int (kI (gap))]) (hO_la : kO D H la 9 [.int (kI (mc)), .ref ea, .int (kI ((S.length : Nat) : Int))]) (hP_kLs_ea : kLs D H ea S.length F) (hP_kLn_F : kLn D H F S) (hok : LsOK S gap) (hln : ln < S.length) (hpt : 0 ≤ x ∧ x ≤ 383) (hdis : StDis S) : Met l yX2_isWithin (ws_ yX2_isWithin cX2_isWithin 4 (some .boolean)) ({ frames := 3, cells := 0, slots := 0, locals := 64 } : Room) (kPre D H [.ref st, .int (kI ((ln : Nat) : Int)), .int (kI (x))]) (kQb (fun (r : Bool) H' => H' = H ∧ r = st_cont S ln x) kNO) (0) (0) (kNO) := by
  refine Met.ofW (cc := cX2_isWithin) (maxL := 4) (ret := (some .boolean)) (by decide) rfl ?_
  intro p e s m args below meth c s₁ B hml hv
  obtain ⟨rfl, hH, hK⟩ := hv
  subst hH
  have hx := B.exec
  have hb := B.bytes
  have hr := B.returns
  have hts := atoms_spec (ws := ws_ yX2_isWithin cX2_isWithin 4 (some .boolean)) B.pre
  have hts : ∀ w ∈ lw_all, w.before _ s = true := fun w h => hts w (List.mem_cons_of_mem _ h)
  have hown : s.vm.findClass RX2 = some m.cls := findClass_of_methodNamed B.named
  have hlk := B.notSynchronized
  have hS : va_S kNO s.heap s.heap [] := va_S.rf
  have hB : ∀ q, kNO q → kBase D ≤ q := fun _ h => h.elim
  have hl := lv_entry ([.ref st, .int (kI ((ln : Nat) : Int)), .int (kI (x))]) (n := 4) (Nat.le_of_ble_eq_true rfl)
  rw [lg_entry_eq]
  generalize (lg_sl ([.ref st, .int (kI ((ln : Nat) : Int)), .int (kI (x))]) ++ List.replicate (4 - (lg_sl ([.ref st, .int (kI ((ln : Nat) : Int)), .int (kI (x))])).length) Slot.unset).toArray = ls at hl ⊢
  have hl : lv_has ls 4 [(0, .ref st), (1, .int (kI ((ln : Nat) : Int))), (2, .int (kI (x)))] := hl
  have hL8 := hok.1
  refine lv_aload_n hx hb dX2_isWithin_0 rfl (lv_at hl 0 rfl) ?_
  refine kx_get (v := .ref la) (C := RX2) (T := TX2) (N := 2) hx hb hts in_X2 hown hK hO_st rfl 0 (by decide) q167 (fun _ h9 => h9) rfl dX2_isWithin_1 ?_
  refine lv_iload_n hx hb dX2_isWithin_4 rfl (lv_at hl 1 rfl) ?_
  refine kx_cFr0 (va_runF (C := RJ2) (As := [.int (kI ((ln : Nat) : Int))]) (rest := []) (hK.at (ci := 9) rfl) ⟨hx, hb, hml, hown, hts⟩ (m_get l D s.heap la mc ea S.length F ln hO_la hP_kLs_ea (by first | assumption | omega)) (va_cwF (x := ({ cls := "java/util/List", name := "get", desc := "(I)Ljava/lang/Object;" } : Jvm.MethodName)) 1 hts (lw_F q289 q292 q294 q83 q296) rfl rfl rfl (hK.fw (by decide)) (by decide +kernel) ⟨Nat.le_of_ble_eq_true rfl, Nat.le_of_ble_eq_true rfl⟩) (kx_pv hK hS hB (kx_rc hK hO_la (C := RJ2) (T := TJ2) (N := 3) rfl)) rfl rfl hl.1 rfl (lv_room (Nat.le_of_ble_eq_true rfl)) dX2_isWithin_5 ⟨by first | exact Nat.le_of_ble_eq_true rfl | omega | (show _ ≤ _; omega) | (dsimp only [headSpec]; omega), by first | exact Nat.le_of_ble_eq_true rfl | omega | (show _ ≤ _; omega) | (dsimp only [headSpec]; omega)⟩) hS (fun z_4 locs_1 hz_3 hS_2 => ?_)
  subst z_4
  by_cases hcl9 : ln_cl (st_ln S ln) = true
  · -- hcl9 t
    obtain ⟨ea_5, gp_5, gs_5, ho_5, hp_5, hs_5, he_5, hm_5⟩ := (hP_kLn_F ln (hln)).closed_ hcl9
    refine kx_castS hx hb hts hown q307 hK ho_5 rfl dX2_isWithin_10 ?_
    refine lv_astore_n (lv' := [(3, .ref (fA F ln)), (0, .ref st), (1, .int (kI ((ln : Nat) : Int))), (2, .int (kI (x)))]) hx hb dX2_isWithin_13 rfl hl (by decide) rfl (fun ls hl => ?_)
    refine lv_aload_n hx hb dX2_isWithin_14 rfl (lv_at hl 0 rfl) ?_
    refine kx_cb0 (va_runV (As := []) (rest := []) ⟨hx, hb, hml, hown, hts⟩ (m_isClosed_c l D s.heap (fA F ln) (fP F ln) (fS F ln) ea_5 ((st_ln S ln)) ho_5 he_5 ) (cwV 0 hts (lw_V q1695 q1696 q1697 q99 q1698) rfl rfl rfl (by decide +kernel) ⟨Nat.le_of_ble_eq_true rfl, Nat.le_of_ble_eq_true rfl⟩) (kx_pv hK hS_2 hB (kx_rc hK ho_5 (C := RX4) (T := TX4) (N := 6) rfl)) rfl rfl hl.1 rfl (lv_room (Nat.le_of_ble_eq_true rfl)) dX2_isWithin_15 ⟨by first | exact Nat.le_of_ble_eq_true rfl | omega | (show _ ≤ _; omega) | (dsimp only [headSpec]; omega), by first | exact Nat.le_of_ble_eq_true rfl | omega | (show _ ≤ _; omega) | (dsimp only [headSpec]; omega)⟩) hS_2 (fun z_9 locs_6 hz_8 hS_7 => ?_)
    subst z_9
    refine kx_ifz (tgt := 41) hx hb dX2_isWithin_18 (by decide) (fun c_18_10 => ?_) (fun c_18_10 => ?_)
    · -- taken at 18
      exact absurd c_18_10 (by decide)
    · -- not taken at 18
      refine lv_aload_n hx hb dX2_isWithin_21 rfl (lv_at hl 0 rfl) ?_
      refine lv_iload_n hx hb dX2_isWithin_22 rfl (lv_at hl 3 rfl) ?_
      refine kx_cb0 (va_runV (As := [.int (kI (x))]) (rest := []) ⟨hx, hb, hml, hown, hts⟩ (m_X4_has l D s.heap (fA F ln) (fP F ln) (fS F ln) ea_5 gp_5 gs_5 ((st_ln S ln)) x ho_5 hp_5 hs_5 (by first | assumption | omega) ((hok.ln (by omega : ln < S.length))) (by first | assumption | omega)) (cwV 1 hts (lw_V q1659 q1660 q1661 q99 q1662) rfl rfl rfl (by decide +kernel) ⟨Nat.le_of_ble_eq_true rfl, Nat.le_of_ble_eq_true rfl⟩) (kx_pv hK hS_7 hB (kx_rc hK ho_5 (C := RX4) (T := TX4) (N := 6) rfl)) rfl rfl hl.1 rfl (lv_room (Nat.le_of_ble_eq_true rfl)) dX2_isWithin_23 ⟨by first | exact Nat.le_of_ble_eq_true rfl | omega | (show _ ≤ _; omega) | (dsimp only [headSpec]; omega), by first | exact Nat.le_of_ble_eq_true rfl | omega | (show _ ≤ _; omega) | (dsimp only [headSpec]; omega)⟩) hS_7 (fun z_14 locs_11 hz_13 hS_12 => ?_)
      subst z_14
      refine kx_ifnz (tgt := 41) hx hb dX2_isWithin_26 (by decide) (fun c_26_15 => ?_) (fun c_26_15 => ?_)
      · -- taken at 26
        refine kx_iconst hx hb dX2_isWithin_41 ?_
        exact kx_zret (z := false) hx hb hr hlk (⟨rfl, by rw [st_cont_eq hdis hln]; simp [*]⟩) hS_12 dX2_isWithin_42
      · -- not taken at 26
        refine lv_aload_n hx hb dX2_isWithin_29 rfl (lv_at hl 0 rfl) ?_
        refine lv_iload_n hx hb dX2_isWithin_30 rfl (lv_at hl 3 rfl) ?_
        refine kx_cb0 (va_runV (As := [.int (kI (x))]) (rest := []) ⟨hx, hb, hml, hown, hts⟩ (m_X4_isRound l D s.heap (fA F ln) (fP F ln) (fS F ln) ea_5 gp_5 gs_5 ((st_ln S ln)) x ho_5 hp_5 hs_5 (by first | assumption | omega) ((hok.ln (by omega : ln < S.length))) (by first | assumption | omega)) (cwV 1 hts (lw_V q2082 q2083 q2084 q99 q2085) rfl rfl rfl (by decide +kernel) ⟨Nat.le_of_ble_eq_true rfl, Nat.le_of_ble_eq_true rfl⟩) (kx_pv hK hS_12 hB (kx_rc hK ho_5 (C := RX4) (T := TX4) (N := 6) rfl)) rfl rfl hl.1 rfl (lv_room (Nat.le_of_ble_eq_true rfl)) dX2_isWithin_31 ⟨by first | exact Nat.le_of_ble_eq_true rfl | omega | (show _ ≤ _; omega) | (dsimp only [headSpec]; omega), by first | exact Nat.le_of_ble_eq_true rfl | omega | (show _ ≤ _; omega) | (dsimp only [headSpec]; omega)⟩) hS_12 (fun z_19 locs_16 hz_18 hS_17 => ?_)
        subst z_19
        refine kx_ifz (tgt := 41) hx hb dX2_isWithin_34 (by decide) (fun c_34_20 => ?_) (fun c_34_20 => ?_)
        · -- taken at 34
          refine kx_iconst hx hb dX2_isWithin_41 ?_
          exact kx_zret (z := false) hx hb hr hlk (⟨rfl, by rw [st_cont_eq hdis hln]; simp [*]⟩) hS_17 dX2_isWithin_42
        · -- not taken at 34
          refine kx_iconst hx hb dX2_isWithin_37 ?_
          refine lv_goto (tgt := 42) hx hb dX2_isWithin_38 (by decide) ?_
          exact kx_zret (z := true) hx hb hr hlk (⟨rfl, by rw [st_cont_eq hdis hln]; simp [*]⟩) hS_17 dX2_isWithin_42
  · -- hcl9 f
    have hcl8 : ln_cl (st_ln S ln) = false := by simpa using hcl9
    obtain ⟨ea_21, gp_21, gs_21, ho_21, hp_21, hs_21, he_21, hm_21⟩ := (hP_kLn_F ln (hln)).open_ hcl8
    refine kx_castS hx hb hts hown q307 hK ho_21 rfl dX2_isWithin_10 ?_
    refine lv_astore_n (lv' := [(3, .ref (fA F ln)), (0, .ref st), (1, .int (kI ((ln : Nat) : Int))), (2, .int (kI (x)))]) hx hb dX2_isWithin_13 rfl hl (by decide) rfl (fun ls hl => ?_)
    refine lv_aload_n hx hb dX2_isWithin_14 rfl (lv_at hl 0 rfl) ?_
    refine kx_cb0 (va_runV (As := []) (rest := []) ⟨hx, hb, hml, hown, hts⟩ (m_isClosed_o l D s.heap (fA F ln) (fP F ln) (fS F ln) ea_21 ((st_ln S ln)) ho_21 he_21 ) (cwV 0 hts (lw_V q1695 q1696 q1697 q99 q1698) rfl rfl rfl (by decide +kernel) ⟨Nat.le_of_ble_eq_true rfl, Nat.le_of_ble_eq_true rfl⟩) (kx_pv hK hS_2 hB (kx_rc hK ho_21 (C := RX4) (T := TX4) (N := 6) rfl)) rfl rfl hl.1 rfl (lv_room (Nat.le_of_ble_eq_true rfl)) dX2_isWithin_15 ⟨by first | exact Nat.le_of_ble_eq_true rfl | omega | (show _ ≤ _; omega) | (dsimp only [headSpec]; omega), by first | exact Nat.le_of_ble_eq_true rfl | omega | (show _ ≤ _; omega) | (dsimp only [headSpec]; omega)⟩) hS_2 (fun z_25 locs_22 hz_24 hS_23 => ?_)
    subst z_25
    refine kx_ifz (tgt := 41) hx hb dX2_isWithin_18 (by decide) (fun c_18_26 => ?_) (fun c_18_26 => ?_)
    · -- taken at 18
      refine kx_iconst hx hb dX2_isWithin_41 ?_
      exact kx_zret (z := false) hx hb hr hlk (⟨rfl, by rw [st_cont_eq hdis hln]; simp [*]⟩) hS_23 dX2_isWithin_42
    · -- not taken at 18
      exact absurd c_18_26 (by decide)

set_option maxHeartbeats 4000000 in
set_option maxRecDepth 100000 in
theorem m_X2_pointsWithin (l : Launch) (D : kG) (H : Heap) (st : Nat) (la : Nat) (mc : Int) (ea : Nat) (F : Fts) (S : Ls) (gap : Int) (ln : Nat) (hO_st : kO D H st 1 [.ref la, .int (kI (gap))]) (hO_la : kO D H la 9 [.int (kI (mc)), .ref ea, .int (kI ((S.length : Nat) : Int))]) (hP_kLs_ea : kLs D H ea S.length F) (hP_kLn_F : kLn D H F S) (hok : LsOK S gap) (hln : ln < S.length) (hdis : StDis S) : Met l yX2_pointsWithin (ws_ yX2_pointsWithin cX2_pointsWithin 4 (some .int)) ({ frames := 4, cells := 0, slots := 0, locals := 87 } : Room) (kPre D H [.ref st, .int (kI ((ln : Nat) : Int))]) (kQi (fun (r : Int) H' => H' = H ∧ r = st_ptsTo S ln 384) kNO) (0) (0) (kNO) := by
  refine Met.ofW (cc := cX2_pointsWithin) (maxL := 4) (ret := (some .int)) (by decide) rfl ?_
  intro p e s m args below meth c s₁ B hml hv
  obtain ⟨rfl, hH, hK⟩ := hv
  subst hH
  have hx := B.exec
  have hb := B.bytes
  have hr := B.returns
  have hts := atoms_spec (ws := ws_ yX2_pointsWithin cX2_pointsWithin 4 (some .int)) B.pre
  have hts : ∀ w ∈ lw_all, w.before _ s = true := fun w h => hts w (List.mem_cons_of_mem _ h)
  have hown : s.vm.findClass RX2 = some m.cls := findClass_of_methodNamed B.named
  have hlk := B.notSynchronized
  have hS : va_S kNO s.heap s.heap [] := va_S.rf
  have hB : ∀ q, kNO q → kBase D ≤ q := fun _ h => h.elim
  have hl := lv_entry ([.ref st, .int (kI ((ln : Nat) : Int))]) (n := 4) (Nat.le_of_ble_eq_true rfl)
  rw [lg_entry_eq]
  generalize (lg_sl ([.ref st, .int (kI ((ln : Nat) : Int))]) ++ List.replicate (4 - (lg_sl ([.ref st, .int (kI ((ln : Nat) : Int))])).length) Slot.unset).toArray = ls at hl ⊢
  have hl : lv_has ls 4 [(0, .ref st), (1, .int (kI ((ln : Nat) : Int)))] := hl
  have hL8 := hok.1
  refine kx_iconst hx hb dX2_pointsWithin_0 ?_
  refine lv_istore_n (lv' := [(2, .int (kI (0))), (0, .ref st), (1, .int (kI ((ln : Nat) : Int)))]) hx hb dX2_pointsWithin_1 rfl hl (by decide) rfl (fun ls hl => ?_)
  refine kx_iconst hx hb dX2_pointsWithin_2 ?_
  refine lv_istore_n (lv' := [(3, .int (kI (0))), (2, .int (kI (0))), (0, .ref st), (1, .int (kI ((ln : Nat) : Int)))]) hx hb dX2_pointsWithin_3 rfl hl (by decide) rfl (fun ls hl => ?_)
  have lp_4_x_1 : ∀ (n_4 : Nat) (k : Nat) (sm : Int) (hk : k ≤ 384) (hsm : sm = st_ptsTo S ln k) (locs : List Loc) (hS : va_S kNO s.heap s.heap locs) (hm_4 : 384 - k < n_4) (ls : Array Slot), lv_has ls 4 [(0, .ref st), (1, .int (kI ((ln : Nat) : Int))), (2, .int (kI (sm))), (3, .int (kI ((k : Nat) : Int)))] → W p l e (headSpec (ws_ yX2_pointsWithin cX2_pointsWithin 4 (some .int)) ({ frames := 4, cells := 0, slots := 0, locals := 87 } : Room)).room s m ([.ref st, .int (kI ((ln : Nat) : Int))] : List Value).toArray below meth c s.heap locs (0) (0) (MQ below (kQi (fun (r : Int) H' => H' = s.heap ∧ r = st_ptsTo S ln 384) kNO) ([.ref st, .int (kI ((ln : Nat) : Int))] : List Value).toArray s (0) (0) (kNO)) (F0 m 4 ls []) := by
    intro n_4
    induction n_4 with
    | zero => intro k sm hk hsm locs hS hm_4; exact absurd hm_4 (Nat.not_lt_zero _)
    | succ n_4 ih_4 =>
      intro k sm hk hsm locs hS hm_4 ls hl
      refine lv_iload_n hx hb dX2_pointsWithin_4 rfl (lv_at hl 3 rfl) ?_
      refine kx_sipush hx hb (by decide) dX2_pointsWithin_5 ?_
      refine kx_icmp_ge (x := ((k : Nat) : Int)) (y := 384) (tgt := 34) hx hb dX2_pointsWithin_8 (by decide) (by omega) (by omega) (by omega) (by omega) (fun c_8_2 => ?_) (fun c_8_2 => ?_)
      · -- taken at 8
        refine lv_iload_n hx hb dX2_pointsWithin_34 rfl (lv_at hl 2 rfl) ?_
        exact kx_iret (z := sm) hx hb hr hlk (⟨rfl, by rw [hsm, show k = 384 by omega]⟩) hS dX2_pointsWithin_35
      · -- not taken at 8
        refine lv_iload_n hx hb dX2_pointsWithin_11 rfl (lv_at hl 2 rfl) ?_
        refine lv_aload_n hx hb dX2_pointsWithin_12 rfl (lv_at hl 0 rfl) ?_
        refine lv_iload_n hx hb dX2_pointsWithin_13 rfl (lv_at hl 1 rfl) ?_
        refine lv_iload_n hx hb dX2_pointsWithin_14 rfl (lv_at hl 3 rfl) ?_
        refine kx_cb0 (va_runV (As := [.int (kI ((ln : Nat) : Int)), .int (kI ((k : Nat) : Int))]) (rest := [.int (kI (sm))]) ⟨hx, hb, hml, hown, hts⟩ (m_X2_isWithin l D s.heap st la mc ea F S gap ln (((k : Nat) : Int)) hO_st hO_la hP_kLs_ea hP_kLn_F (by first | assumption | omega) (by first | assumption | omega) (by first | assumption | omega) (by first | assumption | omega)) (cwV 2 hts (lw_V q2128 q2079 q2080 q80 q2081) rfl rfl rfl (by decide +kernel) ⟨Nat.le_of_ble_eq_true rfl, Nat.le_of_ble_eq_true rfl⟩) (kx_pv hK hS hB (kx_rc hK hO_st (C := RX2) (T := TX2) (N := 2) rfl)) rfl rfl hl.1 rfl (lv_room (Nat.le_of_ble_eq_true rfl)) dX2_pointsWithin_15 ⟨by first | exact Nat.le_of_ble_eq_true rfl | omega | (show _ ≤ _; omega) | (dsimp only [headSpec]; omega), by first | exact Nat.le_of_ble_eq_true rfl | omega | (show _ ≤ _; omega) | (dsimp only [headSpec]; omega)⟩) hS (fun z_6 locs_3 hz_5 hS_4 => ?_)
        subst z_6
        refine kx_ifz (tgt := 25) hx hb dX2_pointsWithin_18 (by decide) (fun c_18_7 => ?_) (fun c_18_7 => ?_)
        · -- taken at 18
          refine kx_iconst hx hb dX2_pointsWithin_25 ?_
          refine kx_iadd hx hb dX2_pointsWithin_26 ?_
          refine lv_istore_n (lv' := [(2, .int (kI ((sm + 0)))), (0, .ref st), (1, .int (kI ((ln : Nat) : Int))), (3, .int (kI ((k : Nat) : Int)))]) hx hb dX2_pointsWithin_27 rfl hl (by decide) rfl (fun ls hl => ?_)
          refine lv_iinc (v := kI (((k + 1 : Nat) : Int))) (lv' := [(3, .int (kI ((k + 1 : Nat) : Int))), (2, .int (kI ((sm + 0)))), (0, .ref st), (1, .int (kI ((ln : Nat) : Int)))]) hx hb dX2_pointsWithin_28 hl (k := 3) rfl (kI_incN _ _) (by decide) rfl (fun ls hl => ?_)
          refine lv_goto (tgt := 4) hx hb dX2_pointsWithin_31 (by decide) ?_
          exact ih_4  (k + 1) ((sm + 0)) (by first | assumption | omega | (simp_all; done) | grind) (by rw [st_ptsTo, ← hsm]; first | (rw [if_pos (by assumption)]; done) | (rw [if_neg (by simp [*])]; done)) _ hS_4 (by omega) ls (lv_sub hl [2, 3, 1, 0] rfl)
        · -- not taken at 18
          refine kx_iconst hx hb dX2_pointsWithin_21 ?_
          refine lv_goto (tgt := 26) hx hb dX2_pointsWithin_22 (by decide) ?_
          refine kx_iadd hx hb dX2_pointsWithin_26 ?_
          refine lv_istore_n (lv' := [(2, .int (kI ((sm + 1)))), (0, .ref st), (1, .int (kI ((ln : Nat) : Int))), (3, .int (kI ((k : Nat) : Int)))]) hx hb dX2_pointsWithin_27 rfl hl (by decide) rfl (fun ls hl => ?_)
          refine lv_iinc (v := kI (((k + 1 : Nat) : Int))) (lv' := [(3, .int (kI ((k + 1 : Nat) : Int))), (2, .int (kI ((sm + 1)))), (0, .ref st), (1, .int (kI ((ln : Nat) : Int)))]) hx hb dX2_pointsWithin_28 hl (k := 3) rfl (kI_incN _ _) (by decide) rfl (fun ls hl => ?_)
          refine lv_goto (tgt := 4) hx hb dX2_pointsWithin_31 (by decide) ?_
          exact ih_4  (k + 1) ((sm + 1)) (by first | assumption | omega | (simp_all; done) | grind) (by rw [st_ptsTo, ← hsm]; first | (rw [if_pos (by assumption)]; done) | (rw [if_neg (by simp [*])]; done)) _ hS_4 (by omega) ls (lv_sub hl [2, 3, 1, 0] rfl)
  exact lp_4_x_1 (384 - 0 + 1) 0 0 (by first | assumption | omega | (simp_all; done) | grind) (rfl) _ hS (Nat.lt_succ_self _) ls (lv_sub hl [2, 3, 1, 0] rfl)

