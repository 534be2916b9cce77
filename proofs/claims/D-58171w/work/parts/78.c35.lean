/-! MATH 50: a leaf put in; places of a tree -/
theorem ZI.insL {lf rt pr lf1 rt1 pr1 : Nat → Option Nat} {ro : Option Nat} {c : TC} {y x : Nat} {r : TT} {M : List Nat} (h : ZI lf rt pr ro c (TN y .leaf r) M) (hx : x ∉ M) (hl : lf1 y = some x ∧ lf1 x = none ∧ ∀ q, q ∈ M → q ≠ y → lf1 q = lf q) (hr : rt1 x = none ∧ ∀ q, q ∈ M → rt1 q = rt q) (hp : pr1 x = some y ∧ ∀ q, q ∈ M → pr1 q = pr q) : ZI lf1 rt1 pr1 ro ((true, y, r) :: c) (TN x .leaf .leaf) (x :: M) := by
  have hy : y ∈ M := h.memT (by simp [tio])
  have hT := fun q (hq : q ∈ tio (TN y .leaf r)) => h.memT hq
  have hC := fun q (hq : q ∈ tca c) => h.memC hq
  have hM := h.2.2.2.2
  obtain ⟨h1, ⟨k1, k2, k3, k4, k5⟩, ⟨n1, n2, n3⟩, h9, -⟩ := h
  simp only [tio, List.nil_append, List.nodup_cons, List.mem_cons] at n1 n2 hT
  have key : tre lf1 rt1 pr1 r (some y) := tre_upd k5 (fun q hq => ⟨hl.2.2 q (hT q (Or.inr hq)) (fun e => n1.1 (by rw [← e]; exact hq)), hr.2 q (hT q (Or.inr hq)), hp.2 q (hT q (Or.inr hq))⟩)
  have kc : tcx lf1 rt1 pr1 c (some y) := tcx_upd h1 (fun q hq => ⟨hl.2.2 q (hC q hq) (fun e => n2 y (Or.inl rfl) (by rw [← e]; exact hq)), hr.2 q (hC q hq), hp.2 q (hC q hq)⟩)
  refine ⟨⟨⟨hl.1, ?_⟩, ?_, key, kc⟩, ⟨hl.2.1, hr.1, hp.1, trivial, trivial⟩, ⟨by simp [tio], ?_, ?_⟩, ?_, ?_⟩
  · rw [hr.2 y hy]; exact k2
  · rw [hp.2 y hy]; exact k3
  · intro q hq
    simp only [tio, List.nil_append, List.mem_singleton] at hq
    subst hq
    simp only [tca, List.mem_cons, List.mem_append]
    rintro (e | e | e)
    · exact hx (by rw [e]; exact hy)
    · exact hx (hT _ (Or.inr e))
    · exact hx (hC _ e)
  · simp only [tca, List.nodup_cons, List.nodup_append, List.mem_append]
    exact ⟨fun e => by rcases e with e | e; exact n1.1 e; exact n2 y (Or.inl rfl) e, n1.2, n3, fun a ha b hb e => n2 a (Or.inr ha) (by rw [e]; exact hb)⟩
  · rw [h9]
    cases c with
    | nil => rfl
    | cons f c =>
      obtain ⟨z, -, h2⟩ := tA_pl f c
      rw [h2]
      exact (h2 (TN y (TN x .leaf .leaf) r)).symm
  · intro q
    rw [List.mem_cons, hM q, tio_pl, tio_pl]
    simp [tbe, taf, tio]
    grind
theorem tca_mi_mem (c : TC) (x : Nat) : x ∈ tca (tmc c) ↔ x ∈ tca c := tca_mc c x
theorem tpl_mi : ∀ (c : TC) (t : TT), tpl (tmc c) (tmi t) = tmi (tpl c t)
  | [], t => rfl
  | (b, a, s) :: c, t => by
    have h := tpl_mi c (if b = true then TN a t s else TN a s t)
    rw [show tpl ((b, a, s) :: c) t = tpl c (if b = true then TN a t s else TN a s t) from rfl, ← h]
    cases b <;> rfl
theorem ZI.mi {lf rt pr : Nat → Option Nat} {ro : Option Nat} {c : TC} {t : TT} {M : List Nat} (h : ZI lf rt pr ro c t M) : ZI rt lf pr ro (tmc c) (tmi t) M := by
  obtain ⟨h1, h2, h3, h4, h5⟩ := h
  refine ⟨by rw [tA_mi]; exact tcx_mc h1, by rw [tup_mc]; exact tre_mi h2, h3.mi, by rw [tA_tpl_mi]; exact h4, fun y => ?_⟩
  rw [tpl_mi, tio_mi, List.mem_reverse]
  exact h5 y
theorem ZI.insR {lf rt pr lf1 rt1 pr1 : Nat → Option Nat} {ro : Option Nat} {c : TC} {y x : Nat} {l : TT} {M : List Nat} (h : ZI lf rt pr ro c (TN y l .leaf) M) (hx : x ∉ M) (hr : rt1 y = some x ∧ rt1 x = none ∧ ∀ q, q ∈ M → q ≠ y → rt1 q = rt q) (hl : lf1 x = none ∧ ∀ q, q ∈ M → lf1 q = lf q) (hp : pr1 x = some y ∧ ∀ q, q ∈ M → pr1 q = pr q) : ZI lf1 rt1 pr1 ro ((false, y, l) :: c) (TN x .leaf .leaf) (x :: M) := by
  have q := ZI.insL (lf1 := rt1) (rt1 := lf1) (pr1 := pr1) (x := x) (r := tmi l) h.mi hx hr hl hp
  have q2 := q.mi
  simp only [tmc, tmi, tmi_mi, tmc_mc, Bool.not_true] at q2
  exact q2
theorem tA_tpl_eq : ∀ (c : TC) (x y : TT), tA x = tA y → tA (tpl c x) = tA (tpl c y)
  | [], _, _, h => h
  | (b, a, s) :: c, x, y, h => by
    show tA (tpl c (if b = true then TN a x s else TN a s x)) = tA (tpl c (if b = true then TN a y s else TN a s y))
    exact tA_tpl_eq c _ _ (by cases b <;> rfl)
theorem ZI.nrm {lf rt pr : Nat → Option Nat} {ro : Option Nat} {c : TC} {n b : Nat} {u : Unit} {l r : TT} {M : List Nat} (h : ZI lf rt pr ro c (.inner n b u l r) M) : ZI lf rt pr ro c (TN b l r) M := by
  obtain ⟨h1, h2, h3, h4, h5⟩ := h
  refine ⟨h1, h2, h3, h4.trans (tA_tpl_eq c _ _ rfl), fun y => ?_⟩
  rw [h5 y, tio_pl, tio_pl]
  exact Iff.rfl
/-- each node of a tree is one of its places -/
theorem ZI.at {lf rt pr : Nat → Option Nat} {ro : Option Nat} {M : List Nat} {a : Nat} : ∀ {t : TT} {c : TC}, ZI lf rt pr ro c t M → a ∈ tio t → ∃ c' l r, ZI lf rt pr ro c' (TN a l r) M ∧ tio (tpl c' (TN a l r)) = tio (tpl c t)
  | .leaf, _, _, h => by cases h
  | .inner n b u l r, c, hZ, h => by
    have hZ' : ZI lf rt pr ro c (TN b l r) M := hZ.nrm
    have he : tio (tpl c (.inner n b u l r)) = tio (tpl c (TN b l r)) := by rw [tio_pl, tio_pl]; rfl
    have hio : a ∈ tio (TN b l r) := h
    simp only [tio, List.mem_append, List.mem_cons] at hio
    rw [he]
    rcases hio with h1 | h1 | h1
    · obtain ⟨c', l', r', e1, e2⟩ := ZI.at hZ'.dnL h1
      exact ⟨c', l', r', e1, e2⟩
    · subst h1; exact ⟨c, l, r, hZ', rfl⟩
    · obtain ⟨c', l', r', e1, e2⟩ := ZI.at hZ'.dnR h1
      exact ⟨c', l', r', e1, e2⟩
theorem split_uniq {x y x' y' : List Nat} {a : Nat} (h : x ++ a :: y = x' ++ a :: y') (hn : (x ++ a :: y).Nodup) : x = x' ∧ y = y' := by
  induction x generalizing x' with
  | nil =>
    cases x' with
    | nil => simp at h; exact ⟨rfl, h⟩
    | cons b x' =>
      simp at h
      have : a ∈ y := by rw [h.2]; simp
      simp at hn
      exact absurd this hn.1
  | cons b x ih =>
    cases x' with
    | nil =>
      simp at h
      exfalso
      obtain ⟨h1, h2⟩ := h
      subst h1
      simp at hn
    | cons d x' =>
      simp at h
      obtain ⟨e1, e2⟩ := h
      subst e1
      have hn2 : (x ++ a :: y).Nodup := (List.nodup_cons.mp hn).2
      have := ih e2 hn2
      exact ⟨by rw [this.1], this.2⟩
/-! MATH 51: nodes, one more -/
theorem kTN.cons {D : kG} {H : Heap} {M : List Nat} {x kx vx : Nat} {p : Option Nat} {b : Bool} {kf vf : Nat → Nat} {lf rt pr : Nat → Option Nat} {co : Nat → Bool} (h : kTN D H M kf vf lf rt pr co) (hx : x ∉ M) (hb : kBase D ≤ x) (hO : kO D H x 16 [.ref kx, .ref vx, .null, .null, va_rf p, .int (kI (kb b))]) : kTN D H (x :: M) (kup kf x kx) (kup vf x vx) (kupq lf x none) (kupq rt x none) (kupq pr x p) (kup co x b) := by
  intro a ha
  by_cases e : a = x
  · subst e
    rw [kupq_self, kupq_self, kupq_self]
    simp only [kup, if_true]
    exact ⟨hb, hO⟩
  · have ha' : a ∈ M := (List.mem_cons.mp ha).resolve_left e
    rw [kupq_ne e, kupq_ne e, kupq_ne e]
    simp only [kup, if_neg e]
    exact h a ha'
set_option maxHeartbeats 4000000 in
set_option maxRecDepth 100000 in
theorem m_J14_requireNonNull (l : Launch) (D : kG) (H : Heap) (x : Nat) : Met l yJ14_requireNonNull (ws_ yJ14_requireNonNull cJ14_requireNonNull 1 (some (.object "java/lang/Object"))) ({ frames := 0, cells := 0, slots := 0, locals := 0 } : Room) (kPre D H [.ref x]) (kQr (fun (r : Nat) H' => H' = H ∧ r = x) kNO) (0) (0) (kNO) := by
  refine Met.ofW (cc := cJ14_requireNonNull) (maxL := 1) (ret := (some (.object "java/lang/Object"))) (by decide) rfl ?_
  intro p e s m args below meth c s₁ B hml hv
  obtain ⟨rfl, hH, hK⟩ := hv
  subst hH
  have hx := B.exec
  have hb := B.bytes
  have hr := B.returns
  have hts := atoms_spec (ws := ws_ yJ14_requireNonNull cJ14_requireNonNull 1 (some (.object "java/lang/Object"))) B.pre
  have hts : ∀ w ∈ lw_all, w.before _ s = true := fun w h => hts w (List.mem_cons_of_mem _ h)
  have hown : s.vm.findClass RJ14 = some m.cls := findClass_of_methodNamed B.named
  have hlk := B.notSynchronized
  have hS : va_S kNO s.heap s.heap [] := va_S.rf
  have hB : ∀ q, kNO q → kBase D ≤ q := fun _ h => h.elim
  have hl := lv_entry ([.ref x]) (n := 1) (Nat.le_of_ble_eq_true rfl)
  rw [lg_entry_eq]
  generalize (lg_sl ([.ref x]) ++ List.replicate (1 - (lg_sl ([.ref x])).length) Slot.unset).toArray = ls at hl ⊢
  have hl : lv_has ls 1 [(0, .ref x)] := hl
  refine lv_aload_n hx hb dJ14_requireNonNull_0 rfl (lv_at hl 0 rfl) ?_
  refine lv_ifnonnull (tgt := 12) hx hb dJ14_requireNonNull_1 (by decide) ?_
  refine lv_aload_n hx hb dJ14_requireNonNull_12 rfl (lv_at hl 0 rfl) ?_
  exact kx_aret (z := x) hx hb hr (by first | exact Or.inl ⟨_, rfl⟩ | exact Or.inr ⟨_, rfl⟩) hlk (⟨rfl, by rfl⟩) hS dJ14_requireNonNull_13

set_option maxHeartbeats 4000000 in
set_option maxRecDepth 100000 in
theorem m_J27_init (l : Launch) (D : kG) (H : Heap) (mp : Nat) : Met l yJ27_init (ws_ yJ27_init cJ27_init 1 none) ({ frames := 1, cells := 0, slots := 0, locals := 20 } : Room) (kPre D H [.ref mp]) (kQv (fun H' => H' = H ∧ True) kNO) (0) (0) (kNO) := by
  refine Met.ofW (cc := cJ27_init) (maxL := 1) (ret := none) (by decide) rfl ?_
  intro p e s m args below meth c s₁ B hml hv
  obtain ⟨rfl, hH, hK⟩ := hv
  subst hH
  have hx := B.exec
  have hb := B.bytes
  have hr := B.returns
  have hts := atoms_spec (ws := ws_ yJ27_init cJ27_init 1 none) B.pre
  have hts : ∀ w ∈ lw_all, w.before _ s = true := fun w h => hts w (List.mem_cons_of_mem _ h)
  have hown : s.vm.findClass RJ27 = some m.cls := findClass_of_methodNamed B.named
  have hlk := B.notSynchronized
  have hin : meth.name = "<init>" := (name_of_methodNamed B.named B.method).1
  have hS : va_S kNO s.heap s.heap [] := va_S.rf
  have hB : ∀ q, kNO q → kBase D ≤ q := fun _ h => h.elim
  have hl := lv_entry ([.ref mp]) (n := 1) (Nat.le_of_ble_eq_true rfl)
  rw [lg_entry_eq]
  generalize (lg_sl ([.ref mp]) ++ List.replicate (1 - (lg_sl ([.ref mp])).length) Slot.unset).toArray = ls at hl ⊢
  have hl : lv_has ls 1 [(0, .ref mp)] := hl
  refine lv_aload_n hx hb dJ27_init_0 rfl (lv_at hl 0 rfl) ?_
  refine W.objInit hx hb hown (hts _ q541) (hts _ q133) (hts _ q134) rfl (by rw [hml]; exact hl.1) rfl dJ27_init_1 (Nat.le_of_ble_eq_true rfl) (Nat.le_of_ble_eq_true rfl) ?_
  refine W.eq (g2 := F0 m 4 ls []) rfl ?_
  exact kx_vret hx hb hr hlk (⟨rfl, trivial⟩) hS dJ27_init_4

set_option maxHeartbeats 4000000 in
set_option maxRecDepth 100000 in
theorem m_J28_init (l : Launch) (D : kG) (H : Heap) (mp : Nat) (hO_mp : kO D H mp 15 [.null, .null, .null, .null, .int (kI (0)), .int (kI (0)), .null, .null, .null]) (bs_mp : kBase D ≤ mp) : Met l yJ28_init (ws_ yJ28_init cJ28_init 1 none) ({ frames := 2, cells := 0, slots := 0, locals := 40 } : Room) (kPre D H [.ref mp]) (kQv (fun H' => (kO D H' mp 15 [.null, .null, .null, .null, .int (kI (0)), .int (kI (0)), .null, .null, .null])) (fun q : Nat => q = mp)) (0) (0) ((fun q : Nat => q = mp)) := by
  refine Met.ofW (cc := cJ28_init) (maxL := 1) (ret := none) (by decide) rfl ?_
  intro p e s m args below meth c s₁ B hml hv
  obtain ⟨rfl, hH, hK⟩ := hv
  subst hH
  have hx := B.exec
  have hb := B.bytes
  have hr := B.returns
  have hts := atoms_spec (ws := ws_ yJ28_init cJ28_init 1 none) B.pre
  have hts : ∀ w ∈ lw_all, w.before _ s = true := fun w h => hts w (List.mem_cons_of_mem _ h)
  have hown : s.vm.findClass RJ28 = some m.cls := findClass_of_methodNamed B.named
  have hlk := B.notSynchronized
  have hin : meth.name = "<init>" := (name_of_methodNamed B.named B.method).1
  have hS : va_S (fun q : Nat => q = mp) s.heap s.heap [] := va_S.rf
  have hB : ∀ q, (fun q : Nat => q = mp) q → kBase D ≤ q := fun q h => by (try dsimp only at h); (try simp only [kNW] at h); have hks := hK.size; omega
  have hl := lv_entry ([.ref mp]) (n := 1) (Nat.le_of_ble_eq_true rfl)
  rw [lg_entry_eq]
  generalize (lg_sl ([.ref mp]) ++ List.replicate (1 - (lg_sl ([.ref mp])).length) Slot.unset).toArray = ls at hl ⊢
  have hl : lv_has ls 1 [(0, .ref mp)] := hl
  refine lv_aload_n hx hb dJ28_init_0 rfl (lv_at hl 0 rfl) ?_
  refine kx_cv0 (va_runI (As := []) (rest := []) ⟨hx, hb, hml, hown, hts⟩ (m_J27_init l D s.heap mp  ) (cwI 0 hts (lw_meth q540) rfl rfl rfl (hts _ q116) (hts _ q538) (hts _ q539) rfl (by decide +kernel) ⟨Nat.le_of_ble_eq_true rfl, Nat.le_of_ble_eq_true rfl⟩) (kx_ps hK hS hB) rfl rfl hl.1 rfl (lv_room (Nat.le_of_ble_eq_true rfl)) dJ28_init_1 ⟨by first | exact Nat.le_of_ble_eq_true rfl | omega | (show _ ≤ _; omega) | (dsimp only [headSpec]; omega), by first | exact Nat.le_of_ble_eq_true rfl | omega | (show _ ≤ _; omega) | (dsimp only [headSpec]; omega)⟩) hS (fun locs_1 hz_3 hS_2 => ?_)
  refine lv_aload_n hx hb dJ28_init_4 rfl (lv_at hl 0 rfl) ?_
  refine kx_iconst hx hb dJ28_init_5 ?_
  refine kx_put (v := .int (kI (0))) (C := RJ28) (T := TJ28) (N := 9) hx hb hts in_J28 hown hK hO_mp rfl 4 (by decide) tyJ28 tyJ28_ok nmJ28 hS_2 (by first | rfl | exact Or.inl rfl | exact Or.inr rfl | exact Or.inr (Or.inl rfl) | exact Or.inr (Or.inr rfl) | exact Or.inr (Or.inr (Or.inl rfl)) | exact Or.inr (Or.inr (Or.inr rfl)) | ((try dsimp only); (try simp only [kNW]); omega)) q544 (fun _ h9 => h9) rfl rfl rfl rfl (Nat.le_of_ble_eq_true rfl) dJ28_init_6 (fun H_7 locs_8 hO_6 hU_5 hS_9 => ?_)
  have hO_6 : kO D H_7 mp 15 [.null, .null, .null, .null, .int (kI (0)), .int (kI (0)), .null, .null, .null] := hO_6
  have hzu_10 := hU_5.1
  refine lv_aload_n hx hb dJ28_init_9 rfl (lv_at hl 0 rfl) ?_
  refine kx_iconst hx hb dJ28_init_10 ?_
  refine kx_put (v := .int (kI (0))) (C := RJ28) (T := TJ28) (N := 9) hx hb hts in_J28 hown hK hO_6 rfl 5 (by decide) tyJ28 tyJ28_ok nmJ28 hS_9 (by first | rfl | exact Or.inl rfl | exact Or.inr rfl | exact Or.inr (Or.inl rfl) | exact Or.inr (Or.inr rfl) | exact Or.inr (Or.inr (Or.inl rfl)) | exact Or.inr (Or.inr (Or.inr rfl)) | ((try dsimp only); (try simp only [kNW]); omega)) q545 (fun _ h9 => h9) rfl rfl rfl rfl (Nat.le_of_ble_eq_true rfl) dJ28_init_11 (fun H_13 locs_14 hO_12 hU_11 hS_15 => ?_)
  have hO_12 : kO D H_13 mp 15 [.null, .null, .null, .null, .int (kI (0)), .int (kI (0)), .null, .null, .null] := hO_12
  have hzu_16 := hU_11.1
  refine lv_aload_n hx hb dJ28_init_14 rfl (lv_at hl 0 rfl) ?_
  refine lv_null hx hb dJ28_init_15 ?_
  refine kx_putF (v := .null) (C := RJ28) (T := TJ28) (N := 9) hx hb hts in_J28 hown hK hO_12 rfl 2 (by decide) tyJ28 tyJ28_ok nmJ28 hS_15 (by first | rfl | exact Or.inl rfl | exact Or.inr rfl | exact Or.inr (Or.inl rfl) | exact Or.inr (Or.inr rfl) | exact Or.inr (Or.inr (Or.inl rfl)) | exact Or.inr (Or.inr (Or.inr rfl)) | ((try dsimp only); (try simp only [kNW]); omega)) q542 (fun _ h9 => h9) rfl hin rfl rfl rfl rfl (Nat.le_of_ble_eq_true rfl) dJ28_init_16 (fun H_19 locs_20 hO_18 hU_17 hS_21 => ?_)
  have hO_18 : kO D H_19 mp 15 [.null, .null, .null, .null, .int (kI (0)), .int (kI (0)), .null, .null, .null] := hO_18
  have hzu_22 := hU_17.1
  exact kx_vret hx hb hr hlk (hO_18) hS_21 dJ28_init_19

set_option maxHeartbeats 4000000 in
set_option maxRecDepth 100000 in
theorem m_J29_init (l : Launch) (D : kG) (H : Heap) (x : Nat) (kx : Nat) (vx : Nat) (pp : Nat) (hO_x : kO D H x 16 [.null, .null, .null, .null, .null, .int (kI (kb (false)))]) (bs_x : kBase D ≤ x) : Met l yJ29_init (ws_ yJ29_init cJ29_init 4 none) ({ frames := 1, cells := 0, slots := 0, locals := 20 } : Room) (kPre D H [.ref x, .ref kx, .ref vx, .ref pp]) (kQv (fun H' => (kO D H' x 16 [.ref kx, .ref vx, .null, .null, .ref pp, .int (kI (kb (true)))])) (fun q : Nat => q = x)) (0) (0) ((fun q : Nat => q = x)) := by
  refine Met.ofW (cc := cJ29_init) (maxL := 4) (ret := none) (by decide) rfl ?_
  intro p e s m args below meth c s₁ B hml hv
  obtain ⟨rfl, hH, hK⟩ := hv
  subst hH
  have hx := B.exec
  have hb := B.bytes
  have hr := B.returns
  have hts := atoms_spec (ws := ws_ yJ29_init cJ29_init 4 none) B.pre
  have hts : ∀ w ∈ lw_all, w.before _ s = true := fun w h => hts w (List.mem_cons_of_mem _ h)
  have hown : s.vm.findClass RJ29 = some m.cls := findClass_of_methodNamed B.named
  have hlk := B.notSynchronized
  have hin : meth.name = "<init>" := (name_of_methodNamed B.named B.method).1
  have hS : va_S (fun q : Nat => q = x) s.heap s.heap [] := va_S.rf
  have hB : ∀ q, (fun q : Nat => q = x) q → kBase D ≤ q := fun q h => by (try dsimp only at h); (try simp only [kNW] at h); have hks := hK.size; omega
  have hl := lv_entry ([.ref x, .ref kx, .ref vx, .ref pp]) (n := 4) (Nat.le_of_ble_eq_true rfl)
  rw [lg_entry_eq]
  generalize (lg_sl ([.ref x, .ref kx, .ref vx, .ref pp]) ++ List.replicate (4 - (lg_sl ([.ref x, .ref kx, .ref vx, .ref pp])).length) Slot.unset).toArray = ls at hl ⊢
  have hl : lv_has ls 4 [(0, .ref x), (1, .ref kx), (2, .ref vx), (3, .ref pp)] := hl
  refine lv_aload_n hx hb dJ29_init_0 rfl (lv_at hl 0 rfl) ?_
  refine W.objInit hx hb hown (hts _ q847) (hts _ q133) (hts _ q134) rfl (by rw [hml]; exact hl.1) rfl dJ29_init_1 (Nat.le_of_ble_eq_true rfl) (Nat.le_of_ble_eq_true rfl) ?_
  refine W.eq (g2 := F0 m 4 ls []) rfl ?_
  refine lv_aload_n hx hb dJ29_init_4 rfl (lv_at hl 0 rfl) ?_
  refine kx_iconst hx hb dJ29_init_5 ?_
  refine kx_put (v := .int (kI (kb (true)))) (C := RJ29) (T := TJ29) (N := 6) hx hb hts in_J29 hown hK hO_x rfl 5 (by decide) tyJ29 tyJ29_ok nmJ29 hS (by first | rfl | exact Or.inl rfl | exact Or.inr rfl | exact Or.inr (Or.inl rfl) | exact Or.inr (Or.inr rfl) | exact Or.inr (Or.inr (Or.inl rfl)) | exact Or.inr (Or.inr (Or.inr rfl)) | ((try dsimp only); (try simp only [kNW]); omega)) q857 (fun _ h9 => h9) rfl rfl (kb_narZ _) (kb_fitZ _) (Nat.le_of_ble_eq_true rfl) dJ29_init_6 (fun H_3 locs_4 hO_2 hU_1 hS_5 => ?_)
  have hO_2 : kO D H_3 x 16 [.null, .null, .null, .null, .null, .int (kI (kb (true)))] := hO_2
  have hzu_6 := hU_1.1
  refine lv_aload_n hx hb dJ29_init_9 rfl (lv_at hl 0 rfl) ?_
  refine lv_aload_n hx hb dJ29_init_10 rfl (lv_at hl 1 rfl) ?_
  refine kx_put (v := .ref kx) (C := RJ29) (T := TJ29) (N := 6) hx hb hts in_J29 hown hK hO_2 rfl 0 (by decide) tyJ29 tyJ29_ok nmJ29 hS_5 (by first | rfl | exact Or.inl rfl | exact Or.inr rfl | exact Or.inr (Or.inl rfl) | exact Or.inr (Or.inr rfl) | exact Or.inr (Or.inr (Or.inl rfl)) | exact Or.inr (Or.inr (Or.inr rfl)) | ((try dsimp only); (try simp only [kNW]); omega)) q848 (fun _ h9 => h9) rfl rfl rfl rfl (Nat.le_of_ble_eq_true rfl) dJ29_init_11 (fun H_9 locs_10 hO_8 hU_7 hS_11 => ?_)
  have hO_8 : kO D H_9 x 16 [.ref kx, .null, .null, .null, .null, .int (kI (kb (true)))] := hO_8
  have hzu_12 := hU_7.1
  refine lv_aload_n hx hb dJ29_init_14 rfl (lv_at hl 0 rfl) ?_
  refine lv_aload_n hx hb dJ29_init_15 rfl (lv_at hl 2 rfl) ?_
  refine kx_put (v := .ref vx) (C := RJ29) (T := TJ29) (N := 6) hx hb hts in_J29 hown hK hO_8 rfl 1 (by decide) tyJ29 tyJ29_ok nmJ29 hS_11 (by first | rfl | exact Or.inl rfl | exact Or.inr rfl | exact Or.inr (Or.inl rfl) | exact Or.inr (Or.inr rfl) | exact Or.inr (Or.inr (Or.inl rfl)) | exact Or.inr (Or.inr (Or.inr rfl)) | ((try dsimp only); (try simp only [kNW]); omega)) q851 (fun _ h9 => h9) rfl rfl rfl rfl (Nat.le_of_ble_eq_true rfl) dJ29_init_16 (fun H_15 locs_16 hO_14 hU_13 hS_17 => ?_)
  have hO_14 : kO D H_15 x 16 [.ref kx, .ref vx, .null, .null, .null, .int (kI (kb (true)))] := hO_14
  have hzu_18 := hU_13.1
  refine lv_aload_n hx hb dJ29_init_19 rfl (lv_at hl 0 rfl) ?_
  refine lv_aload_n hx hb dJ29_init_20 rfl (lv_at hl 3 rfl) ?_
  refine kx_put (v := .ref pp) (C := RJ29) (T := TJ29) (N := 6) hx hb hts in_J29 hown hK hO_14 rfl 4 (by decide) tyJ29 tyJ29_ok nmJ29 hS_17 (by first | rfl | exact Or.inl rfl | exact Or.inr rfl | exact Or.inr (Or.inl rfl) | exact Or.inr (Or.inr rfl) | exact Or.inr (Or.inr (Or.inl rfl)) | exact Or.inr (Or.inr (Or.inr rfl)) | ((try dsimp only); (try simp only [kNW]); omega)) q855 (fun _ h9 => h9) rfl rfl rfl rfl (Nat.le_of_ble_eq_true rfl) dJ29_init_21 (fun H_21 locs_22 hO_20 hU_19 hS_23 => ?_)
  have hO_20 : kO D H_21 x 16 [.ref kx, .ref vx, .null, .null, .ref pp, .int (kI (kb (true)))] := hO_20
  have hzu_24 := hU_19.1
  exact kx_vret hx hb hr hlk (hO_20) hS_23 dJ29_init_24

set_option maxHeartbeats 4000000 in
set_option maxRecDepth 100000 in
theorem m_J29_init_n (l : Launch) (D : kG) (H : Heap) (x : Nat) (kx : Nat) (vx : Nat) (hO_x : kO D H x 16 [.null, .null, .null, .null, .null, .int (kI (kb (false)))]) (bs_x : kBase D ≤ x) : Met l yJ29_init (ws_ yJ29_init cJ29_init 4 none) ({ frames := 1, cells := 0, slots := 0, locals := 20 } : Room) (kPre D H [.ref x, .ref kx, .ref vx, .null]) (kQv (fun H' => (kO D H' x 16 [.ref kx, .ref vx, .null, .null, .null, .int (kI (kb (true)))])) (fun q : Nat => q = x)) (0) (0) ((fun q : Nat => q = x)) := by
  refine Met.ofW (cc := cJ29_init) (maxL := 4) (ret := none) (by decide) rfl ?_
  intro p e s m args below meth c s₁ B hml hv
  obtain ⟨rfl, hH, hK⟩ := hv
  subst hH
  have hx := B.exec
  have hb := B.bytes
  have hr := B.returns
  have hts := atoms_spec (ws := ws_ yJ29_init cJ29_init 4 none) B.pre
  have hts : ∀ w ∈ lw_all, w.before _ s = true := fun w h => hts w (List.mem_cons_of_mem _ h)
  have hown : s.vm.findClass RJ29 = some m.cls := findClass_of_methodNamed B.named
  have hlk := B.notSynchronized
  have hin : meth.name = "<init>" := (name_of_methodNamed B.named B.method).1
  have hS : va_S (fun q : Nat => q = x) s.heap s.heap [] := va_S.rf
  have hB : ∀ q, (fun q : Nat => q = x) q → kBase D ≤ q := fun q h => by (try dsimp only at h); (try simp only [kNW] at h); have hks := hK.size; omega
  have hl := lv_entry ([.ref x, .ref kx, .ref vx, .null]) (n := 4) (Nat.le_of_ble_eq_true rfl)
  rw [lg_entry_eq]
  generalize (lg_sl ([.ref x, .ref kx, .ref vx, .null]) ++ List.replicate (4 - (lg_sl ([.ref x, .ref kx, .ref vx, .null])).length) Slot.unset).toArray = ls at hl ⊢
  have hl : lv_has ls 4 [(0, .ref x), (1, .ref kx), (2, .ref vx), (3, .null)] := hl
  refine lv_aload_n hx hb dJ29_init_0 rfl (lv_at hl 0 rfl) ?_
  refine W.objInit hx hb hown (hts _ q847) (hts _ q133) (hts _ q134) rfl (by rw [hml]; exact hl.1) rfl dJ29_init_1 (Nat.le_of_ble_eq_true rfl) (Nat.le_of_ble_eq_true rfl) ?_
  refine W.eq (g2 := F0 m 4 ls []) rfl ?_
  refine lv_aload_n hx hb dJ29_init_4 rfl (lv_at hl 0 rfl) ?_
  refine kx_iconst hx hb dJ29_init_5 ?_
  refine kx_put (v := .int (kI (kb (true)))) (C := RJ29) (T := TJ29) (N := 6) hx hb hts in_J29 hown hK hO_x rfl 5 (by decide) tyJ29 tyJ29_ok nmJ29 hS (by first | rfl | exact Or.inl rfl | exact Or.inr rfl | exact Or.inr (Or.inl rfl) | exact Or.inr (Or.inr rfl) | exact Or.inr (Or.inr (Or.inl rfl)) | exact Or.inr (Or.inr (Or.inr rfl)) | ((try dsimp only); (try simp only [kNW]); omega)) q857 (fun _ h9 => h9) rfl rfl (kb_narZ _) (kb_fitZ _) (Nat.le_of_ble_eq_true rfl) dJ29_init_6 (fun H_3 locs_4 hO_2 hU_1 hS_5 => ?_)
  have hO_2 : kO D H_3 x 16 [.null, .null, .null, .null, .null, .int (kI (kb (true)))] := hO_2
  have hzu_6 := hU_1.1
  refine lv_aload_n hx hb dJ29_init_9 rfl (lv_at hl 0 rfl) ?_
  refine lv_aload_n hx hb dJ29_init_10 rfl (lv_at hl 1 rfl) ?_
  refine kx_put (v := .ref kx) (C := RJ29) (T := TJ29) (N := 6) hx hb hts in_J29 hown hK hO_2 rfl 0 (by decide) tyJ29 tyJ29_ok nmJ29 hS_5 (by first | rfl | exact Or.inl rfl | exact Or.inr rfl | exact Or.inr (Or.inl rfl) | exact Or.inr (Or.inr rfl) | exact Or.inr (Or.inr (Or.inl rfl)) | exact Or.inr (Or.inr (Or.inr rfl)) | ((try dsimp only); (try simp only [kNW]); omega)) q848 (fun _ h9 => h9) rfl rfl rfl rfl (Nat.le_of_ble_eq_true rfl) dJ29_init_11 (fun H_9 locs_10 hO_8 hU_7 hS_11 => ?_)
  have hO_8 : kO D H_9 x 16 [.ref kx, .null, .null, .null, .null, .int (kI (kb (true)))] := hO_8
  have hzu_12 := hU_7.1
  refine lv_aload_n hx hb dJ29_init_14 rfl (lv_at hl 0 rfl) ?_
  refine lv_aload_n hx hb dJ29_init_15 rfl (lv_at hl 2 rfl) ?_
  refine kx_put (v := .ref vx) (C := RJ29) (T := TJ29) (N := 6) hx hb hts in_J29 hown hK hO_8 rfl 1 (by decide) tyJ29 tyJ29_ok nmJ29 hS_11 (by first | rfl | exact Or.inl rfl | exact Or.inr rfl | exact Or.inr (Or.inl rfl) | exact Or.inr (Or.inr rfl) | exact Or.inr (Or.inr (Or.inl rfl)) | exact Or.inr (Or.inr (Or.inr rfl)) | ((try dsimp only); (try simp only [kNW]); omega)) q851 (fun _ h9 => h9) rfl rfl rfl rfl (Nat.le_of_ble_eq_true rfl) dJ29_init_16 (fun H_15 locs_16 hO_14 hU_13 hS_17 => ?_)
  have hO_14 : kO D H_15 x 16 [.ref kx, .ref vx, .null, .null, .null, .int (kI (kb (true)))] := hO_14
  have hzu_18 := hU_13.1
  refine lv_aload_n hx hb dJ29_init_19 rfl (lv_at hl 0 rfl) ?_
  refine lv_aload_nN hx hb dJ29_init_20 rfl (lv_at hl 3 rfl) ?_
  refine kx_put (v := .null) (C := RJ29) (T := TJ29) (N := 6) hx hb hts in_J29 hown hK hO_14 rfl 4 (by decide) tyJ29 tyJ29_ok nmJ29 hS_17 (by first | rfl | exact Or.inl rfl | exact Or.inr rfl | exact Or.inr (Or.inl rfl) | exact Or.inr (Or.inr rfl) | exact Or.inr (Or.inr (Or.inl rfl)) | exact Or.inr (Or.inr (Or.inr rfl)) | ((try dsimp only); (try simp only [kNW]); omega)) q855 (fun _ h9 => h9) rfl rfl rfl rfl (Nat.le_of_ble_eq_true rfl) dJ29_init_21 (fun H_21 locs_22 hO_20 hU_19 hS_23 => ?_)
  have hO_20 : kO D H_21 x 16 [.ref kx, .ref vx, .null, .null, .null, .int (kI (kb (true)))] := hO_20
  have hzu_24 := hU_19.1
  exact kx_vret hx hb hr hlk (hO_20) hS_23 dJ29_init_24

set_option maxHeartbeats 4000000 in
set_option maxRecDepth 100000 in
theorem m_J28_compare (l : Launch) (D : kG) (H : Heap) (mp : Nat) (ro : Option Nat) (sz : Nat) (mc : Int) (ks : Option Nat) (kx : Nat) (K : Int) (hO_mp : kO D H mp 15 [.null, .null, .null, va_rf (ro), .int (kI ((sz : Nat) : Int)), .int (kI (mc)), .null, va_rf (ks), .null]) (hO_kx : kO D H kx 14 [.int (kI (K))]) (hKr : 0 ≤ K ∧ K ≤ 1000) : Met l yJ28_compare (ws_ yJ28_compare cJ28_compare 3 (some .int)) ({ frames := 3, cells := 0, slots := 0, locals := 63 } : Room) (kPre D H [.ref mp, .ref kx, .ref kx]) (kQi (fun (r : Int) H' => H' = H ∧ r = i_cmp K K) kNO) (0) (0) (kNO) := by
  refine Met.ofW (cc := cJ28_compare) (maxL := 3) (ret := (some .int)) (by decide) rfl ?_
  intro p e s m args below meth c s₁ B hml hv
  obtain ⟨rfl, hH, hK⟩ := hv
  subst hH
  have hx := B.exec
  have hb := B.bytes
  have hr := B.returns
  have hts := atoms_spec (ws := ws_ yJ28_compare cJ28_compare 3 (some .int)) B.pre
  have hts : ∀ w ∈ lw_all, w.before _ s = true := fun w h => hts w (List.mem_cons_of_mem _ h)
  have hown : s.vm.findClass RJ28 = some m.cls := findClass_of_methodNamed B.named
  have hlk := B.notSynchronized
  have hS : va_S kNO s.heap s.heap [] := va_S.rf
  have hB : ∀ q, kNO q → kBase D ≤ q := fun _ h => h.elim
  have hl := lv_entry ([.ref mp, .ref kx, .ref kx]) (n := 3) (Nat.le_of_ble_eq_true rfl)
  rw [lg_entry_eq]
  generalize (lg_sl ([.ref mp, .ref kx, .ref kx]) ++ List.replicate (3 - (lg_sl ([.ref mp, .ref kx, .ref kx])).length) Slot.unset).toArray = ls at hl ⊢
  have hl : lv_has ls 3 [(0, .ref mp), (1, .ref kx), (2, .ref kx)] := hl
  refine lv_aload_n hx hb dJ28_compare_0 rfl (lv_at hl 0 rfl) ?_
  refine kx_get (v := .null) (C := RJ28) (T := TJ28) (N := 9) hx hb hts in_J28 hown hK hO_mp rfl 2 (by decide) q542 (fun _ h9 => h9) rfl dJ28_compare_1 ?_
  refine lv_ifnonnullN hx hb dJ28_compare_4 ?_
  refine lv_aload_n hx hb dJ28_compare_7 rfl (lv_at hl 1 rfl) ?_
  refine kx_castY hx hb hts hown q603 hK hO_kx rfl (hK.w q608 rfl) dJ28_compare_8 ?_
  refine lv_aload_n hx hb dJ28_compare_11 rfl (lv_at hl 2 rfl) ?_
  refine kx_cFi0 (va_runF (C := RJ23) (As := [.ref kx]) (rest := []) (hK.at (ci := 14) rfl) ⟨hx, hb, hml, hown, hts⟩ (m_J23_compareTo l D s.heap kx kx K K hO_kx hO_kx (by first | assumption | omega) (by first | assumption | omega)) (va_cwF (x := ({ cls := "java/lang/Comparable", name := "compareTo", desc := "(Ljava/lang/Object;)I" } : Jvm.MethodName)) 1 hts (lw_F q605 q609 q611 q111 q613) rfl rfl rfl (hK.fw (by decide)) (by decide +kernel) ⟨Nat.le_of_ble_eq_true rfl, Nat.le_of_ble_eq_true rfl⟩) (kx_pv hK hS hB (kx_rc hK hO_kx (C := RJ23) (T := TJ23) (N := 1) rfl)) rfl rfl hl.1 rfl (lv_room (Nat.le_of_ble_eq_true rfl)) dJ28_compare_12 ⟨by first | exact Nat.le_of_ble_eq_true rfl | omega | (show _ ≤ _; omega) | (dsimp only [headSpec]; omega), by first | exact Nat.le_of_ble_eq_true rfl | omega | (show _ ≤ _; omega) | (dsimp only [headSpec]; omega)⟩) hS (fun z_4 locs_1 hz_3 hS_2 => ?_)
  subst z_4
  refine lv_goto (tgt := 31) hx hb dJ28_compare_17 (by decide) ?_
  exact kx_iret (z := i_cmp K K) hx hb hr hlk (⟨rfl, by rfl⟩) hS_2 dJ28_compare_31

set_option maxHeartbeats 4000000 in
set_option maxRecDepth 100000 in
theorem m_J28_addEntryToEmptyMap (l : Launch) (D : kG) (H : Heap) (mp : Nat) (mc : Int) (ks : Option Nat) (kx : Nat) (vx : Nat) (K : Int) (hO_mp : kO D H mp 15 [.null, .null, .null, .null, .int (kI (0)), .int (kI (mc)), .null, va_rf (ks), .null]) (hO_kx : kO D H kx 14 [.int (kI (K))]) (hKr : 0 ≤ K ∧ K ≤ 1000) (bs_mp : kBase D ≤ mp) (hmc : 0 ≤ mc ∧ mc ≤ 1000) : Met l yJ28_addEntryToEmptyMap (ws_ yJ28_addEntryToEmptyMap cJ28_addEntryToEmptyMap 3 none) ({ frames := 4, cells := 1, slots := 6, locals := 85 } : Room) (kPre D H [.ref mp, .ref kx, .ref vx]) (kQv (fun H' => ∃ (x : Nat), (kO D H' mp 15 [.null, .null, .null, .ref x, .int (kI (1)), .int (kI (mc + 1)), .null, va_rf (ks), .null]) ∧ (kO D H' x 16 [.ref kx, .ref vx, .null, .null, .null, .int (kI (kb (true)))]) ∧ (H.size ≤ x)) (fun q : Nat => q = mp ∨ H.size ≤ q)) (1) (6) ((fun q : Nat => q = mp ∨ H.size ≤ q)) := by
  refine Met.ofW (cc := cJ28_addEntryToEmptyMap) (maxL := 3) (ret := none) (by decide) rfl ?_
  intro p e s m args below meth c s₁ B hml hv
  obtain ⟨rfl, hH, hK⟩ := hv
  subst hH
  have hx := B.exec
  have hb := B.bytes
  have hr := B.returns
  have hts := atoms_spec (ws := ws_ yJ28_addEntryToEmptyMap cJ28_addEntryToEmptyMap 3 none) B.pre
  have hts : ∀ w ∈ lw_all, w.before _ s = true := fun w h => hts w (List.mem_cons_of_mem _ h)
  have hown : s.vm.findClass RJ28 = some m.cls := findClass_of_methodNamed B.named
  have hlk := B.notSynchronized
  have hS : va_S (fun q : Nat => q = mp ∨ s.heap.size ≤ q) s.heap s.heap [] := va_S.rf
  have hB : ∀ q, (fun q : Nat => q = mp ∨ s.heap.size ≤ q) q → kBase D ≤ q := fun q h => by (try dsimp only at h); (try simp only [kNW] at h); have hks := hK.size; omega
  have hl := lv_entry ([.ref mp, .ref kx, .ref vx]) (n := 3) (Nat.le_of_ble_eq_true rfl)
  rw [lg_entry_eq]
  generalize (lg_sl ([.ref mp, .ref kx, .ref vx]) ++ List.replicate (3 - (lg_sl ([.ref mp, .ref kx, .ref vx])).length) Slot.unset).toArray = ls at hl ⊢
  have hl : lv_has ls 3 [(0, .ref mp), (1, .ref kx), (2, .ref vx)] := hl
  have hlt0 := hO_mp.lt
  have hltk := hO_kx.lt
  refine lv_aload_n hx hb dJ28_addEntryToEmptyMap_0 rfl (lv_at hl 0 rfl) ?_
  refine lv_aload_n hx hb dJ28_addEntryToEmptyMap_1 rfl (lv_at hl 1 rfl) ?_
  refine lv_aload_n hx hb dJ28_addEntryToEmptyMap_2 rfl (lv_at hl 1 rfl) ?_
  refine kx_ci0 (va_runV (As := [.ref kx, .ref kx]) (rest := []) ⟨hx, hb, hml, hown, hts⟩ (m_J28_compare l D s.heap mp none 0 mc ks kx K hO_mp hO_kx (by first | assumption | omega)) (cwV 2 hts (lw_V q599 q600 q601 q117 q602) rfl rfl rfl (by decide +kernel) ⟨Nat.le_of_ble_eq_true rfl, Nat.le_of_ble_eq_true rfl⟩) (kx_pv hK hS hB (kx_rc hK hO_mp (C := RJ28) (T := TJ28) (N := 9) rfl)) rfl rfl hl.1 rfl (lv_room (Nat.le_of_ble_eq_true rfl)) dJ28_addEntryToEmptyMap_3 ⟨by first | exact Nat.le_of_ble_eq_true rfl | omega | (show _ ≤ _; omega) | (dsimp only [headSpec]; omega), by first | exact Nat.le_of_ble_eq_true rfl | omega | (show _ ≤ _; omega) | (dsimp only [headSpec]; omega)⟩) hS (fun z_4 locs_1 hz_3 hS_2 => ?_)
  subst z_4
  refine lv_pop hx hb dJ28_addEntryToEmptyMap_6 rfl ?_
  refine lv_aload_n hx hb dJ28_addEntryToEmptyMap_7 rfl (lv_at hl 0 rfl) ?_
  refine kx_new (ci := 16) (fs := [.null, .null, .null, .null, .null, .int (kI (kb (false)))]) (C := RJ29) (T := TJ29) (N := 6) hx hb hts in_J29 hown hK tyJ29 tyJ29_ok q842 q843 q119 hS_2 rfl (fun j hj => by rcases (show j = 0 ∨ j = 1 ∨ j = 2 ∨ j = 3 ∨ j = 4 ∨ j = 5 by omega) with rfl | rfl | rfl | rfl | rfl | rfl <;> rfl) (by first | exact Nat.le_of_ble_eq_true rfl | omega | (show _ ≤ _; omega) | (dsimp only [headSpec]; omega)) (by first | exact Nat.le_of_ble_eq_true rfl | omega | (show _ ≤ _; omega) | (dsimp only [headSpec]; omega)) dJ28_addEntryToEmptyMap_8 (fun x H_5 hq_6 hz_7 hO_8 hE_9 hS_10 => ?_)
  have hge_x : s.heap.size ≤ x := by rw [hq_6]; exact hS_2.1
  refine W.widen (k := 1) (n := 6) (Nat.le_of_ble_eq_true rfl) (Nat.le_of_ble_eq_true rfl) ?_
  refine lv_dup hx hb dJ28_addEntryToEmptyMap_11 rfl ?_
  refine lv_aload_n hx hb dJ28_addEntryToEmptyMap_12 rfl (lv_at hl 1 rfl) ?_
  refine lv_aload_n hx hb dJ28_addEntryToEmptyMap_13 rfl (lv_at hl 2 rfl) ?_
  refine lv_null hx hb dJ28_addEntryToEmptyMap_14 ?_
  refine kx_cv (va_runI (As := [.ref kx, .ref vx, .null]) (rest := [.ref x, .ref mp]) ⟨hx, hb, hml, hown, hts⟩ (m_J29_init_n l D H_5 x kx vx hO_8 (by first | assumption | omega)) (cwI 3 hts (lw_meth q846) rfl rfl rfl (hts _ q119) (hts _ q844) (hts _ q845) rfl (by decide +kernel) ⟨Nat.le_of_ble_eq_true rfl, Nat.le_of_ble_eq_true rfl⟩) (kx_ps hK hS_10 hB) rfl rfl hl.1 rfl (lv_room (Nat.le_of_ble_eq_true rfl)) dJ28_addEntryToEmptyMap_15 ⟨by first | exact Nat.le_of_ble_eq_true rfl | omega | (show _ ≤ _; omega) | (dsimp only [headSpec]; omega), by first | exact Nat.le_of_ble_eq_true rfl | omega | (show _ ≤ _; omega) | (dsimp only [headSpec]; omega)⟩) hS_10 (fun q _ h => by have h9 := hS_10.1; (try dsimp only at h); (try dsimp only); (try simp only [kNW] at h); (try simp only [kNW]); omega) (fun q h => by have h9 := hS_10.1; (try dsimp only at h); (try dsimp only); (try simp only [kNW] at h); (try simp only [kNW]); omega) (fun H_14 locs_11 hz_13 hF_15 hS_12 => ?_)
  have hzf_17 := hF_15.1
  refine W.widen (k := 1) (n := 6) (Nat.le_of_ble_eq_true rfl) (Nat.le_of_ble_eq_true rfl) ?_
  have ho_18 := hz_13
  have h_19 := hO_mp.ex hE_9
  have h_20 := h_19.fr hF_15 (fun h => by (try dsimp only at h); (try simp only [kNW] at h); omega)
  refine kx_put (v := .ref x) (C := RJ28) (T := TJ28) (N := 9) hx hb hts in_J28 hown hK h_20 rfl 3 (by decide) tyJ28 tyJ28_ok nmJ28 hS_12 (by first | rfl | exact Or.inl rfl | exact Or.inr rfl | exact Or.inr (Or.inl rfl) | exact Or.inr (Or.inr rfl) | exact Or.inr (Or.inr (Or.inl rfl)) | exact Or.inr (Or.inr (Or.inr rfl)) | ((try dsimp only); (try simp only [kNW]); omega)) q543 (fun _ h9 => h9) rfl rfl rfl rfl (Nat.le_of_ble_eq_true rfl) dJ28_addEntryToEmptyMap_18 (fun H_23 locs_24 hO_22 hU_21 hS_25 => ?_)
  have hO_22 : kO D H_23 mp 15 [.null, .null, .null, .ref x, .int (kI (0)), .int (kI (mc)), .null, va_rf (ks), .null] := hO_22
  have hzu_26 := hU_21.1
  refine lv_aload_n hx hb dJ28_addEntryToEmptyMap_21 rfl (lv_at hl 0 rfl) ?_
  refine kx_iconst hx hb dJ28_addEntryToEmptyMap_22 ?_
  refine kx_put (v := .int (kI (1))) (C := RJ28) (T := TJ28) (N := 9) hx hb hts in_J28 hown hK hO_22 rfl 4 (by decide) tyJ28 tyJ28_ok nmJ28 hS_25 (by first | rfl | exact Or.inl rfl | exact Or.inr rfl | exact Or.inr (Or.inl rfl) | exact Or.inr (Or.inr rfl) | exact Or.inr (Or.inr (Or.inl rfl)) | exact Or.inr (Or.inr (Or.inr rfl)) | ((try dsimp only); (try simp only [kNW]); omega)) q544 (fun _ h9 => h9) rfl rfl rfl rfl (Nat.le_of_ble_eq_true rfl) dJ28_addEntryToEmptyMap_23 (fun H_29 locs_30 hO_28 hU_27 hS_31 => ?_)
  have hO_28 : kO D H_29 mp 15 [.null, .null, .null, .ref x, .int (kI (1)), .int (kI (mc)), .null, va_rf (ks), .null] := hO_28
  have hzu_32 := hU_27.1
  refine lv_aload_n hx hb dJ28_addEntryToEmptyMap_26 rfl (lv_at hl 0 rfl) ?_
  refine lv_dup hx hb dJ28_addEntryToEmptyMap_27 rfl ?_
  refine kx_get (v := .int (kI (mc))) (C := RJ28) (T := TJ28) (N := 9) hx hb hts in_J28 hown hK hO_28 rfl 5 (by decide) q545 (fun _ h9 => h9) rfl dJ28_addEntryToEmptyMap_28 ?_
  refine kx_iconst hx hb dJ28_addEntryToEmptyMap_31 ?_
  refine kx_iadd hx hb dJ28_addEntryToEmptyMap_32 ?_
  refine kx_put (v := .int (kI ((mc + 1)))) (C := RJ28) (T := TJ28) (N := 9) hx hb hts in_J28 hown hK hO_28 rfl 5 (by decide) tyJ28 tyJ28_ok nmJ28 hS_31 (by first | rfl | exact Or.inl rfl | exact Or.inr rfl | exact Or.inr (Or.inl rfl) | exact Or.inr (Or.inr rfl) | exact Or.inr (Or.inr (Or.inl rfl)) | exact Or.inr (Or.inr (Or.inr rfl)) | ((try dsimp only); (try simp only [kNW]); omega)) q545 (fun _ h9 => h9) rfl rfl rfl rfl (Nat.le_of_ble_eq_true rfl) dJ28_addEntryToEmptyMap_33 (fun H_35 locs_36 hO_34 hU_33 hS_37 => ?_)
  have hO_34 : kO D H_35 mp 15 [.null, .null, .null, .ref x, .int (kI (1)), .int (kI ((mc + 1))), .null, va_rf (ks), .null] := hO_34
  have hzu_38 := hU_33.1
  have h_39 := ho_18.up hU_21 (by first | assumption | exact Ne.symm (by assumption)  | omega | (have h9 := ho_18.lt; omega))
  have h_40 := h_39.up hU_27 (by first | assumption | exact Ne.symm (by assumption)  | omega | (have h9 := h_39.lt; omega))
  have h_41 := h_40.up hU_33 (by first | assumption | exact Ne.symm (by assumption)  | omega | (have h9 := h_40.lt; omega))
  exact kx_vret hx hb hr hlk (⟨x, hO_34, h_41, by first | assumption | rfl | omega | grind⟩) hS_37 dJ28_addEntryToEmptyMap_36

set_option maxHeartbeats 4000000 in
set_option maxRecDepth 100000 in
theorem m_J28_addEntry_L (l : Launch) (D : kG) (H : Heap) (mp : Nat) (ro : Option Nat) (sz : Nat) (mc : Int) (ks : Option Nat) (M : List Nat) (kf : Nat → Nat) (vf : Nat → Nat) (lf : Nat → Option Nat) (rt : Nat → Option Nat) (pr : Nat → Option Nat) (co : Nat → Bool) (kx : Nat) (vx : Nat) (y : Nat) (cz : TC) (sub : TT) (hO_mp : kO D H mp 15 [.null, .null, .null, va_rf (ro), .int (kI ((sz : Nat) : Int)), .int (kI (mc)), .null, .null, .null]) (hP_kTN_M : kTN D H M kf vf lf rt pr co) (hZ : ZI lf rt pr ro cz (TN y .leaf sub) M) (hbl : ∀ a, ro = some a → co a = true) (bs_mp : kBase D ≤ mp) (hmpM : mp ∉ M) (hmc : 0 ≤ mc ∧ mc ≤ 1000) (hsz : sz ≤ 1000) : Met l yJ28_addEntry (ws_ yJ28_addEntry cJ28_addEntry 6 none) ({ frames := 2, cells := 1, slots := 6, locals := 44 } : Room) (kPre D H [.ref mp, .ref kx, .ref vx, .ref y, .int (kI (kb (true)))]) (kQv (fun H' => ∃ (x : Nat) (lf2 : Nat → Option Nat) (rt2 : Nat → Option Nat) (pr2 : Nat → Option Nat) (co2 : Nat → Bool) (ro2 : Option Nat) (t2 : TT), (kO D H' mp 15 [.null, .null, .null, va_rf (ro2), .int (kI ((sz + 1 : Nat) : Int)), .int (kI (mc + 1)), .null, .null, .null]) ∧ (kTN D H' ((x :: M)) ((kup kf x kx)) ((kup vf x vx)) lf2 rt2 pr2 co2) ∧ (ZI lf2 rt2 pr2 ro2 [] t2 (x :: M)) ∧ (tio t2 = tio (tpl ((true, y, sub) :: cz) (TN x .leaf .leaf))) ∧ (∀ a, ro2 = some a → co2 a = true) ∧ (H.size ≤ x)) (fun q : Nat => q = mp ∨ q ∈ M ∨ H.size ≤ q)) (1) (6) ((fun q : Nat => q = mp ∨ q ∈ M ∨ H.size ≤ q)) := by
  refine Met.ofW (cc := cJ28_addEntry) (maxL := 6) (ret := none) (by decide) rfl ?_
  intro p e s m args below meth c s₁ B hml hv
  obtain ⟨rfl, hH, hK⟩ := hv
  subst hH
  have hx := B.exec
  have hb := B.bytes
  have hr := B.returns
  have hts := atoms_spec (ws := ws_ yJ28_addEntry cJ28_addEntry 6 none) B.pre
  have hts : ∀ w ∈ lw_all, w.before _ s = true := fun w h => hts w (List.mem_cons_of_mem _ h)
  have hown : s.vm.findClass RJ28 = some m.cls := findClass_of_methodNamed B.named
  have hlk := B.notSynchronized
  have hS : va_S (fun q : Nat => q = mp ∨ q ∈ M ∨ s.heap.size ≤ q) s.heap s.heap [] := va_S.rf
  have hB : ∀ q, (fun q : Nat => q = mp ∨ q ∈ M ∨ s.heap.size ≤ q) q → kBase D ≤ q := fun q h => by (have h1 := hK.size; rcases h with h | h | h; (rw [h]; exact bs_mp); exact (hP_kTN_M q h).1; omega)
  have hl := lv_entry ([.ref mp, .ref kx, .ref vx, .ref y, .int (kI (kb (true)))]) (n := 6) (Nat.le_of_ble_eq_true rfl)
  rw [lg_entry_eq]
  generalize (lg_sl ([.ref mp, .ref kx, .ref vx, .ref y, .int (kI (kb (true)))]) ++ List.replicate (6 - (lg_sl ([.ref mp, .ref kx, .ref vx, .ref y, .int (kI (kb (true)))])).length) Slot.unset).toArray = ls at hl ⊢
  have hl : lv_has ls 6 [(0, .ref mp), (1, .ref kx), (2, .ref vx), (3, .ref y), (4, .int (kI (kb (true))))] := hl
  have hlt0 := hO_mp.lt
  refine kx_new (ci := 16) (fs := [.null, .null, .null, .null, .null, .int (kI (kb (false)))]) (C := RJ29) (T := TJ29) (N := 6) hx hb hts in_J29 hown hK tyJ29 tyJ29_ok q842 q843 q119 hS rfl (fun j hj => by rcases (show j = 0 ∨ j = 1 ∨ j = 2 ∨ j = 3 ∨ j = 4 ∨ j = 5 by omega) with rfl | rfl | rfl | rfl | rfl | rfl <;> rfl) (by first | exact Nat.le_of_ble_eq_true rfl | omega | (show _ ≤ _; omega) | (dsimp only [headSpec]; omega)) (by first | exact Nat.le_of_ble_eq_true rfl | omega | (show _ ≤ _; omega) | (dsimp only [headSpec]; omega)) dJ28_addEntry_0 (fun x H_1 hq_2 hz_3 hO_4 hE_5 hS_6 => ?_)
  have hge_x : s.heap.size ≤ x := by rw [hq_2]; exact hS.1
  refine W.widen (k := 1) (n := 6) (Nat.le_of_ble_eq_true rfl) (Nat.le_of_ble_eq_true rfl) ?_
  refine lv_dup hx hb dJ28_addEntry_3 rfl ?_
  refine lv_aload_n hx hb dJ28_addEntry_4 rfl (lv_at hl 1 rfl) ?_
  refine lv_aload_n hx hb dJ28_addEntry_5 rfl (lv_at hl 2 rfl) ?_
  refine lv_aload_n hx hb dJ28_addEntry_6 rfl (lv_at hl 3 rfl) ?_
  refine kx_cv (va_runI (As := [.ref kx, .ref vx, .ref y]) (rest := [.ref x]) ⟨hx, hb, hml, hown, hts⟩ (m_J29_init l D H_1 x kx vx y hO_4 (by first | assumption | omega)) (cwI 3 hts (lw_meth q846) rfl rfl rfl (hts _ q119) (hts _ q844) (hts _ q845) rfl (by decide +kernel) ⟨Nat.le_of_ble_eq_true rfl, Nat.le_of_ble_eq_true rfl⟩) (kx_ps hK hS_6 hB) rfl rfl hl.1 rfl (lv_room (Nat.le_of_ble_eq_true rfl)) dJ28_addEntry_7 ⟨by first | exact Nat.le_of_ble_eq_true rfl | omega | (show _ ≤ _; omega) | (dsimp only [headSpec]; omega), by first | exact Nat.le_of_ble_eq_true rfl | omega | (show _ ≤ _; omega) | (dsimp only [headSpec]; omega)⟩) hS_6 (fun q _ h => Or.inr (Or.inr (by have := show q = _ from h; omega))) (fun q h => Or.inr (Or.inr (by have := show q = _ from h; omega))) (fun H_10 locs_7 hz_9 hF_11 hS_8 => ?_)
  have hzf_13 := hF_11.1
  refine W.widen (k := 1) (n := 6) (Nat.le_of_ble_eq_true rfl) (Nat.le_of_ble_eq_true rfl) ?_
  have ho_14 := hz_9
  have h_15 := hP_kTN_M.ex hE_5
  have h_16 := h_15.fr hF_11 (fun a ha h => by have h9 := (hP_kTN_M a ha).2.lt; have := show a = _ from h; omega)
  have hxM : x ∉ M := fun z => by have h9 := (hP_kTN_M x z).2.lt; omega
  have hTN_17 : kTN D H_10 (x :: M) (kup kf x kx) (kup vf x vx) (kupq lf x none) (kupq rt x none) (kupq pr x (some y)) (kup co x true) := h_16.cons hxM (by omega) ho_14
  have hyM : y ∈ M := hZ.memT (by simp [tio])
  have hyX : y ∈ x :: M := List.mem_cons_of_mem _ hyM
  have hyx : y ≠ x := fun z => hxM (by rw [← z]; exact hyM)
  obtain ⟨hBN_19, hN_18⟩ := hTN_17 y (hyX)
  refine lv_astore (lv' := [(5, .ref x), (0, .ref mp), (1, .ref kx), (2, .ref vx), (3, .ref y), (4, .int (kI (kb (true))))]) hx hb dJ28_addEntry_10 hl (by decide) rfl (fun ls hl => ?_)
  refine lv_iload hx hb dJ28_addEntry_12 (lv_at hl 5 rfl) ?_
  refine kx_ifz (tgt := 26) hx hb dJ28_addEntry_14 (by decide) (fun c_14_20 => ?_) (fun c_14_20 => ?_)
  · -- taken at 14
    exact absurd c_14_20 (by decide)
  · -- not taken at 14
    refine lv_aload_n hx hb dJ28_addEntry_17 rfl (lv_at hl 4 rfl) ?_
    refine lv_aload hx hb dJ28_addEntry_18 (lv_at hl 0 rfl) ?_
    refine kx_put (v := .ref x) (C := RJ29) (T := TJ29) (N := 6) hx hb hts in_J29 hown hK hN_18 rfl 2 (by decide) tyJ29 tyJ29_ok nmJ29 hS_8 (Or.inr (Or.inl hyM)) q853 (fun _ h9 => h9) rfl rfl rfl rfl (Nat.le_of_ble_eq_true rfl) dJ28_addEntry_20 (fun H_23 locs_24 hO_22 hU_21 hS_25 => ?_)
    have hO_22 : kO D H_23 y 16 [.ref (((kup kf x kx)) y), .ref (((kup vf x vx)) y), .ref x, va_rf (((kupq rt x none)) y), va_rf (((kupq pr x (some y))) y), .int (kI (kb (((kup co x true)) y)))] := hO_22
    have hzu_26 := hU_21.1
    refine lv_goto (tgt := 32) hx hb dJ28_addEntry_23 (by decide) ?_
    obtain ⟨f1, hE_28⟩ : ∃ f, f = (kupq (kupq lf x none) y (some x)) := ⟨_, rfl⟩
    have hTN_27 : kTN D H_23 (x :: M) (kup kf x kx) (kup vf x vx) f1 (kupq rt x none) (kupq pr x (some y)) (kup co x true) := by rw [hE_28]; exact hTN_17.lf hU_21 hO_22
    have hq9 : ∀ q, q ∈ M → q ≠ x := fun q hq z => hxM (by rw [← z]; exact hq)
    have hZ9 := ZI.insL hZ hxM (x := x) (lf1 := f1) (rt1 := kupq rt x none) (pr1 := kupq pr x (some y)) ⟨by rw [hE_28]; exact kupq_self _ _ _, by rw [hE_28, kupq_ne (Ne.symm hyx), kupq_self], fun q hq hy => by rw [hE_28, kupq_ne hy, kupq_ne (hq9 q hq)]⟩ ⟨kupq_self _ _ _, fun q hq => kupq_ne (hq9 q hq)⟩ ⟨kupq_self _ _ _, fun q hq => kupq_ne (hq9 q hq)⟩
    have hbl9 : ∀ a, ro = some a → kup co x true a = true := fun a ha => by have h9 := hbl a ha; unfold kup; split; rfl; exact h9
    have hmp9 : mp ∉ x :: M := fun z => by rcases List.mem_cons.mp z with z | z; omega; exact hmpM z
    refine lv_aload_n hx hb dJ28_addEntry_32 rfl (lv_at hl 1 rfl) ?_
    refine lv_aload hx hb dJ28_addEntry_33 (lv_at hl 0 rfl) ?_
    have h_29 := hO_mp.ex hE_5
    have h_30 := h_29.fr hF_11 (fun h => by have h9 := h_29.lt; have := show _ = _ from h; omega)
    have h_31 := h_30.up hU_21 (by first | assumption | exact Ne.symm (by assumption) | exact fun e9 => hmpM (by rw [e9]; assumption) | omega | (have h9 := h_30.lt; omega))
    refine kx_cv (va_runV (As := [.ref x]) (rest := []) ⟨hx, hb, hml, hown, hts⟩ (m_J28_fixAfterInsertion l D H_23 mp ro sz mc none (x :: M) ((kup kf x kx)) ((kup vf x vx)) f1 ((kupq rt x none)) ((kupq pr x (some y))) ((kup co x true)) x (((true, y, sub) :: cz)) h_31 hTN_27 hZ9 ((fun _ => hbl9)) bs_mp hmp9) (cwV 1 hts (lw_V q879 q881 qs11 q117 q882) rfl rfl rfl (by decide +kernel) ⟨Nat.le_of_ble_eq_true rfl, Nat.le_of_ble_eq_true rfl⟩) (kx_pv hK hS_25 hB (kx_rc hK h_31 (C := RJ28) (T := TJ28) (N := 9) rfl)) rfl rfl hl.1 rfl (lv_room (Nat.le_of_ble_eq_true rfl)) dJ28_addEntry_35 ⟨by first | exact Nat.le_of_ble_eq_true rfl | omega | (show _ ≤ _; omega) | (dsimp only [headSpec]; omega), by first | exact Nat.le_of_ble_eq_true rfl | omega | (show _ ≤ _; omega) | (dsimp only [headSpec]; omega)⟩) hS_25 (fun q _ h => by rcases h with h | h; exact Or.inl h; (rcases List.mem_cons.mp h with h | h; (exact Or.inr (Or.inr (by omega))); exact Or.inr (Or.inl h))) (fun q h => by rcases h with h | h; exact Or.inl h; (rcases List.mem_cons.mp h with h | h; (exact Or.inr (Or.inr (by omega))); exact Or.inr (Or.inl h))) (fun H_35 locs_32 hz_34 hF_36 hS_33 => ?_)
    have hzf_38 := hF_36.1
    refine W.widen (k := 1) (n := 6) (Nat.le_of_ble_eq_true rfl) (Nat.le_of_ble_eq_true rfl) ?_
    obtain ⟨lZ, rZ, pZ, cZ, rrZ, tZ, ho_45, ho_46, hZz, hioz, hblz⟩ := hz_34
    refine lv_aload_n hx hb dJ28_addEntry_38 rfl (lv_at hl 1 rfl) ?_
    refine lv_dup hx hb dJ28_addEntry_39 rfl ?_
    refine kx_get (v := .int (kI ((sz : Nat) : Int))) (C := RJ28) (T := TJ28) (N := 9) hx hb hts in_J28 hown hK ho_45 rfl 4 (by decide) q544 (fun _ h9 => h9) rfl dJ28_addEntry_40 ?_
    refine kx_iconst hx hb dJ28_addEntry_43 ?_
    refine kx_iadd hx hb dJ28_addEntry_44 ?_
    refine kx_put (v := .int (kI ((((sz : Nat) : Int) + 1)))) (C := RJ28) (T := TJ28) (N := 9) hx hb hts in_J28 hown hK ho_45 rfl 4 (by decide) tyJ28 tyJ28_ok nmJ28 hS_33 (by first | rfl | exact Or.inl rfl | exact Or.inr rfl | exact Or.inr (Or.inl rfl) | exact Or.inr (Or.inr rfl) | exact Or.inr (Or.inr (Or.inl rfl)) | exact Or.inr (Or.inr (Or.inr rfl)) | ((try dsimp only); (try simp only [kNW]); omega)) q544 (fun _ h9 => h9) rfl rfl rfl rfl (Nat.le_of_ble_eq_true rfl) dJ28_addEntry_45 (fun H_49 locs_50 hO_48 hU_47 hS_51 => ?_)
    have hO_48 : kO D H_49 mp 15 [.null, .null, .null, va_rf (rrZ), .int (kI ((((sz : Nat) : Int) + 1))), .int (kI (mc)), .null, va_rf (none), .null] := hO_48
    have hzu_52 := hU_47.1
    refine lv_aload_n hx hb dJ28_addEntry_48 rfl (lv_at hl 1 rfl) ?_
    refine lv_dup hx hb dJ28_addEntry_49 rfl ?_
    refine kx_get (v := .int (kI (mc))) (C := RJ28) (T := TJ28) (N := 9) hx hb hts in_J28 hown hK hO_48 rfl 5 (by decide) q545 (fun _ h9 => h9) rfl dJ28_addEntry_50 ?_
    refine kx_iconst hx hb dJ28_addEntry_53 ?_
    refine kx_iadd hx hb dJ28_addEntry_54 ?_
    refine kx_put (v := .int (kI ((mc + 1)))) (C := RJ28) (T := TJ28) (N := 9) hx hb hts in_J28 hown hK hO_48 rfl 5 (by decide) tyJ28 tyJ28_ok nmJ28 hS_51 (by first | rfl | exact Or.inl rfl | exact Or.inr rfl | exact Or.inr (Or.inl rfl) | exact Or.inr (Or.inr rfl) | exact Or.inr (Or.inr (Or.inl rfl)) | exact Or.inr (Or.inr (Or.inr rfl)) | ((try dsimp only); (try simp only [kNW]); omega)) q545 (fun _ h9 => h9) rfl rfl rfl rfl (Nat.le_of_ble_eq_true rfl) dJ28_addEntry_55 (fun H_55 locs_56 hO_54 hU_53 hS_57 => ?_)
    have hO_54 : kO D H_55 mp 15 [.null, .null, .null, va_rf (rrZ), .int (kI ((((sz : Nat) : Int) + 1))), .int (kI ((mc + 1))), .null, va_rf (none), .null] := hO_54
    have hzu_58 := hU_53.1
    have h_59 := ho_46.up hU_47 (by first | assumption | exact Ne.symm (by assumption) | exact fun e9 => hmpM (by rw [e9]; assumption) | omega | (have h9 := ho_46.lt; omega))
    have h_60 := h_59.up hU_53 (by first | assumption | exact Ne.symm (by assumption) | exact fun e9 => hmpM (by rw [e9]; assumption) | omega | (have h9 := h_59.lt; omega))
    exact kx_vret hx hb hr hlk (⟨x, lZ, rZ, pZ, cZ, rrZ, tZ, hO_54, h_60, by first | assumption | rfl | omega | grind, by first | assumption | rfl | omega | grind, by first | assumption | rfl | omega | grind, by first | assumption | rfl | omega | grind⟩) hS_57 dJ28_addEntry_58

set_option maxHeartbeats 4000000 in
set_option maxRecDepth 100000 in
theorem m_J28_addEntry_R (l : Launch) (D : kG) (H : Heap) (mp : Nat) (ro : Option Nat) (sz : Nat) (mc : Int) (ks : Option Nat) (M : List Nat) (kf : Nat → Nat) (vf : Nat → Nat) (lf : Nat → Option Nat) (rt : Nat → Option Nat) (pr : Nat → Option Nat) (co : Nat → Bool) (kx : Nat) (vx : Nat) (y : Nat) (cz : TC) (sub : TT) (hO_mp : kO D H mp 15 [.null, .null, .null, va_rf (ro), .int (kI ((sz : Nat) : Int)), .int (kI (mc)), .null, .null, .null]) (hP_kTN_M : kTN D H M kf vf lf rt pr co) (hZ : ZI lf rt pr ro cz (TN y sub .leaf) M) (hbl : ∀ a, ro = some a → co a = true) (bs_mp : kBase D ≤ mp) (hmpM : mp ∉ M) (hmc : 0 ≤ mc ∧ mc ≤ 1000) (hsz : sz ≤ 1000) : Met l yJ28_addEntry (ws_ yJ28_addEntry cJ28_addEntry 6 none) ({ frames := 2, cells := 1, slots := 6, locals := 44 } : Room) (kPre D H [.ref mp, .ref kx, .ref vx, .ref y, .int (kI (kb (false)))]) (kQv (fun H' => ∃ (x : Nat) (lf2 : Nat → Option Nat) (rt2 : Nat → Option Nat) (pr2 : Nat → Option Nat) (co2 : Nat → Bool) (ro2 : Option Nat) (t2 : TT), (kO D H' mp 15 [.null, .null, .null, va_rf (ro2), .int (kI ((sz + 1 : Nat) : Int)), .int (kI (mc + 1)), .null, .null, .null]) ∧ (kTN D H' ((x :: M)) ((kup kf x kx)) ((kup vf x vx)) lf2 rt2 pr2 co2) ∧ (ZI lf2 rt2 pr2 ro2 [] t2 (x :: M)) ∧ (tio t2 = tio (tpl ((false, y, sub) :: cz) (TN x .leaf .leaf))) ∧ (∀ a, ro2 = some a → co2 a = true) ∧ (H.size ≤ x)) (fun q : Nat => q = mp ∨ q ∈ M ∨ H.size ≤ q)) (1) (6) ((fun q : Nat => q = mp ∨ q ∈ M ∨ H.size ≤ q)) := by
  refine Met.ofW (cc := cJ28_addEntry) (maxL := 6) (ret := none) (by decide) rfl ?_
  intro p e s m args below meth c s₁ B hml hv
  obtain ⟨rfl, hH, hK⟩ := hv
  subst hH
  have hx := B.exec
  have hb := B.bytes
  have hr := B.returns
  have hts := atoms_spec (ws := ws_ yJ28_addEntry cJ28_addEntry 6 none) B.pre
  have hts : ∀ w ∈ lw_all, w.before _ s = true := fun w h => hts w (List.mem_cons_of_mem _ h)
  have hown : s.vm.findClass RJ28 = some m.cls := findClass_of_methodNamed B.named
  have hlk := B.notSynchronized
  have hS : va_S (fun q : Nat => q = mp ∨ q ∈ M ∨ s.heap.size ≤ q) s.heap s.heap [] := va_S.rf
  have hB : ∀ q, (fun q : Nat => q = mp ∨ q ∈ M ∨ s.heap.size ≤ q) q → kBase D ≤ q := fun q h => by (have h1 := hK.size; rcases h with h | h | h; (rw [h]; exact bs_mp); exact (hP_kTN_M q h).1; omega)
  have hl := lv_entry ([.ref mp, .ref kx, .ref vx, .ref y, .int (kI (kb (false)))]) (n := 6) (Nat.le_of_ble_eq_true rfl)
  rw [lg_entry_eq]
  generalize (lg_sl ([.ref mp, .ref kx, .ref vx, .ref y, .int (kI (kb (false)))]) ++ List.replicate (6 - (lg_sl ([.ref mp, .ref kx, .ref vx, .ref y, .int (kI (kb (false)))])).length) Slot.unset).toArray = ls at hl ⊢
  have hl : lv_has ls 6 [(0, .ref mp), (1, .ref kx), (2, .ref vx), (3, .ref y), (4, .int (kI (kb (false))))] := hl
  have hlt0 := hO_mp.lt
  refine kx_new (ci := 16) (fs := [.null, .null, .null, .null, .null, .int (kI (kb (false)))]) (C := RJ29) (T := TJ29) (N := 6) hx hb hts in_J29 hown hK tyJ29 tyJ29_ok q842 q843 q119 hS rfl (fun j hj => by rcases (show j = 0 ∨ j = 1 ∨ j = 2 ∨ j = 3 ∨ j = 4 ∨ j = 5 by omega) with rfl | rfl | rfl | rfl | rfl | rfl <;> rfl) (by first | exact Nat.le_of_ble_eq_true rfl | omega | (show _ ≤ _; omega) | (dsimp only [headSpec]; omega)) (by first | exact Nat.le_of_ble_eq_true rfl | omega | (show _ ≤ _; omega) | (dsimp only [headSpec]; omega)) dJ28_addEntry_0 (fun x H_1 hq_2 hz_3 hO_4 hE_5 hS_6 => ?_)
  have hge_x : s.heap.size ≤ x := by rw [hq_2]; exact hS.1
  refine W.widen (k := 1) (n := 6) (Nat.le_of_ble_eq_true rfl) (Nat.le_of_ble_eq_true rfl) ?_
  refine lv_dup hx hb dJ28_addEntry_3 rfl ?_
  refine lv_aload_n hx hb dJ28_addEntry_4 rfl (lv_at hl 1 rfl) ?_
  refine lv_aload_n hx hb dJ28_addEntry_5 rfl (lv_at hl 2 rfl) ?_
  refine lv_aload_n hx hb dJ28_addEntry_6 rfl (lv_at hl 3 rfl) ?_
  refine kx_cv (va_runI (As := [.ref kx, .ref vx, .ref y]) (rest := [.ref x]) ⟨hx, hb, hml, hown, hts⟩ (m_J29_init l D H_1 x kx vx y hO_4 (by first | assumption | omega)) (cwI 3 hts (lw_meth q846) rfl rfl rfl (hts _ q119) (hts _ q844) (hts _ q845) rfl (by decide +kernel) ⟨Nat.le_of_ble_eq_true rfl, Nat.le_of_ble_eq_true rfl⟩) (kx_ps hK hS_6 hB) rfl rfl hl.1 rfl (lv_room (Nat.le_of_ble_eq_true rfl)) dJ28_addEntry_7 ⟨by first | exact Nat.le_of_ble_eq_true rfl | omega | (show _ ≤ _; omega) | (dsimp only [headSpec]; omega), by first | exact Nat.le_of_ble_eq_true rfl | omega | (show _ ≤ _; omega) | (dsimp only [headSpec]; omega)⟩) hS_6 (fun q _ h => Or.inr (Or.inr (by have := show q = _ from h; omega))) (fun q h => Or.inr (Or.inr (by have := show q = _ from h; omega))) (fun H_10 locs_7 hz_9 hF_11 hS_8 => ?_)
  have hzf_13 := hF_11.1
  refine W.widen (k := 1) (n := 6) (Nat.le_of_ble_eq_true rfl) (Nat.le_of_ble_eq_true rfl) ?_
  have ho_14 := hz_9
  have h_15 := hP_kTN_M.ex hE_5
  have h_16 := h_15.fr hF_11 (fun a ha h => by have h9 := (hP_kTN_M a ha).2.lt; have := show a = _ from h; omega)
  have hxM : x ∉ M := fun z => by have h9 := (hP_kTN_M x z).2.lt; omega
  have hTN_17 : kTN D H_10 (x :: M) (kup kf x kx) (kup vf x vx) (kupq lf x none) (kupq rt x none) (kupq pr x (some y)) (kup co x true) := h_16.cons hxM (by omega) ho_14
  have hyM : y ∈ M := hZ.memT (by simp [tio])
  have hyX : y ∈ x :: M := List.mem_cons_of_mem _ hyM
  have hyx : y ≠ x := fun z => hxM (by rw [← z]; exact hyM)
  obtain ⟨hBN_19, hN_18⟩ := hTN_17 y (hyX)
  refine lv_astore (lv' := [(5, .ref x), (0, .ref mp), (1, .ref kx), (2, .ref vx), (3, .ref y), (4, .int (kI (kb (false))))]) hx hb dJ28_addEntry_10 hl (by decide) rfl (fun ls hl => ?_)
  refine lv_iload hx hb dJ28_addEntry_12 (lv_at hl 5 rfl) ?_
  refine kx_ifz (tgt := 26) hx hb dJ28_addEntry_14 (by decide) (fun c_14_20 => ?_) (fun c_14_20 => ?_)
  · -- taken at 14
    refine lv_aload_n hx hb dJ28_addEntry_26 rfl (lv_at hl 4 rfl) ?_
    refine lv_aload hx hb dJ28_addEntry_27 (lv_at hl 0 rfl) ?_
    refine kx_put (v := .ref x) (C := RJ29) (T := TJ29) (N := 6) hx hb hts in_J29 hown hK hN_18 rfl 3 (by decide) tyJ29 tyJ29_ok nmJ29 hS_8 (Or.inr (Or.inl hyM)) q854 (fun _ h9 => h9) rfl rfl rfl rfl (Nat.le_of_ble_eq_true rfl) dJ28_addEntry_29 (fun H_23 locs_24 hO_22 hU_21 hS_25 => ?_)
    have hO_22 : kO D H_23 y 16 [.ref (((kup kf x kx)) y), .ref (((kup vf x vx)) y), va_rf (((kupq lf x none)) y), .ref x, va_rf (((kupq pr x (some y))) y), .int (kI (kb (((kup co x true)) y)))] := hO_22
    have hzu_26 := hU_21.1
    obtain ⟨f1, hE_28⟩ : ∃ f, f = (kupq (kupq rt x none) y (some x)) := ⟨_, rfl⟩
    have hTN_27 : kTN D H_23 (x :: M) (kup kf x kx) (kup vf x vx) (kupq lf x none) f1 (kupq pr x (some y)) (kup co x true) := by rw [hE_28]; exact hTN_17.rt hU_21 hO_22
    have hq9 : ∀ q, q ∈ M → q ≠ x := fun q hq z => hxM (by rw [← z]; exact hq)
    have hZ9 := ZI.insR hZ hxM (x := x) (rt1 := f1) (lf1 := kupq lf x none) (pr1 := kupq pr x (some y)) ⟨by rw [hE_28]; exact kupq_self _ _ _, by rw [hE_28, kupq_ne (Ne.symm hyx), kupq_self], fun q hq hy => by rw [hE_28, kupq_ne hy, kupq_ne (hq9 q hq)]⟩ ⟨kupq_self _ _ _, fun q hq => kupq_ne (hq9 q hq)⟩ ⟨kupq_self _ _ _, fun q hq => kupq_ne (hq9 q hq)⟩
    have hbl9 : ∀ a, ro = some a → kup co x true a = true := fun a ha => by have h9 := hbl a ha; unfold kup; split; rfl; exact h9
    have hmp9 : mp ∉ x :: M := fun z => by rcases List.mem_cons.mp z with z | z; omega; exact hmpM z
    refine lv_aload_n hx hb dJ28_addEntry_32 rfl (lv_at hl 1 rfl) ?_
    refine lv_aload hx hb dJ28_addEntry_33 (lv_at hl 0 rfl) ?_
    have h_29 := hO_mp.ex hE_5
    have h_30 := h_29.fr hF_11 (fun h => by have h9 := h_29.lt; have := show _ = _ from h; omega)
    have h_31 := h_30.up hU_21 (by first | assumption | exact Ne.symm (by assumption) | exact fun e9 => hmpM (by rw [e9]; assumption) | omega | (have h9 := h_30.lt; omega))
    refine kx_cv (va_runV (As := [.ref x]) (rest := []) ⟨hx, hb, hml, hown, hts⟩ (m_J28_fixAfterInsertion l D H_23 mp ro sz mc none (x :: M) ((kup kf x kx)) ((kup vf x vx)) ((kupq lf x none)) f1 ((kupq pr x (some y))) ((kup co x true)) x (((false, y, sub) :: cz)) h_31 hTN_27 hZ9 ((fun _ => hbl9)) bs_mp hmp9) (cwV 1 hts (lw_V q879 q881 qs11 q117 q882) rfl rfl rfl (by decide +kernel) ⟨Nat.le_of_ble_eq_true rfl, Nat.le_of_ble_eq_true rfl⟩) (kx_pv hK hS_25 hB (kx_rc hK h_31 (C := RJ28) (T := TJ28) (N := 9) rfl)) rfl rfl hl.1 rfl (lv_room (Nat.le_of_ble_eq_true rfl)) dJ28_addEntry_35 ⟨by first | exact Nat.le_of_ble_eq_true rfl | omega | (show _ ≤ _; omega) | (dsimp only [headSpec]; omega), by first | exact Nat.le_of_ble_eq_true rfl | omega | (show _ ≤ _; omega) | (dsimp only [headSpec]; omega)⟩) hS_25 (fun q _ h => by rcases h with h | h; exact Or.inl h; (rcases List.mem_cons.mp h with h | h; (exact Or.inr (Or.inr (by omega))); exact Or.inr (Or.inl h))) (fun q h => by rcases h with h | h; exact Or.inl h; (rcases List.mem_cons.mp h with h | h; (exact Or.inr (Or.inr (by omega))); exact Or.inr (Or.inl h))) (fun H_35 locs_32 hz_34 hF_36 hS_33 => ?_)
    have hzf_38 := hF_36.1
    refine W.widen (k := 1) (n := 6) (Nat.le_of_ble_eq_true rfl) (Nat.le_of_ble_eq_true rfl) ?_
    obtain ⟨lZ, rZ, pZ, cZ, rrZ, tZ, ho_45, ho_46, hZz, hioz, hblz⟩ := hz_34
    refine lv_aload_n hx hb dJ28_addEntry_38 rfl (lv_at hl 1 rfl) ?_
    refine lv_dup hx hb dJ28_addEntry_39 rfl ?_
    refine kx_get (v := .int (kI ((sz : Nat) : Int))) (C := RJ28) (T := TJ28) (N := 9) hx hb hts in_J28 hown hK ho_45 rfl 4 (by decide) q544 (fun _ h9 => h9) rfl dJ28_addEntry_40 ?_
    refine kx_iconst hx hb dJ28_addEntry_43 ?_
    refine kx_iadd hx hb dJ28_addEntry_44 ?_
    refine kx_put (v := .int (kI ((((sz : Nat) : Int) + 1)))) (C := RJ28) (T := TJ28) (N := 9) hx hb hts in_J28 hown hK ho_45 rfl 4 (by decide) tyJ28 tyJ28_ok nmJ28 hS_33 (by first | rfl | exact Or.inl rfl | exact Or.inr rfl | exact Or.inr (Or.inl rfl) | exact Or.inr (Or.inr rfl) | exact Or.inr (Or.inr (Or.inl rfl)) | exact Or.inr (Or.inr (Or.inr rfl)) | ((try dsimp only); (try simp only [kNW]); omega)) q544 (fun _ h9 => h9) rfl rfl rfl rfl (Nat.le_of_ble_eq_true rfl) dJ28_addEntry_45 (fun H_49 locs_50 hO_48 hU_47 hS_51 => ?_)
    have hO_48 : kO D H_49 mp 15 [.null, .null, .null, va_rf (rrZ), .int (kI ((((sz : Nat) : Int) + 1))), .int (kI (mc)), .null, va_rf (none), .null] := hO_48
    have hzu_52 := hU_47.1
    refine lv_aload_n hx hb dJ28_addEntry_48 rfl (lv_at hl 1 rfl) ?_
    refine lv_dup hx hb dJ28_addEntry_49 rfl ?_
    refine kx_get (v := .int (kI (mc))) (C := RJ28) (T := TJ28) (N := 9) hx hb hts in_J28 hown hK hO_48 rfl 5 (by decide) q545 (fun _ h9 => h9) rfl dJ28_addEntry_50 ?_
    refine kx_iconst hx hb dJ28_addEntry_53 ?_
    refine kx_iadd hx hb dJ28_addEntry_54 ?_
    refine kx_put (v := .int (kI ((mc + 1)))) (C := RJ28) (T := TJ28) (N := 9) hx hb hts in_J28 hown hK hO_48 rfl 5 (by decide) tyJ28 tyJ28_ok nmJ28 hS_51 (by first | rfl | exact Or.inl rfl | exact Or.inr rfl | exact Or.inr (Or.inl rfl) | exact Or.inr (Or.inr rfl) | exact Or.inr (Or.inr (Or.inl rfl)) | exact Or.inr (Or.inr (Or.inr rfl)) | ((try dsimp only); (try simp only [kNW]); omega)) q545 (fun _ h9 => h9) rfl rfl rfl rfl (Nat.le_of_ble_eq_true rfl) dJ28_addEntry_55 (fun H_55 locs_56 hO_54 hU_53 hS_57 => ?_)
    have hO_54 : kO D H_55 mp 15 [.null, .null, .null, va_rf (rrZ), .int (kI ((((sz : Nat) : Int) + 1))), .int (kI ((mc + 1))), .null, va_rf (none), .null] := hO_54
    have hzu_58 := hU_53.1
    have h_59 := ho_46.up hU_47 (by first | assumption | exact Ne.symm (by assumption) | exact fun e9 => hmpM (by rw [e9]; assumption) | omega | (have h9 := ho_46.lt; omega))
    have h_60 := h_59.up hU_53 (by first | assumption | exact Ne.symm (by assumption) | exact fun e9 => hmpM (by rw [e9]; assumption) | omega | (have h9 := h_59.lt; omega))
    exact kx_vret hx hb hr hlk (⟨x, lZ, rZ, pZ, cZ, rrZ, tZ, hO_54, h_60, by first | assumption | rfl | omega | grind, by first | assumption | rfl | omega | grind, by first | assumption | rfl | omega | grind, by first | assumption | rfl | omega | grind⟩) hS_57 dJ28_addEntry_58
  · -- not taken at 14
    exact absurd c_14_20 (by decide)

