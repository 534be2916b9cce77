/-! MATH 43: the queue of candidates -/
def cvu (cv : Nat → Int × Int × Int) (a : Nat) (v : Int × Int × Int) : Nat → Int × Int × Int := fun y => if y = a then v else cv y
def Tu (T : Nat → Prop) (a : Nat) : Nat → Prop := fun y => T y ∨ y = a
def qu (q : Nat → Nat) (k a : Nat) : Nat → Nat := fun i => if i = k then a else q i
theorem kCs.add {D : kG} {H H1 : Heap} {cv : Nat → Int × Int × Int} {T : Nat → Prop} {a : Nat} {v : Int × Int × Int} (h : kCs D H cv T) (q : kFr (fun y => y = a) H H1) (hn : ∀ y, T y → y ≠ a) (ho : kO D H1 a 7 [.int (kI v.1), .int (kI v.2.1), .int (kI v.2.2)]) (r1 : -10000 ≤ v.1 ∧ v.1 ≤ 10000) (r2 : -10000 ≤ v.2.1 ∧ v.2.1 ≤ 10000) (r3 : -10000 ≤ v.2.2 ∧ v.2.2 ≤ 10000) : kCs D H1 (cvu cv a v) (Tu T a) := by
  intro y hy
  by_cases e : y = a
  · subst e
    unfold kCd cvu
    rw [if_pos rfl]
    exact ⟨ho, r1, r2, r3⟩
  · have hT : T y := by rcases hy with z | z; exact z; exact absurd z e
    have := h y hT
    unfold kCd cvu at *
    rw [if_neg e]
    exact ⟨this.1.fr q e, this.2⟩
theorem kCs.fr {D : kG} {H H1 : Heap} {A : Nat → Prop} {cv : Nat → Int × Int × Int} {T : Nat → Prop} (h : kCs D H cv T) (q : kFr A H H1) (hn : ∀ y, T y → ¬ A y) : kCs D H1 cv T := fun y hy => ⟨(h y hy).1.fr q (hn y hy), (h y hy).2⟩
theorem HP.cv {cv : Nat → Int × Int × Int} {q : Nat → Nat} {n a : Nat} {v : Int × Int × Int} (h : HP (cdle cv) q n) (hn : ∀ i, i < n → q i ≠ a) : HPk (cdle (cvu cv a v)) (qu q n a) n n := by
  refine HP.start (q := q) ?_ (fun i hi => if_neg (by omega))
  intro i h1 h2
  have := h i h1 h2
  unfold cdle cdv cvu at *
  rw [if_neg (hn i h2), if_neg (hn _ (by omega))]
  exact this
/-- what the queue holds: the places among the first j that can be had -/
def QOK (S : Ls) (gap : Int) (l j : Nat) (cv : Nat → Int × Int × Int) (T : Nat → Prop) : Prop :=
  (∀ y, T y → ∃ p : Nat, p < j ∧ st_whyL S gap l p = 0 ∧ cv y = ((p : Int), ln_bends (st_ln S l) p, st_free S l p)) ∧ ∀ p : Nat, p < j → st_whyL S gap l p = 0 → ∃ y, T y ∧ cv y = ((p : Int), ln_bends (st_ln S l) p, st_free S l p)
theorem QOK.none (S : Ls) (gap : Int) (l : Nat) (cv : Nat → Int × Int × Int) : QOK S gap l 0 cv (fun _ => False) := ⟨fun _ h => h.elim, fun p h => absurd h (Nat.not_lt_zero p)⟩
theorem QOK.skip {S : Ls} {gap : Int} {l j : Nat} {cv : Nat → Int × Int × Int} {T : Nat → Prop} (h : QOK S gap l j cv T) (hw : st_whyL S gap l j ≠ 0) : QOK S gap l (j + 1) cv T :=
  ⟨fun y hy => by obtain ⟨p, h1, h2⟩ := h.1 y hy; exact ⟨p, by omega, h2⟩, fun p hp hz => h.2 p (by by_cases e : p = j; (subst e; exact absurd hz hw); omega) hz⟩
theorem QOK.add {S : Ls} {gap : Int} {l j a : Nat} {cv : Nat → Int × Int × Int} {T : Nat → Prop} (h : QOK S gap l j cv T) (hw : st_whyL S gap l j = 0) (hn : ∀ y, T y → y ≠ a) : QOK S gap l (j + 1) (cvu cv a ((j : Int), ln_bends (st_ln S l) j, st_free S l j)) (Tu T a) := by
  constructor
  · intro y hy
    by_cases e : y = a
    · subst e; exact ⟨j, by omega, hw, if_pos rfl⟩
    · rcases hy with z | z
      · obtain ⟨p, h1, h2, h3⟩ := h.1 y z
        exact ⟨p, by omega, h2, by unfold cvu; rw [if_neg e]; exact h3⟩
      · exact absurd z e
  · intro p hp hz
    by_cases e : p = j
    · subst e; exact ⟨a, Or.inr rfl, if_pos rfl⟩
    · obtain ⟨y, h1, h2⟩ := h.2 p (by omega) hz
      exact ⟨y, Or.inl h1, by unfold cvu; rw [if_neg (hn y h1)]; exact h2⟩
theorem QOK.empty {S : Ls} {gap : Int} {l : Nat} {cv : Nat → Int × Int × Int} {T : Nat → Prop} (h : QOK S gap l (ln_n (st_ln S l) + 1) cv T) (hn : ∀ y, ¬ T y) : st_best S gap l = -1 :=
  best_none fun p hp hz => by obtain ⟨y, h1, -⟩ := h.2 p hp hz; exact hn y h1
theorem QOK.best {S : Ls} {gap : Int} {l k0 : Nat} {cv : Nat → Int × Int × Int} {T : Nat → Prop} {q : Nat → Nat} (h : QOK S gap l (ln_n (st_ln S l) + 1) cv T) (hH : HP (cdle cv) q k0) (hT : ∀ y, (∃ i, i < k0 ∧ q i = y) ↔ T y) (h0 : 0 < k0) : (cv (q 0)).1 = st_best S gap l := by
  obtain ⟨r, h1, h2, h3⟩ := h.1 (q 0) ((hT _).mp ⟨0, h0, rfl⟩)
  rw [h3]
  symm
  refine best_of_least h1 h2 fun p hp hz => ?_
  obtain ⟨y, hy, hv⟩ := h.2 p hp hz
  obtain ⟨i, hi, rfl⟩ := (hT y).mpr hy
  have := HP.root (cdle_tr cv) (cdle_rf cv) hH i hi
  unfold cdle cdv at this
  rw [h3, hv] at this
  exact this
set_option maxHeartbeats 4000000 in
set_option maxRecDepth 100000 in
theorem m_X2_placesOf (l : Launch) (D : kG) (H : Heap) (st : Nat) (la : Nat) (mc : Int) (ea : Nat) (F : Fts) (S : Ls) (gap : Int) (ln : Nat) (hO_st : kO D H st 1 [.ref la, .int (kI (gap))]) (hO_la : kO D H la 9 [.int (kI (mc)), .ref ea, .int (kI ((S.length : Nat) : Int))]) (hP_kLs_ea : kLs D H ea S.length F) (hP_kLn_F : kLn D H F S) (hok : LsOK S gap) (hln : ln < S.length) : Met l yX2_placesOf (ws_ yX2_placesOf cX2_placesOf 4 (some .int)) ({ frames := 8, cells := 305, slots := 793, locals := 3124 } : Room) (kPre D H [.ref st, .int (kI ((ln : Nat) : Int))]) (kQi (fun (r : Int) H' => (r = st_places S gap ln) ∧ (True)) (kNW H)) (305) (793) ((kNW H)) := by
  refine Met.ofW (cc := cX2_placesOf) (maxL := 4) (ret := (some .int)) (by decide) rfl ?_
  intro p e s m args below meth c s₁ B hml hv
  obtain ⟨rfl, hH, hK⟩ := hv
  subst hH
  have hx := B.exec
  have hb := B.bytes
  have hr := B.returns
  have hts := atoms_spec (ws := ws_ yX2_placesOf cX2_placesOf 4 (some .int)) B.pre
  have hts : ∀ w ∈ lw_all, w.before _ s = true := fun w h => hts w (List.mem_cons_of_mem _ h)
  have hown : s.vm.findClass RX2 = some m.cls := findClass_of_methodNamed B.named
  have hlk := B.notSynchronized
  have hS : va_S (kNW s.heap) s.heap s.heap [] := va_S.rf
  have hB : ∀ q, (kNW s.heap) q → kBase D ≤ q := fun q h => Nat.le_trans hK.size h
  have hl := lv_entry ([.ref st, .int (kI ((ln : Nat) : Int))]) (n := 4) (Nat.le_of_ble_eq_true rfl)
  rw [lg_entry_eq]
  generalize (lg_sl ([.ref st, .int (kI ((ln : Nat) : Int))]) ++ List.replicate (4 - (lg_sl ([.ref st, .int (kI ((ln : Nat) : Int))])).length) Slot.unset).toArray = ls at hl ⊢
  have hl : lv_has ls 4 [(0, .ref st), (1, .int (kI ((ln : Nat) : Int)))] := hl
  have hL8 := hok.1
  have hn60 := (hok.ln hln).n
  refine kx_iconst hx hb dX2_placesOf_0 ?_
  refine lv_istore_n (lv' := [(2, .int (kI (0))), (0, .ref st), (1, .int (kI ((ln : Nat) : Int)))]) hx hb dX2_placesOf_1 rfl hl (by decide) rfl (fun ls hl => ?_)
  refine kx_iconst hx hb dX2_placesOf_2 ?_
  refine lv_istore_n (lv' := [(3, .int (kI (0))), (2, .int (kI (0))), (0, .ref st), (1, .int (kI ((ln : Nat) : Int)))]) hx hb dX2_placesOf_3 rfl hl (by decide) rfl (fun ls hl => ?_)
  have lp_4_x_1 : ∀ (n_4 : Nat) (k : Nat) (sm : Int) (H : Heap) (hk : k ≤ ln_n (st_ln S ln) + 1) (hsm : sm = st_placesTo S gap ln k) (locs : List Loc) (hS : va_S (kNW s.heap) s.heap H locs) (hm_4 : ln_n (st_ln S ln) + 1 - k < n_4) (ls : Array Slot), lv_has ls 4 [(0, .ref st), (1, .int (kI ((ln : Nat) : Int))), (2, .int (kI (sm))), (3, .int (kI ((k : Nat) : Int)))] → W p l e (headSpec (ws_ yX2_placesOf cX2_placesOf 4 (some .int)) ({ frames := 8, cells := 305, slots := 793, locals := 3124 } : Room)).room s m ([.ref st, .int (kI ((ln : Nat) : Int))] : List Value).toArray below meth c H locs (5 * k) (13 * k) (MQ below (kQi (fun (r : Int) H' => (r = st_places S gap ln) ∧ (True)) (kNW s.heap)) ([.ref st, .int (kI ((ln : Nat) : Int))] : List Value).toArray s (305) (793) ((kNW s.heap))) (F0 m 4 ls []) := by
    intro n_4
    induction n_4 with
    | zero => intro k sm H hk hsm locs hS hm_4; exact absurd hm_4 (Nat.not_lt_zero _)
    | succ n_4 ih_4 =>
      intro k sm H hk hsm locs hS hm_4 ls hl
      refine lv_iload_n hx hb dX2_placesOf_4 rfl (lv_at hl 3 rfl) ?_
      refine lv_aload_n hx hb dX2_placesOf_5 rfl (lv_at hl 0 rfl) ?_
      have h_2 := hO_st.ex (va_S.ex hS)
      refine kx_get (v := .ref la) (C := RX2) (T := TX2) (N := 2) hx hb hts in_X2 hown hK h_2 rfl 0 (by decide) q167 (fun _ h9 => h9) rfl dX2_placesOf_6 ?_
      refine lv_iload_n hx hb dX2_placesOf_9 rfl (lv_at hl 1 rfl) ?_
      have h_3 := hO_la.ex (va_S.ex hS)
      have h_4 := hP_kLs_ea.ex (va_S.ex hS)
      refine kx_cFr0 (va_runF (C := RJ2) (As := [.int (kI ((ln : Nat) : Int))]) (rest := [.int (kI ((k : Nat) : Int))]) (hK.at (ci := 9) rfl) ⟨hx, hb, hml, hown, hts⟩ (m_get l D H la mc ea S.length F ln h_3 h_4 (by first | assumption | omega)) (va_cwF (x := ({ cls := "java/util/List", name := "get", desc := "(I)Ljava/lang/Object;" } : Jvm.MethodName)) 1 hts (lw_F q289 q292 q294 q83 q296) rfl rfl rfl (hK.fw (by decide)) (by decide +kernel) ⟨Nat.le_of_ble_eq_true rfl, Nat.le_of_ble_eq_true rfl⟩) (kx_pv hK hS hB (kx_rc hK h_3 (C := RJ2) (T := TJ2) (N := 3) rfl)) rfl rfl hl.1 rfl (lv_room (Nat.le_of_ble_eq_true rfl)) dX2_placesOf_10 ⟨by first | exact Nat.le_of_ble_eq_true rfl | omega | (show _ ≤ _; omega) | (dsimp only [headSpec]; omega), by first | exact Nat.le_of_ble_eq_true rfl | omega | (show _ ≤ _; omega) | (dsimp only [headSpec]; omega)⟩) hS (fun z_8 locs_5 hz_7 hS_6 => ?_)
      subst z_8
      have h_9 := hP_kLn_F.ex (va_S.ex hS_6)
      obtain ⟨ea_10, gp_10, gs_10, ho_10, hp_10, hs_10, he_10, hm_10⟩ := (h_9 ln (hln))
      refine kx_castS hx hb hts hown q307 hK ho_10 rfl dX2_placesOf_15 ?_
      refine kx_getN (v := .int (kI ((ln_n (st_ln S ln) : Nat) : Int))) (C := RX4) (T := TX4) (N := 6) hx hb hts in_X4 hown hK ho_10 rfl 3 (by decide) (hK.w q345 rfl) (fun _ h9 => h9) rfl dX2_placesOf_18 ?_
      refine kx_icmp_gt (x := ((k : Nat) : Int)) (y := ((ln_n (st_ln S ln) : Nat) : Int)) (tgt := 47) hx hb dX2_placesOf_21 (by decide) (by omega) (by omega) (by omega) (by omega) (fun c_21_11 => ?_) (fun c_21_11 => ?_)
      · -- taken at 21
        refine lv_iload_n hx hb dX2_placesOf_47 rfl (lv_at hl 2 rfl) ?_
        refine W.widen (k := 305) (n := 793) (by omega) (by omega) ?_
        exact kx_iret (z := sm) hx hb hr hlk (⟨by rw [hsm, st_places, show k = ln_n (st_ln S ln) + 1 by omega], by first | assumption | rfl | omega | grind⟩) hS_6 dX2_placesOf_48
      · -- not taken at 21
        refine lv_iload_n hx hb dX2_placesOf_24 rfl (lv_at hl 2 rfl) ?_
        refine lv_aload_n hx hb dX2_placesOf_25 rfl (lv_at hl 0 rfl) ?_
        refine lv_iload_n hx hb dX2_placesOf_26 rfl (lv_at hl 1 rfl) ?_
        refine lv_iload_n hx hb dX2_placesOf_27 rfl (lv_at hl 3 rfl) ?_
        have hwr9 := st_whyL_rng S gap ln k
        refine kx_ci (va_runV (As := [.int (kI ((ln : Nat) : Int)), .int (kI ((k : Nat) : Int))]) (rest := [.int (kI (sm))]) ⟨hx, hb, hml, hown, hts⟩ (m_X2_whyNotLabelled l D H st la mc ea F S gap ln k h_2 h_3 h_4 h_9 (by first | assumption | omega) (by first | assumption | omega) (by first | assumption | omega)) (cwV 2 hts (lw_V q1068 q1069 q1070 q80 q1071) rfl rfl rfl (by decide +kernel) ⟨Nat.le_of_ble_eq_true rfl, Nat.le_of_ble_eq_true rfl⟩) (kx_pv hK hS_6 hB (kx_rc hK h_2 (C := RX2) (T := TX2) (N := 2) rfl)) rfl rfl hl.1 rfl (lv_room (Nat.le_of_ble_eq_true rfl)) dX2_placesOf_28 ⟨by first | exact Nat.le_of_ble_eq_true rfl | omega | (show _ ≤ _; omega) | (dsimp only [headSpec]; omega), by first | exact Nat.le_of_ble_eq_true rfl | omega | (show _ ≤ _; omega) | (dsimp only [headSpec]; omega)⟩) hS_6 (fun q _ h => Nat.le_trans hS_6.1 h) (fun q h => Nat.le_trans hS_6.1 h) (fun z_17 H_15 locs_12 hz_14 hF_16 hS_13 => ?_)
        have hzf_18 := hF_16.1
        have hF_16 := hF_16.nw
        obtain ⟨hv_19, hnw_20⟩ := hz_14
        subst z_17
        refine kx_if_ne (x := st_whyL S gap ln k) (tgt := 38) hx hb dX2_placesOf_31 (by decide) (by omega) (by omega) (fun c_31_21 => ?_) (fun c_31_21 => ?_)
        · -- taken at 31
          refine kx_iconst hx hb dX2_placesOf_38 ?_
          refine kx_iadd hx hb dX2_placesOf_39 ?_
          refine lv_istore_n (lv' := [(2, .int (kI ((sm + 0)))), (0, .ref st), (1, .int (kI ((ln : Nat) : Int))), (3, .int (kI ((k : Nat) : Int)))]) hx hb dX2_placesOf_40 rfl hl (by decide) rfl (fun ls hl => ?_)
          refine lv_iinc (v := kI (((k + 1 : Nat) : Int))) (lv' := [(3, .int (kI ((k + 1 : Nat) : Int))), (2, .int (kI ((sm + 0)))), (0, .ref st), (1, .int (kI ((ln : Nat) : Int)))]) hx hb dX2_placesOf_41 hl (k := 3) rfl (kI_incN _ _) (by decide) rfl (fun ls hl => ?_)
          refine lv_goto (tgt := 4) hx hb dX2_placesOf_44 (by decide) ?_
          refine W.widen (k := 5 * (k + 1)) (n := 13 * (k + 1)) (by omega) (by omega) ?_
          exact ih_4  (k + 1) ((sm + 0)) H_15 (by first | assumption | omega | (simp_all; done) | grind) (by rw [st_placesTo, ← hsm]; first | (rw [if_pos (by assumption)]; done) | (rw [if_neg (by omega)]; done)) _ hS_13 (by omega) ls (lv_sub hl [2, 3, 1, 0] rfl)
        · -- not taken at 31
          refine kx_iconst hx hb dX2_placesOf_34 ?_
          refine lv_goto (tgt := 39) hx hb dX2_placesOf_35 (by decide) ?_
          refine kx_iadd hx hb dX2_placesOf_39 ?_
          refine lv_istore_n (lv' := [(2, .int (kI ((sm + 1)))), (0, .ref st), (1, .int (kI ((ln : Nat) : Int))), (3, .int (kI ((k : Nat) : Int)))]) hx hb dX2_placesOf_40 rfl hl (by decide) rfl (fun ls hl => ?_)
          refine lv_iinc (v := kI (((k + 1 : Nat) : Int))) (lv' := [(3, .int (kI ((k + 1 : Nat) : Int))), (2, .int (kI ((sm + 1)))), (0, .ref st), (1, .int (kI ((ln : Nat) : Int)))]) hx hb dX2_placesOf_41 hl (k := 3) rfl (kI_incN _ _) (by decide) rfl (fun ls hl => ?_)
          refine lv_goto (tgt := 4) hx hb dX2_placesOf_44 (by decide) ?_
          refine W.widen (k := 5 * (k + 1)) (n := 13 * (k + 1)) (by omega) (by omega) ?_
          exact ih_4  (k + 1) ((sm + 1)) H_15 (by first | assumption | omega | (simp_all; done) | grind) (by rw [st_placesTo, ← hsm]; first | (rw [if_pos (by assumption)]; done) | (rw [if_neg (by omega)]; done)) _ hS_13 (by omega) ls (lv_sub hl [2, 3, 1, 0] rfl)
  refine W.widen (k := 5 * 0) (n := 13 * 0) (by omega) (by omega) ?_
  exact lp_4_x_1 (ln_n (st_ln S ln) + 1 - 0 + 1) 0 0 s.heap (by first | assumption | omega | (simp_all; done) | grind) (rfl) _ hS (Nat.lt_succ_self _) ls (lv_sub hl [2, 3, 1, 0] rfl)

set_option maxHeartbeats 4000000 in
set_option maxRecDepth 100000 in
theorem m_X2_bestPlace (l : Launch) (D : kG) (H : Heap) (st : Nat) (la : Nat) (mc : Int) (ea : Nat) (F : Fts) (S : Ls) (gap : Int) (ln : Nat) (hO_st : kO D H st 1 [.ref la, .int (kI (gap))]) (hO_la : kO D H la 9 [.int (kI (mc)), .ref ea, .int (kI ((S.length : Nat) : Int))]) (hP_kLs_ea : kLs D H ea S.length F) (hP_kLn_F : kLn D H F S) (hok : LsOK S gap) (hln : ln < S.length) : Met l yX2_bestPlace (ws_ yX2_bestPlace cX2_bestPlace 4 (some .int)) ({ frames := 8, cells := 369, slots := 1040, locals := 3124 } : Room) (kPre D H [.ref st, .int (kI ((ln : Nat) : Int))]) (kQi (fun (r : Int) H' => (r = st_best S gap ln) ∧ (True)) (kNW H)) (369) (1040) ((kNW H)) := by
  refine Met.ofW (cc := cX2_bestPlace) (maxL := 4) (ret := (some .int)) (by decide) rfl ?_
  intro p e s m args below meth c s₁ B hml hv
  obtain ⟨rfl, hH, hK⟩ := hv
  subst hH
  have hx := B.exec
  have hb := B.bytes
  have hr := B.returns
  have hts := atoms_spec (ws := ws_ yX2_bestPlace cX2_bestPlace 4 (some .int)) B.pre
  have hts : ∀ w ∈ lw_all, w.before _ s = true := fun w h => hts w (List.mem_cons_of_mem _ h)
  have hown : s.vm.findClass RX2 = some m.cls := findClass_of_methodNamed B.named
  have hlk := B.notSynchronized
  have hS : va_S (kNW s.heap) s.heap s.heap [] := va_S.rf
  have hB : ∀ q, (kNW s.heap) q → kBase D ≤ q := fun q h => Nat.le_trans hK.size h
  have hl := lv_entry ([.ref st, .int (kI ((ln : Nat) : Int))]) (n := 4) (Nat.le_of_ble_eq_true rfl)
  rw [lg_entry_eq]
  generalize (lg_sl ([.ref st, .int (kI ((ln : Nat) : Int))]) ++ List.replicate (4 - (lg_sl ([.ref st, .int (kI ((ln : Nat) : Int))])).length) Slot.unset).toArray = ls at hl ⊢
  have hl : lv_has ls 4 [(0, .ref st), (1, .int (kI ((ln : Nat) : Int)))] := hl
  have hL8 := hok.1
  have hn60 := (hok.ln hln).n
  have hks9 := hK.size
  have hszn9 := ln_size_23 (st_ln S ln)
  refine kx_new (ci := 13) (fs := [.null, .int (kI (0)), .null, .int (kI (0))]) (C := RJ21) (T := TJ21) (N := 4) hx hb hts in_J21 hown hK tyJ21 tyJ21_ok q1017 q1018 q107 hS rfl (fun j hj => by rcases (show j = 0 ∨ j = 1 ∨ j = 2 ∨ j = 3 by omega) with rfl | rfl | rfl | rfl <;> rfl) (by first | exact Nat.le_of_ble_eq_true rfl | omega | (show _ ≤ _; omega) | (dsimp only [headSpec]; omega)) (by first | exact Nat.le_of_ble_eq_true rfl | omega | (show _ ≤ _; omega) | (dsimp only [headSpec]; omega)) dX2_bestPlace_0 (fun pq H_1 hq_2 hz_3 hO_4 hE_5 hS_6 => ?_)
  have hge_pq : s.heap.size ≤ pq := by rw [hq_2]; exact hS.1
  refine W.widen (k := 1) (n := 4) (Nat.le_of_ble_eq_true rfl) (Nat.le_of_ble_eq_true rfl) ?_
  refine lv_dup hx hb dX2_bestPlace_3 rfl ?_
  refine kx_bipush hx hb (by decide) dX2_bestPlace_4 ?_
  refine kx_new (ci := 6) (fs := []) (C := RX7) (T := kT0) (N := 0) hx hb hts in_X7 hown hK (fun _ => .int) (fun k h => absurd h (Nat.not_lt_zero k)) q1019 q1020 q108 hS_6 rfl (fun j hj => absurd hj (Nat.not_lt_zero j)) (by first | exact Nat.le_of_ble_eq_true rfl | omega | (show _ ≤ _; omega) | (dsimp only [headSpec]; omega)) (by first | exact Nat.le_of_ble_eq_true rfl | omega | (show _ ≤ _; omega) | (dsimp only [headSpec]; omega)) dX2_bestPlace_6 (fun cm H_7 hq_8 hz_9 hO_10 hE_11 hS_12 => ?_)
  have hge_cm : s.heap.size ≤ cm := by rw [hq_8]; exact hS_6.1
  refine W.widen (k := 2) (n := 4) (Nat.le_of_ble_eq_true rfl) (Nat.le_of_ble_eq_true rfl) ?_
  refine lv_dup hx hb dX2_bestPlace_9 rfl ?_
  refine kx_cv0 (va_runIN (As := []) (rest := [.ref cm, .int (kI (60)), .ref pq, .ref pq]) ⟨hx, hb, hml, hown, hts⟩ (m_X7_init l D H_7 cm  ) ⟨va_cnB 0 hts (lw_meth q1023) rfl rfl rfl (hK.w q1021 rfl) (hts _ q108) (by decide +kernel) ⟨Nat.le_of_ble_eq_true rfl, Nat.le_of_ble_eq_true rfl⟩, rfl, hts _ q1022⟩ (kx_ps hK hS_12 hB) rfl rfl hl.1 rfl (lv_room (Nat.le_of_ble_eq_true rfl)) dX2_bestPlace_10 ⟨by first | exact Nat.le_of_ble_eq_true rfl | omega | (show _ ≤ _; omega) | (dsimp only [headSpec]; omega), by first | exact Nat.le_of_ble_eq_true rfl | omega | (show _ ≤ _; omega) | (dsimp only [headSpec]; omega)⟩) hS_12 (fun locs_13 hz_15 hS_14 => ?_)
  have h_17 := hO_4.ex hE_11
  refine kx_cv (va_runI (As := [.int (kI (60)), .ref cm]) (rest := [.ref pq]) ⟨hx, hb, hml, hown, hts⟩ (m_J21_init l D H_7 pq cm h_17 (by first | assumption | omega)) (cwI 2 hts (lw_meth q1028) rfl rfl rfl (hts _ q107) (hts _ q1026) (hts _ q1027) rfl (by decide +kernel) ⟨Nat.le_of_ble_eq_true rfl, Nat.le_of_ble_eq_true rfl⟩) (kx_ps hK hS_14 hB) rfl rfl hl.1 rfl (lv_room (Nat.le_of_ble_eq_true rfl)) dX2_bestPlace_13 ⟨by first | exact Nat.le_of_ble_eq_true rfl | omega | (show _ ≤ _; omega) | (dsimp only [headSpec]; omega), by first | exact Nat.le_of_ble_eq_true rfl | omega | (show _ ≤ _; omega) | (dsimp only [headSpec]; omega)⟩) hS_14 (fun q _ h => by (try dsimp only at h); (try dsimp only); (try simp only [kNW] at h); (try simp only [kNW]); omega) (fun q h => by (try dsimp only at h); (try dsimp only); (try simp only [kNW] at h); (try simp only [kNW]); omega) (fun H_21 locs_18 hz_20 hF_22 hS_19 => ?_)
  have hzf_24 := hF_22.1
  refine W.widen (k := 3) (n := 64) (Nat.le_of_ble_eq_true rfl) (Nat.le_of_ble_eq_true rfl) ?_
  obtain ⟨es, ho_26, ho_27, hnes9⟩ := hz_20
  refine lv_astore_n (lv' := [(2, .ref pq), (0, .ref st), (1, .int (kI ((ln : Nat) : Int)))]) hx hb dX2_bestPlace_16 rfl hl (by decide) rfl (fun ls hl => ?_)
  have hcs0 : kCs D H_21 (fun _ => (0, 0, 0)) (fun _ => False) := fun _ h => h.elim
  refine kx_iconst hx hb dX2_bestPlace_17 ?_
  refine lv_istore_n (lv' := [(3, .int (kI (0))), (2, .ref pq), (0, .ref st), (1, .int (kI ((ln : Nat) : Int)))]) hx hb dX2_bestPlace_18 rfl hl (by decide) rfl (fun ls hl => ?_)
  have lp_19_x_28 : ∀ (n_19 : Nat) (k : Nat) (k0 : Nat) (mq : Int) (g : Nat → Option Nat) (q : Nat → Nat) (cv : Nat → Int × Int × Int) (T : Nat → Prop) (H : Heap) (hO_pq : kO D H pq 13 [.ref es, .int (kI ((k0 : Nat) : Int)), .ref cm, .int (kI (mq))]) (hA_es : kAq D H es 4 60 g) (hO_cm : kO D H cm 6 []) (hP_kCs_cv : kCs D H cv T) (hk : k ≤ ln_n (st_ln S ln) + 1) (hk0k : k0 ≤ k) (hgq : ∀ i, i < k0 → g i = some (q i)) (hHP : HP (cdle cv) q k0) (hT : ∀ y, (∃ i, i < k0 ∧ q i = y) ↔ T y) (hQ : QOK S gap ln k cv T) (hneT : ∀ y, T y → y ≠ es) (hneP : ∀ y, T y → y ≠ pq) (locs : List Loc) (hS : va_S (kNW s.heap) s.heap H locs) (hm_19 : ln_n (st_ln S ln) + 1 - k < n_19) (ls : Array Slot), lv_has ls 4 [(0, .ref st), (1, .int (kI ((ln : Nat) : Int))), (2, .ref pq), (3, .int (kI ((k : Nat) : Int)))] → W p l e (headSpec (ws_ yX2_bestPlace cX2_bestPlace 4 (some .int)) ({ frames := 8, cells := 369, slots := 1040, locals := 3124 } : Room)).room s m ([.ref st, .int (kI ((ln : Nat) : Int))] : List Value).toArray below meth c H locs (3 + 6 * k) (64 + 16 * k) (MQ below (kQi (fun (r : Int) H' => (r = st_best S gap ln) ∧ (True)) (kNW s.heap)) ([.ref st, .int (kI ((ln : Nat) : Int))] : List Value).toArray s (369) (1040) ((kNW s.heap))) (F0 m 19 ls []) := by
    intro n_19
    induction n_19 with
    | zero => intro k k0 mq g q cv T H hO_pq hA_es hO_cm hP_kCs_cv hk hk0k hgq hHP hT hQ hneT hneP locs hS hm_19; exact absurd hm_19 (Nat.not_lt_zero _)
    | succ n_19 ih_19 =>
      intro k k0 mq g q cv T H hO_pq hA_es hO_cm hP_kCs_cv hk hk0k hgq hHP hT hQ hneT hneP locs hS hm_19 ls hl
      refine lv_iload_n hx hb dX2_bestPlace_19 rfl (lv_at hl 3 rfl) ?_
      refine lv_aload_n hx hb dX2_bestPlace_20 rfl (lv_at hl 0 rfl) ?_
      have h_29 := hO_st.ex (va_S.ex hS)
      refine kx_get (v := .ref la) (C := RX2) (T := TX2) (N := 2) hx hb hts in_X2 hown hK h_29 rfl 0 (by decide) q167 (fun _ h9 => h9) rfl dX2_bestPlace_21 ?_
      refine lv_iload_n hx hb dX2_bestPlace_24 rfl (lv_at hl 1 rfl) ?_
      have h_30 := hO_la.ex (va_S.ex hS)
      have h_31 := hP_kLs_ea.ex (va_S.ex hS)
      refine kx_cFr0 (va_runF (C := RJ2) (As := [.int (kI ((ln : Nat) : Int))]) (rest := [.int (kI ((k : Nat) : Int))]) (hK.at (ci := 9) rfl) ⟨hx, hb, hml, hown, hts⟩ (m_get l D H la mc ea S.length F ln h_30 h_31 (by first | assumption | omega)) (va_cwF (x := ({ cls := "java/util/List", name := "get", desc := "(I)Ljava/lang/Object;" } : Jvm.MethodName)) 1 hts (lw_F q289 q292 q294 q83 q296) rfl rfl rfl (hK.fw (by decide)) (by decide +kernel) ⟨Nat.le_of_ble_eq_true rfl, Nat.le_of_ble_eq_true rfl⟩) (kx_pv hK hS hB (kx_rc hK h_30 (C := RJ2) (T := TJ2) (N := 3) rfl)) rfl rfl hl.1 rfl (lv_room (Nat.le_of_ble_eq_true rfl)) dX2_bestPlace_25 ⟨by first | exact Nat.le_of_ble_eq_true rfl | omega | (show _ ≤ _; omega) | (dsimp only [headSpec]; omega), by first | exact Nat.le_of_ble_eq_true rfl | omega | (show _ ≤ _; omega) | (dsimp only [headSpec]; omega)⟩) hS (fun z_35 locs_32 hz_34 hS_33 => ?_)
      subst z_35
      have h_36 := hP_kLn_F.ex (va_S.ex hS_33)
      obtain ⟨ea_37, gp_37, gs_37, ho_37, hp_37, hs_37, he_37, hm_37⟩ := (h_36 ln (hln))
      refine kx_castS hx hb hts hown q307 hK ho_37 rfl dX2_bestPlace_30 ?_
      refine kx_getN (v := .int (kI ((ln_n (st_ln S ln) : Nat) : Int))) (C := RX4) (T := TX4) (N := 6) hx hb hts in_X4 hown hK ho_37 rfl 3 (by decide) (hK.w q345 rfl) (fun _ h9 => h9) rfl dX2_bestPlace_33 ?_
      refine kx_icmp_gt (x := ((k : Nat) : Int)) (y := ((ln_n (st_ln S ln) : Nat) : Int)) (tgt := 90) hx hb dX2_bestPlace_36 (by decide) (by omega) (by omega) (by omega) (by omega) (fun c_36_38 => ?_) (fun c_36_38 => ?_)
      · -- taken at 36
        refine lv_aload_n hx hb dX2_bestPlace_90 rfl (lv_at hl 2 rfl) ?_
        refine kx_cb0 (va_runU (As := []) (rest := []) ⟨hx, hb, hml, hown, hts⟩ (m_J21_isEmpty l D H pq es cm mq k0 hO_pq (by first | assumption | omega)) (va_cwA (C := RJ21) (owner := "java/util/AbstractCollection") (x := ({ cls := "java/util/PriorityQueue", name := "isEmpty", desc := "()Z" } : Jvm.MethodName)) 0 hts (lw_U q1228 q1229 q1231 q1232 q81 q1233) rfl rfl rfl (hK.w q1230 rfl) (by decide +kernel) ⟨Nat.le_of_ble_eq_true rfl, Nat.le_of_ble_eq_true rfl⟩) (kx_pv hK hS_33 hB (kx_rc hK hO_pq (C := RJ21) (T := TJ21) (N := 4) rfl)) rfl rfl hl.1 rfl (lv_room (Nat.le_of_ble_eq_true rfl)) dX2_bestPlace_91 ⟨by first | exact Nat.le_of_ble_eq_true rfl | omega | (show _ ≤ _; omega) | (dsimp only [headSpec]; omega), by first | exact Nat.le_of_ble_eq_true rfl | omega | (show _ ≤ _; omega) | (dsimp only [headSpec]; omega)⟩) hS_33 (fun z_42 locs_39 hz_41 hS_40 => ?_)
        subst z_42
        refine kx_ifz (tgt := 101) hx hb dX2_bestPlace_94 (by decide) (fun c94 => ?_) (fun c94 => ?_)
        · -- taken at 94
          have c94 := of_decide_eq_false c94
          refine lv_aload_n hx hb dX2_bestPlace_101 rfl (lv_at hl 2 rfl) ?_
          refine kx_cr0 (va_runV (As := []) (rest := []) ⟨hx, hb, hml, hown, hts⟩ (m_J21_peek l D H pq es cm mq k0 g (q 0) hO_pq hA_es (hgq 0 (by omega))) (cwV 0 hts (lw_V q1254 q1255 q1256 q107 q1257) rfl rfl rfl (by decide +kernel) ⟨Nat.le_of_ble_eq_true rfl, Nat.le_of_ble_eq_true rfl⟩) (kx_pv hK hS_40 hB (kx_rc hK hO_pq (C := RJ21) (T := TJ21) (N := 4) rfl)) rfl rfl hl.1 rfl (lv_room (Nat.le_of_ble_eq_true rfl)) dX2_bestPlace_102 ⟨by first | exact Nat.le_of_ble_eq_true rfl | omega | (show _ ≤ _; omega) | (dsimp only [headSpec]; omega), by first | exact Nat.le_of_ble_eq_true rfl | omega | (show _ ≤ _; omega) | (dsimp only [headSpec]; omega)⟩) hS_40 (fun z_46 locs_43 hz_45 hS_44 => ?_)
          subst z_46
          obtain ⟨hcp9, hv19, hv29, hv39⟩ := hP_kCs_cv (q 0) ((hT _).mp ⟨0, by omega, rfl⟩)
          refine kx_castS hx hb hts hown q1179 hK hcp9 rfl dX2_bestPlace_105 ?_
          refine kx_get (v := .int (kI ((cv (q 0)).1))) (C := RX8) (T := TX8) (N := 3) hx hb hts in_X8 hown hK hcp9 rfl 0 (by decide) q1187 (fun _ h9 => h9) rfl dX2_bestPlace_108 ?_
          refine W.widen (k := 369) (n := 1040) (by omega) (by omega) ?_
          exact kx_iret (z := (cv (q 0)).1) hx hb hr hlk (⟨by first | (exact (QOK.best (by rw [show ln_n (st_ln S ln) + 1 = k by omega]; exact hQ) hHP hT (by omega))) | (exact (QOK.empty (by rw [show ln_n (st_ln S ln) + 1 = k by omega]; exact hQ) (fun y hy => by obtain ⟨i, hi, _⟩ := (hT y).mpr hy; omega)).symm), by first | assumption | rfl | omega | grind⟩) hS_44 dX2_bestPlace_111
        · -- not taken at 94
          have c94 := of_decide_eq_true c94
          refine kx_iconst hx hb dX2_bestPlace_97 ?_
          refine lv_goto (tgt := 111) hx hb dX2_bestPlace_98 (by decide) ?_
          refine W.widen (k := 369) (n := 1040) (by omega) (by omega) ?_
          exact kx_iret (z := (-1)) hx hb hr hlk (⟨by first | (exact (QOK.best (by rw [show ln_n (st_ln S ln) + 1 = k by omega]; exact hQ) hHP hT (by omega))) | (exact (QOK.empty (by rw [show ln_n (st_ln S ln) + 1 = k by omega]; exact hQ) (fun y hy => by obtain ⟨i, hi, _⟩ := (hT y).mpr hy; omega)).symm), by first | assumption | rfl | omega | grind⟩) hS_40 dX2_bestPlace_111
      · -- not taken at 36
        refine lv_aload_n hx hb dX2_bestPlace_39 rfl (lv_at hl 0 rfl) ?_
        refine lv_iload_n hx hb dX2_bestPlace_40 rfl (lv_at hl 1 rfl) ?_
        refine lv_iload_n hx hb dX2_bestPlace_41 rfl (lv_at hl 3 rfl) ?_
        have hwr9 := st_whyL_rng S gap ln k
        refine kx_ci (va_runV (As := [.int (kI ((ln : Nat) : Int)), .int (kI ((k : Nat) : Int))]) (rest := []) ⟨hx, hb, hml, hown, hts⟩ (m_X2_whyNotLabelled l D H st la mc ea F S gap ln k h_29 h_30 h_31 h_36 (by first | assumption | omega) (by first | assumption | omega) (by first | assumption | omega)) (cwV 2 hts (lw_V q1068 q1069 q1070 q80 q1071) rfl rfl rfl (by decide +kernel) ⟨Nat.le_of_ble_eq_true rfl, Nat.le_of_ble_eq_true rfl⟩) (kx_pv hK hS_33 hB (kx_rc hK h_29 (C := RX2) (T := TX2) (N := 2) rfl)) rfl rfl hl.1 rfl (lv_room (Nat.le_of_ble_eq_true rfl)) dX2_bestPlace_42 ⟨by first | exact Nat.le_of_ble_eq_true rfl | omega | (show _ ≤ _; omega) | (dsimp only [headSpec]; omega), by first | exact Nat.le_of_ble_eq_true rfl | omega | (show _ ≤ _; omega) | (dsimp only [headSpec]; omega)⟩) hS_33 (fun q _ h => Nat.le_trans hS_33.1 h) (fun q h => Nat.le_trans hS_33.1 h) (fun z_52 H_50 locs_47 hz_49 hF_51 hS_48 => ?_)
        have hzf_53 := hF_51.1
        have hF_51 := hF_51.nw
        obtain ⟨hv_54, hnw_55⟩ := hz_49
        subst z_52
        refine kx_if_ne (x := st_whyL S gap ln k) (tgt := 84) hx hb dX2_bestPlace_45 (by decide) (by omega) (by omega) (fun c_45_56 => ?_) (fun c_45_56 => ?_)
        · -- taken at 45
          refine lv_iinc (v := kI (((k + 1 : Nat) : Int))) (lv' := [(3, .int (kI ((k + 1 : Nat) : Int))), (0, .ref st), (1, .int (kI ((ln : Nat) : Int))), (2, .ref pq)]) hx hb dX2_bestPlace_84 hl (k := 3) rfl (kI_incN _ _) (by decide) rfl (fun ls hl => ?_)
          refine lv_goto (tgt := 19) hx hb dX2_bestPlace_87 (by decide) ?_
          have h_57 := hO_pq.ex hF_51
          have h_58 := hA_es.ex hF_51
          have h_59 := hO_cm.ex hF_51
          have h_60 := hP_kCs_cv.ex hF_51
          refine W.widen (k := 3 + 6 * (k + 1)) (n := 64 + 16 * (k + 1)) (by omega) (by omega) ?_
          exact ih_19  (k + 1) k0 mq g q cv T H_50 h_57 h_58 h_59 h_60 (by first | assumption | omega | (simp_all; done) | grind) (by first | assumption | omega | (simp_all; done) | grind) (hgq) (hHP) (hT) (hQ.skip (by assumption)) (hneT) (hneP) _ hS_48 (by omega) ls (lv_sub hl [1, 2, 3, 0] rfl)
        · -- not taken at 45
          have h_61 := hO_pq.ex hF_51
          have hlpq := h_61.lt
          have h_62 := hA_es.ex hF_51
          have hles := h_62.lt
          have h_63 := hO_cm.ex hF_51
          have hlcm := h_63.lt
          have h_64 := hP_kCs_cv.ex hF_51
          have hcs6 := h_64
          have hwz : st_whyL S gap ln k = 0 := by assumption
          have hplc9 := ln_isPlace_le (st_whyL_place hwz)
          have hfr9 := st_free_rng hok hln hplc9
          have hbr9 := ln_bends_rng (hok.ln hln) ((k : Nat) : Int)
          refine lv_aload_n hx hb dX2_bestPlace_48 rfl (lv_at hl 2 rfl) ?_
          refine kx_new (ci := 7) (fs := [.int (kI (0)), .int (kI (0)), .int (kI (0))]) (C := RX8) (T := TX8) (N := 3) hx hb hts in_X8 hown hK tyX8 tyX8_ok q1179 q1180 q109 hS_48 rfl (fun j hj => by rcases (show j = 0 ∨ j = 1 ∨ j = 2 by omega) with rfl | rfl | rfl <;> rfl) (by first | exact Nat.le_of_ble_eq_true rfl | omega | (show _ ≤ _; omega) | (dsimp only [headSpec]; omega)) (by first | exact Nat.le_of_ble_eq_true rfl | omega | (show _ ≤ _; omega) | (dsimp only [headSpec]; omega)) dX2_bestPlace_49 (fun cd H_65 hq_66 hz_67 hO_68 hE_69 hS_70 => ?_)
          have hge_cd : s.heap.size ≤ cd := by rw [hq_66]; exact hS_48.1
          refine lv_dup hx hb dX2_bestPlace_52 rfl ?_
          refine lv_iload_n hx hb dX2_bestPlace_53 rfl (lv_at hl 3 rfl) ?_
          refine lv_aload_n hx hb dX2_bestPlace_54 rfl (lv_at hl 0 rfl) ?_
          have h_71 := hO_st.ex (va_S.ex hS_70)
          refine kx_get (v := .ref la) (C := RX2) (T := TX2) (N := 2) hx hb hts in_X2 hown hK h_71 rfl 0 (by decide) q167 (fun _ h9 => h9) rfl dX2_bestPlace_55 ?_
          refine lv_iload_n hx hb dX2_bestPlace_58 rfl (lv_at hl 1 rfl) ?_
          have h_72 := hO_la.ex (va_S.ex hS_70)
          have h_73 := hP_kLs_ea.ex (va_S.ex hS_70)
          refine kx_cFr0 (va_runF (C := RJ2) (As := [.int (kI ((ln : Nat) : Int))]) (rest := [.int (kI ((k : Nat) : Int)), .ref cd, .ref cd, .ref pq]) (hK.at (ci := 9) rfl) ⟨hx, hb, hml, hown, hts⟩ (m_get l D H_65 la mc ea S.length F ln h_72 h_73 (by first | assumption | omega)) (va_cwF (x := ({ cls := "java/util/List", name := "get", desc := "(I)Ljava/lang/Object;" } : Jvm.MethodName)) 1 hts (lw_F q289 q292 q294 q83 q296) rfl rfl rfl (hK.fw (by decide)) (by decide +kernel) ⟨Nat.le_of_ble_eq_true rfl, Nat.le_of_ble_eq_true rfl⟩) (kx_pv hK hS_70 hB (kx_rc hK h_72 (C := RJ2) (T := TJ2) (N := 3) rfl)) rfl rfl hl.1 rfl (lv_room (Nat.le_of_ble_eq_true rfl)) dX2_bestPlace_59 ⟨by first | exact Nat.le_of_ble_eq_true rfl | omega | (show _ ≤ _; omega) | (dsimp only [headSpec]; omega), by first | exact Nat.le_of_ble_eq_true rfl | omega | (show _ ≤ _; omega) | (dsimp only [headSpec]; omega)⟩) hS_70 (fun z_77 locs_74 hz_76 hS_75 => ?_)
          subst z_77
          by_cases hcl9 : ln_cl (st_ln S ln) = true
          · -- hcl9 t
            have h_78 := hP_kLn_F.ex (va_S.ex hS_75)
            obtain ⟨ea_79, gp_79, gs_79, ho_79, hp_79, hs_79, he_79, hm_79⟩ := (h_78 ln (hln)).closed_ hcl9
            refine kx_castS hx hb hts hown q307 hK ho_79 rfl dX2_bestPlace_64 ?_
            refine lv_iload_n hx hb dX2_bestPlace_67 rfl (lv_at hl 3 rfl) ?_
            refine kx_ci0 (va_runV (As := [.int (kI ((k : Nat) : Int))]) (rest := [.int (kI ((k : Nat) : Int)), .ref cd, .ref cd, .ref pq]) ⟨hx, hb, hml, hown, hts⟩ (m_bendOfPlace_c l D H_65 (fA F ln) (fP F ln) (fS F ln) ea_79 gp_79 gs_79 ((st_ln S ln)) k ho_79 hp_79 hs_79 he_79 (by first | assumption | omega) ((hok.ln hln)) (by first | assumption | omega) hcl9) (cwV 1 hts (lw_V q1106 q1107 q1108 q99 q1109) rfl rfl rfl (by decide +kernel) ⟨Nat.le_of_ble_eq_true rfl, Nat.le_of_ble_eq_true rfl⟩) (kx_pv hK hS_75 hB (kx_rc hK ho_79 (C := RX4) (T := TX4) (N := 6) rfl)) rfl rfl hl.1 rfl (lv_room (Nat.le_of_ble_eq_true rfl)) dX2_bestPlace_68 ⟨by first | exact Nat.le_of_ble_eq_true rfl | omega | (show _ ≤ _; omega) | (dsimp only [headSpec]; omega), by first | exact Nat.le_of_ble_eq_true rfl | omega | (show _ ≤ _; omega) | (dsimp only [headSpec]; omega)⟩) hS_75 (fun z_83 locs_80 hz_82 hS_81 => ?_)
            subst z_83
            refine lv_aload_n hx hb dX2_bestPlace_71 rfl (lv_at hl 0 rfl) ?_
            refine lv_iload_n hx hb dX2_bestPlace_72 rfl (lv_at hl 1 rfl) ?_
            refine lv_iload_n hx hb dX2_bestPlace_73 rfl (lv_at hl 3 rfl) ?_
            refine kx_ci0 (va_runV (As := [.int (kI ((ln : Nat) : Int)), .int (kI ((k : Nat) : Int))]) (rest := [.int (kI (ln_bends (st_ln S ln) (k : Int))), .int (kI ((k : Nat) : Int)), .ref cd, .ref cd, .ref pq]) ⟨hx, hb, hml, hown, hts⟩ (m_X2_far l D H_65 st la mc ea F S gap ln k h_71 h_72 h_73 h_78 (by first | assumption | omega) (by first | assumption | omega) (by omega)) (cwV 2 hts (lw_V q1158 q1160 qs16 q80 q1161) rfl rfl rfl (by decide +kernel) ⟨Nat.le_of_ble_eq_true rfl, Nat.le_of_ble_eq_true rfl⟩) (kx_pv hK hS_81 hB (kx_rc hK h_71 (C := RX2) (T := TX2) (N := 2) rfl)) rfl rfl hl.1 rfl (lv_room (Nat.le_of_ble_eq_true rfl)) dX2_bestPlace_74 ⟨by first | exact Nat.le_of_ble_eq_true rfl | omega | (show _ ≤ _; omega) | (dsimp only [headSpec]; omega), by first | exact Nat.le_of_ble_eq_true rfl | omega | (show _ ≤ _; omega) | (dsimp only [headSpec]; omega)⟩) hS_81 (fun z_87 locs_84 hz_86 hS_85 => ?_)
            subst z_87
            have h_88 := h_64.ex hE_69
            have hcs7 := h_88
            have hneC : ∀ y, T y → y ≠ cd := fun y hy => by have := (hcs6 y hy).1.lt; omega
            refine kx_cv (va_runI (As := [.int (kI ((k : Nat) : Int)), .int (kI (ln_bends (st_ln S ln) (k : Int))), .int (kI (st_free S ln k))]) (rest := [.ref cd, .ref pq]) ⟨hx, hb, hml, hown, hts⟩ (m_X8_init l D H_65 cd (((k : Nat) : Int)) (ln_bends (st_ln S ln) (k : Int)) (st_free S ln k) hO_68 (by first | assumption | omega)) (cwI 3 hts (lw_meth q1183) rfl rfl rfl (hts _ q109) (hts _ q1181) (hts _ q1182) rfl (by decide +kernel) ⟨Nat.le_of_ble_eq_true rfl, Nat.le_of_ble_eq_true rfl⟩) (kx_ps hK hS_85 hB) rfl rfl hl.1 rfl (lv_room (Nat.le_of_ble_eq_true rfl)) dX2_bestPlace_77 ⟨by first | exact Nat.le_of_ble_eq_true rfl | omega | (show _ ≤ _; omega) | (dsimp only [headSpec]; omega), by first | exact Nat.le_of_ble_eq_true rfl | omega | (show _ ≤ _; omega) | (dsimp only [headSpec]; omega)⟩) hS_85 (fun q _ h => by (try dsimp only at h); (try dsimp only); (try simp only [kNW] at h); (try simp only [kNW]); omega) (fun q h => by (try dsimp only at h); (try dsimp only); (try simp only [kNW] at h); (try simp only [kNW]); omega) (fun H_92 locs_89 hz_91 hF_93 hS_90 => ?_)
            have hzf_95 := hF_93.1
            have ho_96 := hz_91
            have hcs8 : kCs D H_92 (cvu cv cd (((k : Nat) : Int), ln_bends (st_ln S ln) ((k : Nat) : Int), st_free S ln k)) (Tu T cd) := hcs7.add hF_93 hneC ho_96 (by dsimp only; omega) (by dsimp only; omega) (by dsimp only; omega)
            have h_97 := h_61.ex hE_69
            have h_98 := h_97.fr hF_93 (fun h => by (try dsimp only at h); (try simp only [kNW] at h); omega)
            have h_99 := h_62.ex hE_69
            have h_100 := h_99.fr hF_93 (fun h => by (try dsimp only at h); (try simp only [kNW] at h); omega)
            have h_101 := h_63.ex hE_69
            have h_102 := h_101.fr hF_93 (fun h => by (try dsimp only at h); (try simp only [kNW] at h); omega)
            refine kx_cb (va_runV (As := [.ref cd]) (rest := []) ⟨hx, hb, hml, hown, hts⟩ (m_J21_add l D H_92 pq mq k0 cd es cm ((cvu cv cd (((k : Nat) : Int), ln_bends (st_ln S ln) ((k : Nat) : Int), st_free S ln k))) ((Tu T cd)) g ((qu q k0 cd)) h_98 h_100 h_102 hcs8 (by omega) (fun i hi => by unfold qu; rw [if_neg (by omega)]; exact hgq i hi) (if_pos rfl) (hHP.cv (fun i hi => hneC _ ((hT _).mp ⟨i, hi, rfl⟩))) (fun y => by constructor; (rintro ⟨i, hi, rfl⟩; unfold qu Tu; split; exact Or.inr rfl; exact Or.inl ((hT _).mp ⟨i, by omega, rfl⟩)); (rintro (z | z); (obtain ⟨i, hi, e9⟩ := (hT y).mpr z; exact ⟨i, by omega, by unfold qu; rw [if_neg (by omega)]; exact e9⟩); exact ⟨k0, by omega, by unfold qu; rw [if_pos rfl]; exact z.symm⟩)) (fun y hy => by rcases hy with z | z; exact hneT y z; omega) (fun y hy => by rcases hy with z | z; exact hneP y z; omega) (by first | assumption | omega) (by first | assumption | omega) (by first | assumption | omega) (by first | assumption | omega) (by first | assumption | omega)) (cwV 1 hts (lw_V q1199 q1200 q1201 q107 q1202) rfl rfl rfl (by decide +kernel) ⟨Nat.le_of_ble_eq_true rfl, Nat.le_of_ble_eq_true rfl⟩) (kx_pv hK hS_90 hB (kx_rc hK h_98 (C := RJ21) (T := TJ21) (N := 4) rfl)) rfl rfl hl.1 rfl (lv_room (Nat.le_of_ble_eq_true rfl)) dX2_bestPlace_80 ⟨by first | exact Nat.le_of_ble_eq_true rfl | omega | (show _ ≤ _; omega) | (dsimp only [headSpec]; omega), by first | exact Nat.le_of_ble_eq_true rfl | omega | (show _ ≤ _; omega) | (dsimp only [headSpec]; omega)⟩) hS_90 (fun q _ h => by (try dsimp only at h); (try dsimp only); (try simp only [kNW] at h); (try simp only [kNW]); omega) (fun q h => by (try dsimp only at h); (try dsimp only); (try simp only [kNW] at h); (try simp only [kNW]); omega) (fun z_108 H_106 locs_103 hz_105 hF_107 hS_104 => ?_)
            have hzf_109 := hF_107.1
            obtain ⟨ga, qa, hv_112, ho_113, ho_114, hga9, hHPa9, hTa9⟩ := hz_105
            subst z_108
            refine lv_pop hx hb dX2_bestPlace_83 rfl ?_
            refine lv_iinc (v := kI (((k + 1 : Nat) : Int))) (lv' := [(3, .int (kI ((k + 1 : Nat) : Int))), (0, .ref st), (1, .int (kI ((ln : Nat) : Int))), (2, .ref pq)]) hx hb dX2_bestPlace_84 hl (k := 3) rfl (kI_incN _ _) (by decide) rfl (fun ls hl => ?_)
            refine lv_goto (tgt := 19) hx hb dX2_bestPlace_87 (by decide) ?_
            have h_115 := h_102.fr hF_107 (fun h => by (try dsimp only at h); (try simp only [kNW] at h); omega)
            have h_116 := hcs8.fr hF_107 (fun y hy h => by (try dsimp only at h); rcases hy with z | z; (have a1 := hneT y z; have a2 := hneP y z; omega); omega)
            refine W.widen (k := 3 + 6 * (k + 1)) (n := 64 + 16 * (k + 1)) (by omega) (by omega) ?_
            exact ih_19  (k + 1) (k0 + 1) ((mq + 1)) ga qa ((cvu cv cd (((k : Nat) : Int), ln_bends (st_ln S ln) ((k : Nat) : Int), st_free S ln k))) ((Tu T cd)) H_106 ho_113 ho_114 h_115 h_116 (by first | assumption | omega | (simp_all; done) | grind) (by first | assumption | omega | (simp_all; done) | grind) (fun i hi => hga9 i (by omega)) (hHPa9) (fun y => by constructor; (rintro ⟨i, hi, e⟩; exact (hTa9 y).mp ⟨i, by omega, e⟩); (intro h; obtain ⟨i, hi, e⟩ := (hTa9 y).mpr h; exact ⟨i, by omega, e⟩)) (hQ.add hwz hneC) (fun y hy => by rcases hy with z | z; exact hneT y z; omega) (fun y hy => by rcases hy with z | z; exact hneP y z; omega) _ hS_104 (by omega) ls (lv_sub hl [1, 2, 3, 0] rfl)
          · -- hcl9 f
            have hcl8 : ln_cl (st_ln S ln) = false := by simpa using hcl9
            have h_117 := hP_kLn_F.ex (va_S.ex hS_75)
            obtain ⟨ea_118, gp_118, gs_118, ho_118, hp_118, hs_118, he_118, hm_118⟩ := (h_117 ln (hln)).open_ hcl8
            refine kx_castS hx hb hts hown q307 hK ho_118 rfl dX2_bestPlace_64 ?_
            refine lv_iload_n hx hb dX2_bestPlace_67 rfl (lv_at hl 3 rfl) ?_
            refine kx_ci0 (va_runV (As := [.int (kI ((k : Nat) : Int))]) (rest := [.int (kI ((k : Nat) : Int)), .ref cd, .ref cd, .ref pq]) ⟨hx, hb, hml, hown, hts⟩ (m_bendOfPlace_o l D H_65 (fA F ln) (fP F ln) (fS F ln) ea_118 gp_118 gs_118 ((st_ln S ln)) k ho_118 hp_118 hs_118 he_118 (by first | assumption | omega) ((hok.ln hln)) (by first | assumption | omega) hcl8) (cwV 1 hts (lw_V q1106 q1107 q1108 q99 q1109) rfl rfl rfl (by decide +kernel) ⟨Nat.le_of_ble_eq_true rfl, Nat.le_of_ble_eq_true rfl⟩) (kx_pv hK hS_75 hB (kx_rc hK ho_118 (C := RX4) (T := TX4) (N := 6) rfl)) rfl rfl hl.1 rfl (lv_room (Nat.le_of_ble_eq_true rfl)) dX2_bestPlace_68 ⟨by first | exact Nat.le_of_ble_eq_true rfl | omega | (show _ ≤ _; omega) | (dsimp only [headSpec]; omega), by first | exact Nat.le_of_ble_eq_true rfl | omega | (show _ ≤ _; omega) | (dsimp only [headSpec]; omega)⟩) hS_75 (fun z_122 locs_119 hz_121 hS_120 => ?_)
            subst z_122
            refine lv_aload_n hx hb dX2_bestPlace_71 rfl (lv_at hl 0 rfl) ?_
            refine lv_iload_n hx hb dX2_bestPlace_72 rfl (lv_at hl 1 rfl) ?_
            refine lv_iload_n hx hb dX2_bestPlace_73 rfl (lv_at hl 3 rfl) ?_
            refine kx_ci0 (va_runV (As := [.int (kI ((ln : Nat) : Int)), .int (kI ((k : Nat) : Int))]) (rest := [.int (kI (ln_bends (st_ln S ln) (k : Int))), .int (kI ((k : Nat) : Int)), .ref cd, .ref cd, .ref pq]) ⟨hx, hb, hml, hown, hts⟩ (m_X2_far l D H_65 st la mc ea F S gap ln k h_71 h_72 h_73 h_117 (by first | assumption | omega) (by first | assumption | omega) (by omega)) (cwV 2 hts (lw_V q1158 q1160 qs16 q80 q1161) rfl rfl rfl (by decide +kernel) ⟨Nat.le_of_ble_eq_true rfl, Nat.le_of_ble_eq_true rfl⟩) (kx_pv hK hS_120 hB (kx_rc hK h_71 (C := RX2) (T := TX2) (N := 2) rfl)) rfl rfl hl.1 rfl (lv_room (Nat.le_of_ble_eq_true rfl)) dX2_bestPlace_74 ⟨by first | exact Nat.le_of_ble_eq_true rfl | omega | (show _ ≤ _; omega) | (dsimp only [headSpec]; omega), by first | exact Nat.le_of_ble_eq_true rfl | omega | (show _ ≤ _; omega) | (dsimp only [headSpec]; omega)⟩) hS_120 (fun z_126 locs_123 hz_125 hS_124 => ?_)
            subst z_126
            have h_127 := h_64.ex hE_69
            have hcs7 := h_127
            have hneC : ∀ y, T y → y ≠ cd := fun y hy => by have := (hcs6 y hy).1.lt; omega
            refine kx_cv (va_runI (As := [.int (kI ((k : Nat) : Int)), .int (kI (ln_bends (st_ln S ln) (k : Int))), .int (kI (st_free S ln k))]) (rest := [.ref cd, .ref pq]) ⟨hx, hb, hml, hown, hts⟩ (m_X8_init l D H_65 cd (((k : Nat) : Int)) (ln_bends (st_ln S ln) (k : Int)) (st_free S ln k) hO_68 (by first | assumption | omega)) (cwI 3 hts (lw_meth q1183) rfl rfl rfl (hts _ q109) (hts _ q1181) (hts _ q1182) rfl (by decide +kernel) ⟨Nat.le_of_ble_eq_true rfl, Nat.le_of_ble_eq_true rfl⟩) (kx_ps hK hS_124 hB) rfl rfl hl.1 rfl (lv_room (Nat.le_of_ble_eq_true rfl)) dX2_bestPlace_77 ⟨by first | exact Nat.le_of_ble_eq_true rfl | omega | (show _ ≤ _; omega) | (dsimp only [headSpec]; omega), by first | exact Nat.le_of_ble_eq_true rfl | omega | (show _ ≤ _; omega) | (dsimp only [headSpec]; omega)⟩) hS_124 (fun q _ h => by (try dsimp only at h); (try dsimp only); (try simp only [kNW] at h); (try simp only [kNW]); omega) (fun q h => by (try dsimp only at h); (try dsimp only); (try simp only [kNW] at h); (try simp only [kNW]); omega) (fun H_131 locs_128 hz_130 hF_132 hS_129 => ?_)
            have hzf_134 := hF_132.1
            have ho_135 := hz_130
            have hcs8 : kCs D H_131 (cvu cv cd (((k : Nat) : Int), ln_bends (st_ln S ln) ((k : Nat) : Int), st_free S ln k)) (Tu T cd) := hcs7.add hF_132 hneC ho_135 (by dsimp only; omega) (by dsimp only; omega) (by dsimp only; omega)
            have h_136 := h_61.ex hE_69
            have h_137 := h_136.fr hF_132 (fun h => by (try dsimp only at h); (try simp only [kNW] at h); omega)
            have h_138 := h_62.ex hE_69
            have h_139 := h_138.fr hF_132 (fun h => by (try dsimp only at h); (try simp only [kNW] at h); omega)
            have h_140 := h_63.ex hE_69
            have h_141 := h_140.fr hF_132 (fun h => by (try dsimp only at h); (try simp only [kNW] at h); omega)
            refine kx_cb (va_runV (As := [.ref cd]) (rest := []) ⟨hx, hb, hml, hown, hts⟩ (m_J21_add l D H_131 pq mq k0 cd es cm ((cvu cv cd (((k : Nat) : Int), ln_bends (st_ln S ln) ((k : Nat) : Int), st_free S ln k))) ((Tu T cd)) g ((qu q k0 cd)) h_137 h_139 h_141 hcs8 (by omega) (fun i hi => by unfold qu; rw [if_neg (by omega)]; exact hgq i hi) (if_pos rfl) (hHP.cv (fun i hi => hneC _ ((hT _).mp ⟨i, hi, rfl⟩))) (fun y => by constructor; (rintro ⟨i, hi, rfl⟩; unfold qu Tu; split; exact Or.inr rfl; exact Or.inl ((hT _).mp ⟨i, by omega, rfl⟩)); (rintro (z | z); (obtain ⟨i, hi, e9⟩ := (hT y).mpr z; exact ⟨i, by omega, by unfold qu; rw [if_neg (by omega)]; exact e9⟩); exact ⟨k0, by omega, by unfold qu; rw [if_pos rfl]; exact z.symm⟩)) (fun y hy => by rcases hy with z | z; exact hneT y z; omega) (fun y hy => by rcases hy with z | z; exact hneP y z; omega) (by first | assumption | omega) (by first | assumption | omega) (by first | assumption | omega) (by first | assumption | omega) (by first | assumption | omega)) (cwV 1 hts (lw_V q1199 q1200 q1201 q107 q1202) rfl rfl rfl (by decide +kernel) ⟨Nat.le_of_ble_eq_true rfl, Nat.le_of_ble_eq_true rfl⟩) (kx_pv hK hS_129 hB (kx_rc hK h_137 (C := RJ21) (T := TJ21) (N := 4) rfl)) rfl rfl hl.1 rfl (lv_room (Nat.le_of_ble_eq_true rfl)) dX2_bestPlace_80 ⟨by first | exact Nat.le_of_ble_eq_true rfl | omega | (show _ ≤ _; omega) | (dsimp only [headSpec]; omega), by first | exact Nat.le_of_ble_eq_true rfl | omega | (show _ ≤ _; omega) | (dsimp only [headSpec]; omega)⟩) hS_129 (fun q _ h => by (try dsimp only at h); (try dsimp only); (try simp only [kNW] at h); (try simp only [kNW]); omega) (fun q h => by (try dsimp only at h); (try dsimp only); (try simp only [kNW] at h); (try simp only [kNW]); omega) (fun z_147 H_145 locs_142 hz_144 hF_146 hS_143 => ?_)
            have hzf_148 := hF_146.1
            obtain ⟨ga, qa, hv_151, ho_152, ho_153, hga9, hHPa9, hTa9⟩ := hz_144
            subst z_147
            refine lv_pop hx hb dX2_bestPlace_83 rfl ?_
            refine lv_iinc (v := kI (((k + 1 : Nat) : Int))) (lv' := [(3, .int (kI ((k + 1 : Nat) : Int))), (0, .ref st), (1, .int (kI ((ln : Nat) : Int))), (2, .ref pq)]) hx hb dX2_bestPlace_84 hl (k := 3) rfl (kI_incN _ _) (by decide) rfl (fun ls hl => ?_)
            refine lv_goto (tgt := 19) hx hb dX2_bestPlace_87 (by decide) ?_
            have h_154 := h_141.fr hF_146 (fun h => by (try dsimp only at h); (try simp only [kNW] at h); omega)
            have h_155 := hcs8.fr hF_146 (fun y hy h => by (try dsimp only at h); rcases hy with z | z; (have a1 := hneT y z; have a2 := hneP y z; omega); omega)
            refine W.widen (k := 3 + 6 * (k + 1)) (n := 64 + 16 * (k + 1)) (by omega) (by omega) ?_
            exact ih_19  (k + 1) (k0 + 1) ((mq + 1)) ga qa ((cvu cv cd (((k : Nat) : Int), ln_bends (st_ln S ln) ((k : Nat) : Int), st_free S ln k))) ((Tu T cd)) H_145 ho_152 ho_153 h_154 h_155 (by first | assumption | omega | (simp_all; done) | grind) (by first | assumption | omega | (simp_all; done) | grind) (fun i hi => hga9 i (by omega)) (hHPa9) (fun y => by constructor; (rintro ⟨i, hi, e⟩; exact (hTa9 y).mp ⟨i, by omega, e⟩); (intro h; obtain ⟨i, hi, e⟩ := (hTa9 y).mpr h; exact ⟨i, by omega, e⟩)) (hQ.add hwz hneC) (fun y hy => by rcases hy with z | z; exact hneT y z; omega) (fun y hy => by rcases hy with z | z; exact hneP y z; omega) _ hS_143 (by omega) ls (lv_sub hl [1, 2, 3, 0] rfl)
  have h_156 := hO_10.fr hF_22 (fun h => by (try dsimp only at h); (try simp only [kNW] at h); omega)
  refine W.widen (k := 3 + 6 * 0) (n := 64 + 16 * 0) (by omega) (by omega) ?_
  exact lp_19_x_28 (ln_n (st_ln S ln) + 1 - 0 + 1) 0 0 0 ((fun _ => none)) ((fun _ => 0)) ((fun _ => (0, 0, 0))) ((fun _ => False)) H_21 ho_26 ho_27 h_156 hcs0 (by first | assumption | omega | (simp_all; done) | grind) (by first | assumption | omega | (simp_all; done) | grind) (fun i hi => absurd hi (Nat.not_lt_zero i)) (fun i h1 h2 => by omega) (fun y => ⟨fun ⟨i, hi, _⟩ => absurd hi (Nat.not_lt_zero i), fun h => h.elim⟩) (QOK.none _ _ _ _) (fun _ h => h.elim) (fun _ h => h.elim) _ hS_19 (Nat.lt_succ_self _) ls (lv_sub hl [2, 3, 1, 0] rfl)

