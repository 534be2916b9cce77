/-! MATH 18: a line's cells, changed -/
theorem MLn.step {gp gs : Nat → Int} {L : Ln} {d : Int} (h : MLn gp gs L) (hx : nx (ln_end L) d ≠ -1) : MLn (kup gp (ln_n L + 1) (nx (ln_end L) d)) (kup gs (ln_n L) d) (w_step L d) := by
  refine ⟨fun k hk => ?_, fun k hk => ?_⟩
  · rw [ln_n_step] at hk
    by_cases e : k = ln_n L + 1
    · subst e
      rw [kup_self, ln_pos_step1]
      unfold nx at hx ⊢
      split
      · omega
      · rename_i q; rw [if_neg q] at hx; exact absurd rfl hx
    · rw [kup_ne (by omega), ln_pos_step _ _ _ (by omega)]
      exact h.1 k (by omega)
  · rw [ln_n_step] at hk
    rw [ln_d_step _ _ _ hk]
    by_cases e : k = ln_n L
    · subst e; rw [kup_self, if_pos rfl]
    · rw [kup_ne (by omega), if_neg e]
      exact h.2 k (by omega)
theorem MLn.new {gp gs : Nat → Int} {lv pt : Int} : MLn (kup gp 0 pt) gs (w_new lv pt) := by
  refine ⟨fun k hk => ?_, fun k hk => absurd hk (Nat.not_lt_zero k)⟩
  have : k = 0 := by have : ln_n (w_new lv pt) = 0 := rfl; omega
  subst this
  exact kup_self _ _ _
set_option maxHeartbeats 4000000 in
set_option maxRecDepth 100000 in
theorem m_X5_init (l : Launch) (D : kG) (H : Heap) (a : Nat) : Met l yX5_init (ws_ yX5_init cX5_init 1 none) ({ frames := 1, cells := 0, slots := 0, locals := 20 } : Room) (kPre D H [.ref a]) (kQv (fun H' => H' = H ∧ True) kNO) (0) (0) (kNO) := by
  refine Met.ofW (cc := cX5_init) (maxL := 1) (ret := none) (by decide) rfl ?_
  intro p e s m args below meth c s₁ B hml hv
  obtain ⟨rfl, hH, hK⟩ := hv
  subst hH
  have hx := B.exec
  have hb := B.bytes
  have hr := B.returns
  have hts := atoms_spec (ws := ws_ yX5_init cX5_init 1 none) B.pre
  have hts : ∀ w ∈ lw_all, w.before _ s = true := fun w h => hts w (List.mem_cons_of_mem _ h)
  have hown : s.vm.findClass RX5 = some m.cls := findClass_of_methodNamed B.named
  have hlk := B.notSynchronized
  have hin : meth.name = "<init>" := (name_of_methodNamed B.named B.method).1
  have hS : va_S kNO s.heap s.heap [] := va_S.rf
  have hB : ∀ q, kNO q → kBase D ≤ q := fun _ h => h.elim
  have hl := lv_entry ([.ref a]) (n := 1) (Nat.le_of_ble_eq_true rfl)
  rw [lg_entry_eq]
  generalize (lg_sl ([.ref a]) ++ List.replicate (1 - (lg_sl ([.ref a])).length) Slot.unset).toArray = ls at hl ⊢
  have hl : lv_has ls 1 [(0, .ref a)] := hl
  refine lv_aload_n hx hb dX5_init_0 rfl (lv_at hl 0 rfl) ?_
  refine W.objInit hx hb hown (hts _ q330) (hts _ q133) (hts _ q134) rfl (by rw [hml]; exact hl.1) rfl dX5_init_1 (Nat.le_of_ble_eq_true rfl) (Nat.le_of_ble_eq_true rfl) ?_
  refine W.eq (g2 := F0 m 4 ls []) rfl ?_
  exact kx_vret hx hb hr hlk (⟨rfl, trivial⟩) hS dX5_init_4

set_option maxHeartbeats 4000000 in
set_option maxRecDepth 100000 in
theorem m_X6_init (l : Launch) (D : kG) (H : Heap) (a : Nat) : Met l yX6_init (ws_ yX6_init cX6_init 1 none) ({ frames := 1, cells := 0, slots := 0, locals := 20 } : Room) (kPre D H [.ref a]) (kQv (fun H' => H' = H ∧ True) kNO) (0) (0) (kNO) := by
  refine Met.ofW (cc := cX6_init) (maxL := 1) (ret := none) (by decide) rfl ?_
  intro p e s m args below meth c s₁ B hml hv
  obtain ⟨rfl, hH, hK⟩ := hv
  subst hH
  have hx := B.exec
  have hb := B.bytes
  have hr := B.returns
  have hts := atoms_spec (ws := ws_ yX6_init cX6_init 1 none) B.pre
  have hts : ∀ w ∈ lw_all, w.before _ s = true := fun w h => hts w (List.mem_cons_of_mem _ h)
  have hown : s.vm.findClass RX6 = some m.cls := findClass_of_methodNamed B.named
  have hlk := B.notSynchronized
  have hin : meth.name = "<init>" := (name_of_methodNamed B.named B.method).1
  have hS : va_S kNO s.heap s.heap [] := va_S.rf
  have hB : ∀ q, kNO q → kBase D ≤ q := fun _ h => h.elim
  have hl := lv_entry ([.ref a]) (n := 1) (Nat.le_of_ble_eq_true rfl)
  rw [lg_entry_eq]
  generalize (lg_sl ([.ref a]) ++ List.replicate (1 - (lg_sl ([.ref a])).length) Slot.unset).toArray = ls at hl ⊢
  have hl : lv_has ls 1 [(0, .ref a)] := hl
  refine lv_aload_n hx hb dX6_init_0 rfl (lv_at hl 0 rfl) ?_
  refine W.objInit hx hb hown (hts _ q1738) (hts _ q133) (hts _ q134) rfl (by rw [hml]; exact hl.1) rfl dX6_init_1 (Nat.le_of_ble_eq_true rfl) (Nat.le_of_ble_eq_true rfl) ?_
  refine W.eq (g2 := F0 m 4 ls []) rfl ?_
  exact kx_vret hx hb hr hlk (⟨rfl, trivial⟩) hS dX6_init_4

set_option maxHeartbeats 4000000 in
set_option maxRecDepth 100000 in
theorem m_step_o (l : Launch) (D : kG) (H : Heap) (a : Nat) (pa : Nat) (sa : Nat) (ea : Nat) (gp : Nat → Int) (gs : Nat → Int) (L : Ln) (d : Int) (hO_a : kO D H a 3 [.int (kI (ln_lv L)), .ref pa, .ref sa, .int (kI ((ln_n L : Nat) : Int)), .ref ea, .int (kI (ln_lb L))]) (hA_pa : kAi D H pa 61 gp) (hA_sa : kAi D H sa 60 gs) (hM : MLn gp gs L) (hok : LnOK L) (hd : 0 ≤ d ∧ d ≤ 7) (hn : ln_n L < 60) (hnx : nx (ln_end L) d ≠ -1) (hcs : ln_cl (w_step L d) = decide (nx (ln_end L) d = ln_bg L ∧ 3 ≤ ln_n L)) (ne_a_pa : a ≠ pa) (ne_a_sa : a ≠ sa) (ne_pa_sa : pa ≠ sa) (bs_a : kBase D ≤ a) (bs_pa : kBase D ≤ pa) (bs_sa : kBase D ≤ sa) (hcl : ln_cl (w_step L d) = false) : Met l yX4_step (ws_ yX4_step cX4_step 4 none) ({ frames := 2, cells := 0, slots := 0, locals := 43 } : Room) (kPre D H [.ref a, .int (kI (d))]) (kQv (fun H' => ∃ (gp2 : Nat → Int) (gs2 : Nat → Int), (kO D H' a 3 [.int (kI (ln_lv L)), .ref pa, .ref sa, .int (kI ((ln_n L + 1 : Nat) : Int)), .ref ea, .int (kI (ln_lb L))]) ∧ (kAi D H' pa 61 gp2) ∧ (kAi D H' sa 60 gs2) ∧ (MLn gp2 gs2 (w_step L d))) (fun q : Nat => q = a ∨ q = pa ∨ q = sa)) (0) (0) ((fun q : Nat => q = a ∨ q = pa ∨ q = sa)) := by
  refine Met.ofW (cc := cX4_step) (maxL := 4) (ret := none) (by decide) rfl ?_
  intro p e s m args below meth c s₁ B hml hv
  obtain ⟨rfl, hH, hK⟩ := hv
  subst hH
  have hx := B.exec
  have hb := B.bytes
  have hr := B.returns
  have hts := atoms_spec (ws := ws_ yX4_step cX4_step 4 none) B.pre
  have hts : ∀ w ∈ lw_all, w.before _ s = true := fun w h => hts w (List.mem_cons_of_mem _ h)
  have hown : s.vm.findClass RX4 = some m.cls := findClass_of_methodNamed B.named
  have hlk := B.notSynchronized
  have hS : va_S (fun q : Nat => q = a ∨ q = pa ∨ q = sa) s.heap s.heap [] := va_S.rf
  have hB : ∀ q, (fun q : Nat => q = a ∨ q = pa ∨ q = sa) q → kBase D ≤ q := fun q h => by (try dsimp only at h); (try simp only [kNW] at h); have hks := hK.size; omega
  have hl := lv_entry ([.ref a, .int (kI (d))]) (n := 4) (Nat.le_of_ble_eq_true rfl)
  rw [lg_entry_eq]
  generalize (lg_sl ([.ref a, .int (kI (d))]) ++ List.replicate (4 - (lg_sl ([.ref a, .int (kI (d))])).length) Slot.unset).toArray = ls at hl ⊢
  have hl : lv_has ls 4 [(0, .ref a), (1, .int (kI (d)))] := hl
  have hL60 := hok.n
  have hlb := hok.lbr
  have hlv := hok.lv
  have hsz := ln_size_23 L
  have hlt_a := hO_a.lt
  have hlt_pa := hA_pa.lt
  have hlt_sa := hA_sa.lt
  have hks9 := hK.size
  have hen := hok.pos (k := ln_n L) (by omega)
  rw [show ln_pos L (ln_n L) = ln_end L from rfl] at hen
  have hac := ac_rng d
  have hdn := dn_rng d
  have hnr := nx_ok hen hnx
  refine lv_aload_n hx hb dX4_step_0 rfl (lv_at hl 0 rfl) ?_
  refine kx_ci0 (va_runV (As := []) (rest := []) ⟨hx, hb, hml, hown, hts⟩ (m_X4_end l D s.heap a pa sa ea gp gs L hO_a hA_pa hA_sa (by first | assumption | omega) (by first | assumption | omega)) (cwV 0 hts (lw_V q1731 q1683 q1684 q99 q1685) rfl rfl rfl (by decide +kernel) ⟨Nat.le_of_ble_eq_true rfl, Nat.le_of_ble_eq_true rfl⟩) (kx_pv hK hS hB (kx_rc hK hO_a (C := RX4) (T := TX4) (N := 6) rfl)) rfl rfl hl.1 rfl (lv_room (Nat.le_of_ble_eq_true rfl)) dX4_step_1 ⟨by first | exact Nat.le_of_ble_eq_true rfl | omega | (show _ ≤ _; omega) | (dsimp only [headSpec]; omega), by first | exact Nat.le_of_ble_eq_true rfl | omega | (show _ ≤ _; omega) | (dsimp only [headSpec]; omega)⟩) hS (fun z_4 locs_1 hz_3 hS_2 => ?_)
  subst z_4
  refine lv_iload_n hx hb dX4_step_4 rfl (lv_at hl 1 rfl) ?_
  refine kx_ci0 (va_runSN (As := [.int (kI (ln_end L)), .int (kI (d))]) (rest := []) ⟨hx, hb, hml, hown, hts⟩ (m_X1_next l D s.heap (ln_end L) d  (by first | assumption | omega) (by first | assumption | omega)) ⟨va_cnB 2 hts (lw_meth q1688) rfl rfl rfl (hK.w q1732 rfl) (hts _ q79) (by decide +kernel) ⟨Nat.le_of_ble_eq_true rfl, Nat.le_of_ble_eq_true rfl⟩, hts _ q1687, trivial⟩ (kx_ps hK hS_2 hB) rfl rfl hl.1 rfl (lv_room (Nat.le_of_ble_eq_true rfl)) dX4_step_5 ⟨by first | exact Nat.le_of_ble_eq_true rfl | omega | (show _ ≤ _; omega) | (dsimp only [headSpec]; omega), by first | exact Nat.le_of_ble_eq_true rfl | omega | (show _ ≤ _; omega) | (dsimp only [headSpec]; omega)⟩) hS_2 (fun z_8 locs_5 hz_7 hS_6 => ?_)
  subst z_8
  refine lv_istore_n (lv' := [(2, .int (kI (nx (ln_end L) d))), (0, .ref a), (1, .int (kI (d)))]) hx hb dX4_step_8 rfl hl (by decide) rfl (fun ls hl => ?_)
  refine lv_aload_n hx hb dX4_step_9 rfl (lv_at hl 1 rfl) ?_
  refine lv_iload_n hx hb dX4_step_10 rfl (lv_at hl 0 rfl) ?_
  refine kx_cb0 (va_runV (As := [.int (kI (nx (ln_end L) d))]) (rest := []) ⟨hx, hb, hml, hown, hts⟩ (m_X4_closesAt l D s.heap a pa sa ea gp gs L (nx (ln_end L) d) hO_a hA_pa hA_sa (by first | assumption | omega) (by first | assumption | omega) (by first | assumption | omega)) (cwV 1 hts (lw_V q1733 q1708 q1709 q99 q1710) rfl rfl rfl (by decide +kernel) ⟨Nat.le_of_ble_eq_true rfl, Nat.le_of_ble_eq_true rfl⟩) (kx_pv hK hS_6 hB (kx_rc hK hO_a (C := RX4) (T := TX4) (N := 6) rfl)) rfl rfl hl.1 rfl (lv_room (Nat.le_of_ble_eq_true rfl)) dX4_step_11 ⟨by first | exact Nat.le_of_ble_eq_true rfl | omega | (show _ ≤ _; omega) | (dsimp only [headSpec]; omega), by first | exact Nat.le_of_ble_eq_true rfl | omega | (show _ ≤ _; omega) | (dsimp only [headSpec]; omega)⟩) hS_6 (fun z_12 locs_9 hz_11 hS_10 => ?_)
  subst z_12
  refine kx_eqbb (ln_cl (w_step L d)) (hcs.symm) ?_
  refine lv_istore_n (lv' := [(3, .int (kI (kb (ln_cl (w_step L d))))), (2, .int (kI (nx (ln_end L) d))), (0, .ref a), (1, .int (kI (d)))]) hx hb dX4_step_14 rfl hl (by decide) rfl (fun ls hl => ?_)
  refine lv_aload_n hx hb dX4_step_15 rfl (lv_at hl 2 rfl) ?_
  refine kx_get (v := .ref sa) (C := RX4) (T := TX4) (N := 6) hx hb hts in_X4 hown hK hO_a rfl 2 (by decide) q339 (fun _ h9 => h9) rfl dX4_step_16 ?_
  refine lv_aload_n hx hb dX4_step_19 rfl (lv_at hl 2 rfl) ?_
  refine kx_get (v := .int (kI ((ln_n L : Nat) : Int))) (C := RX4) (T := TX4) (N := 6) hx hb hts in_X4 hown hK hO_a rfl 3 (by decide) q344 (fun _ h9 => h9) rfl dX4_step_20 ?_
  refine lv_iload_n hx hb dX4_step_23 rfl (lv_at hl 3 rfl) ?_
  refine kx_iast (i := ((ln_n L : Nat) : Int)) (x := d) hx hb hK hA_sa hS_10 (by first | rfl | exact Or.inl rfl | exact Or.inr rfl | exact Or.inr (Or.inl rfl) | exact Or.inr (Or.inr rfl) | exact Or.inr (Or.inr (Or.inl rfl)) | exact Or.inr (Or.inr (Or.inr rfl)) | ((try dsimp only); (try simp only [kNW]); omega)) (ln_n L) (rfl) (by omega) (by omega) dX4_step_24 (fun H_15 locs_16 hA_14 hU_13 hS_17 => ?_)
  have hzu_18 := hU_13.1
  refine lv_aload_n hx hb dX4_step_25 rfl (lv_at hl 2 rfl) ?_
  refine lv_dup hx hb dX4_step_26 rfl ?_
  have h_19 := hO_a.up hU_13 (by first | assumption | exact Ne.symm (by assumption) | omega | (have h9 := hO_a.lt; omega))
  refine kx_get (v := .int (kI ((ln_n L : Nat) : Int))) (C := RX4) (T := TX4) (N := 6) hx hb hts in_X4 hown hK h_19 rfl 3 (by decide) q344 (fun _ h9 => h9) rfl dX4_step_27 ?_
  refine kx_iconst hx hb dX4_step_30 ?_
  refine kx_iadd hx hb dX4_step_31 ?_
  refine kx_eqi (((ln_n L + 1 : Nat) : Int)) (by omega) ?_
  refine kx_put (v := .int (kI ((ln_n L + 1 : Nat) : Int))) (C := RX4) (T := TX4) (N := 6) hx hb hts in_X4 hown hK h_19 rfl 3 (by decide) tyX4 tyX4_ok nmX4 hS_17 (by first | rfl | exact Or.inl rfl | exact Or.inr rfl | exact Or.inr (Or.inl rfl) | exact Or.inr (Or.inr rfl) | exact Or.inr (Or.inr (Or.inl rfl)) | exact Or.inr (Or.inr (Or.inr rfl)) | ((try dsimp only); (try simp only [kNW]); omega)) q344 (fun _ h9 => h9) rfl rfl rfl rfl (Nat.le_of_ble_eq_true rfl) dX4_step_32 (fun H_22 locs_23 hO_21 hU_20 hS_24 => ?_)
  have hO_21 : kO D H_22 a 3 [.int (kI (ln_lv L)), .ref pa, .ref sa, .int (kI ((ln_n L + 1 : Nat) : Int)), .ref ea, .int (kI (ln_lb L))] := hO_21
  have hzu_25 := hU_20.1
  refine lv_aload_n hx hb dX4_step_35 rfl (lv_at hl 2 rfl) ?_
  refine kx_get (v := .ref pa) (C := RX4) (T := TX4) (N := 6) hx hb hts in_X4 hown hK hO_21 rfl 1 (by decide) q336 (fun _ h9 => h9) rfl dX4_step_36 ?_
  refine lv_aload_n hx hb dX4_step_39 rfl (lv_at hl 2 rfl) ?_
  refine kx_get (v := .int (kI ((ln_n L + 1 : Nat) : Int))) (C := RX4) (T := TX4) (N := 6) hx hb hts in_X4 hown hK hO_21 rfl 3 (by decide) q344 (fun _ h9 => h9) rfl dX4_step_40 ?_
  refine lv_iload_n hx hb dX4_step_43 rfl (lv_at hl 1 rfl) ?_
  have h_26 := hA_pa.up hU_13 (by first | assumption | exact Ne.symm (by assumption) | omega | (have h9 := hA_pa.lt; omega))
  have h_27 := h_26.up hU_20 (by first | assumption | exact Ne.symm (by assumption) | omega | (have h9 := h_26.lt; omega))
  refine kx_iast (i := ((ln_n L + 1 : Nat) : Int)) (x := nx (ln_end L) d) hx hb hK h_27 hS_24 (by first | rfl | exact Or.inl rfl | exact Or.inr rfl | exact Or.inr (Or.inl rfl) | exact Or.inr (Or.inr rfl) | exact Or.inr (Or.inr (Or.inl rfl)) | exact Or.inr (Or.inr (Or.inr rfl)) | ((try dsimp only); (try simp only [kNW]); omega)) (ln_n L + 1) (rfl) (by omega) (by omega) dX4_step_44 (fun H_30 locs_31 hA_29 hU_28 hS_32 => ?_)
  have hzu_33 := hU_28.1
  refine lv_aload_n hx hb dX4_step_45 rfl (lv_at hl 2 rfl) ?_
  refine lv_iload_n hx hb dX4_step_46 rfl (lv_at hl 0 rfl) ?_
  refine kx_ifz (tgt := 60) hx hb dX4_step_47 (by decide) (fun c47 => ?_) (fun c47 => ?_)
  · -- taken at 47
    refine lv_aload_n hx hb dX4_step_60 rfl (lv_at hl 2 rfl) ?_
    have h_34 := hO_21.up hU_28 (by first | assumption | exact Ne.symm (by assumption) | omega | (have h9 := hO_21.lt; omega))
    refine kx_get (v := .ref ea) (C := RX4) (T := TX4) (N := 6) hx hb hts in_X4 hown hK h_34 rfl 4 (by decide) q347 (fun _ h9 => h9) rfl dX4_step_61 ?_
    refine kx_put (v := .ref ea) (C := RX4) (T := TX4) (N := 6) hx hb hts in_X4 hown hK h_34 rfl 4 (by decide) tyX4 tyX4_ok nmX4 hS_32 (by first | rfl | exact Or.inl rfl | exact Or.inr rfl | exact Or.inr (Or.inl rfl) | exact Or.inr (Or.inr rfl) | exact Or.inr (Or.inr (Or.inl rfl)) | exact Or.inr (Or.inr (Or.inr rfl)) | ((try dsimp only); (try simp only [kNW]); omega)) q347 (fun _ h9 => h9) rfl rfl rfl rfl (Nat.le_of_ble_eq_true rfl) dX4_step_64 (fun H_37 locs_38 hO_36 hU_35 hS_39 => ?_)
    have hO_36 : kO D H_37 a 3 [.int (kI (ln_lv L)), .ref pa, .ref sa, .int (kI ((ln_n L + 1 : Nat) : Int)), .ref ea, .int (kI (ln_lb L))] := hO_36
    have hzu_40 := hU_35.1
    have h_41 := hA_29.up hU_35 (by first | assumption | exact Ne.symm (by assumption) | omega | (have h9 := hA_29.lt; omega))
    have h_42 := hA_14.up hU_20 (by first | assumption | exact Ne.symm (by assumption) | omega | (have h9 := hA_14.lt; omega))
    have h_43 := h_42.up hU_28 (by first | assumption | exact Ne.symm (by assumption) | omega | (have h9 := h_42.lt; omega))
    have h_44 := h_43.up hU_35 (by first | assumption | exact Ne.symm (by assumption) | omega | (have h9 := h_43.lt; omega))
    exact kx_vret hx hb hr hlk (⟨(kup gp (ln_n L + 1) (nx (ln_end L) d)), (kup gs (ln_n L) d), hO_36, h_41, h_44, by exact hM.step hnx⟩) hS_39 dX4_step_67
  · -- not taken at 47
    exfalso; first | exact Bool.noConfusion (hcl.symm.trans c47) | exact absurd hcl c47 | (rw [hcl] at c47; exact absurd c47 (by decide))

set_option maxHeartbeats 4000000 in
set_option maxRecDepth 100000 in
theorem m_step_c (l : Launch) (D : kG) (H : Heap) (a : Nat) (pa : Nat) (sa : Nat) (ea : Nat) (gp : Nat → Int) (gs : Nat → Int) (L : Ln) (d : Int) (hO_a : kO D H a 3 [.int (kI (ln_lv L)), .ref pa, .ref sa, .int (kI ((ln_n L : Nat) : Int)), .ref ea, .int (kI (ln_lb L))]) (hA_pa : kAi D H pa 61 gp) (hA_sa : kAi D H sa 60 gs) (hM : MLn gp gs L) (hok : LnOK L) (hd : 0 ≤ d ∧ d ≤ 7) (hn : ln_n L < 60) (hnx : nx (ln_end L) d ≠ -1) (hcs : ln_cl (w_step L d) = decide (nx (ln_end L) d = ln_bg L ∧ 3 ≤ ln_n L)) (ne_a_pa : a ≠ pa) (ne_a_sa : a ≠ sa) (ne_pa_sa : pa ≠ sa) (bs_a : kBase D ≤ a) (bs_pa : kBase D ≤ pa) (bs_sa : kBase D ≤ sa) (hcl : ln_cl (w_step L d) = true) : Met l yX4_step (ws_ yX4_step cX4_step 4 none) ({ frames := 2, cells := 1, slots := 0, locals := 43 } : Room) (kPre D H [.ref a, .int (kI (d))]) (kQv (fun H' => ∃ (gp2 : Nat → Int) (gs2 : Nat → Int) (ea2 : Nat), (kO D H' a 3 [.int (kI (ln_lv L)), .ref pa, .ref sa, .int (kI ((ln_n L + 1 : Nat) : Int)), .ref ea2, .int (kI (ln_lb L))]) ∧ (kAi D H' pa 61 gp2) ∧ (kAi D H' sa 60 gs2) ∧ (kO D H' ea2 5 []) ∧ (MLn gp2 gs2 (w_step L d)) ∧ (H.size ≤ ea2)) (fun q : Nat => q = a ∨ q = pa ∨ q = sa ∨ H.size ≤ q)) (1) (0) ((fun q : Nat => q = a ∨ q = pa ∨ q = sa ∨ H.size ≤ q)) := by
  refine Met.ofW (cc := cX4_step) (maxL := 4) (ret := none) (by decide) rfl ?_
  intro p e s m args below meth c s₁ B hml hv
  obtain ⟨rfl, hH, hK⟩ := hv
  subst hH
  have hx := B.exec
  have hb := B.bytes
  have hr := B.returns
  have hts := atoms_spec (ws := ws_ yX4_step cX4_step 4 none) B.pre
  have hts : ∀ w ∈ lw_all, w.before _ s = true := fun w h => hts w (List.mem_cons_of_mem _ h)
  have hown : s.vm.findClass RX4 = some m.cls := findClass_of_methodNamed B.named
  have hlk := B.notSynchronized
  have hS : va_S (fun q : Nat => q = a ∨ q = pa ∨ q = sa ∨ s.heap.size ≤ q) s.heap s.heap [] := va_S.rf
  have hB : ∀ q, (fun q : Nat => q = a ∨ q = pa ∨ q = sa ∨ s.heap.size ≤ q) q → kBase D ≤ q := fun q h => by (try dsimp only at h); (try simp only [kNW] at h); have hks := hK.size; omega
  have hl := lv_entry ([.ref a, .int (kI (d))]) (n := 4) (Nat.le_of_ble_eq_true rfl)
  rw [lg_entry_eq]
  generalize (lg_sl ([.ref a, .int (kI (d))]) ++ List.replicate (4 - (lg_sl ([.ref a, .int (kI (d))])).length) Slot.unset).toArray = ls at hl ⊢
  have hl : lv_has ls 4 [(0, .ref a), (1, .int (kI (d)))] := hl
  have hL60 := hok.n
  have hlb := hok.lbr
  have hlv := hok.lv
  have hsz := ln_size_23 L
  have hlt_a := hO_a.lt
  have hlt_pa := hA_pa.lt
  have hlt_sa := hA_sa.lt
  have hks9 := hK.size
  have hen := hok.pos (k := ln_n L) (by omega)
  rw [show ln_pos L (ln_n L) = ln_end L from rfl] at hen
  have hac := ac_rng d
  have hdn := dn_rng d
  have hnr := nx_ok hen hnx
  refine lv_aload_n hx hb dX4_step_0 rfl (lv_at hl 0 rfl) ?_
  refine kx_ci0 (va_runV (As := []) (rest := []) ⟨hx, hb, hml, hown, hts⟩ (m_X4_end l D s.heap a pa sa ea gp gs L hO_a hA_pa hA_sa (by first | assumption | omega) (by first | assumption | omega)) (cwV 0 hts (lw_V q1731 q1683 q1684 q99 q1685) rfl rfl rfl (by decide +kernel) ⟨Nat.le_of_ble_eq_true rfl, Nat.le_of_ble_eq_true rfl⟩) (kx_pv hK hS hB (kx_rc hK hO_a (C := RX4) (T := TX4) (N := 6) rfl)) rfl rfl hl.1 rfl (lv_room (Nat.le_of_ble_eq_true rfl)) dX4_step_1 ⟨by first | exact Nat.le_of_ble_eq_true rfl | omega | (show _ ≤ _; omega) | (dsimp only [headSpec]; omega), by first | exact Nat.le_of_ble_eq_true rfl | omega | (show _ ≤ _; omega) | (dsimp only [headSpec]; omega)⟩) hS (fun z_4 locs_1 hz_3 hS_2 => ?_)
  subst z_4
  refine lv_iload_n hx hb dX4_step_4 rfl (lv_at hl 1 rfl) ?_
  refine kx_ci0 (va_runSN (As := [.int (kI (ln_end L)), .int (kI (d))]) (rest := []) ⟨hx, hb, hml, hown, hts⟩ (m_X1_next l D s.heap (ln_end L) d  (by first | assumption | omega) (by first | assumption | omega)) ⟨va_cnB 2 hts (lw_meth q1688) rfl rfl rfl (hK.w q1732 rfl) (hts _ q79) (by decide +kernel) ⟨Nat.le_of_ble_eq_true rfl, Nat.le_of_ble_eq_true rfl⟩, hts _ q1687, trivial⟩ (kx_ps hK hS_2 hB) rfl rfl hl.1 rfl (lv_room (Nat.le_of_ble_eq_true rfl)) dX4_step_5 ⟨by first | exact Nat.le_of_ble_eq_true rfl | omega | (show _ ≤ _; omega) | (dsimp only [headSpec]; omega), by first | exact Nat.le_of_ble_eq_true rfl | omega | (show _ ≤ _; omega) | (dsimp only [headSpec]; omega)⟩) hS_2 (fun z_8 locs_5 hz_7 hS_6 => ?_)
  subst z_8
  refine lv_istore_n (lv' := [(2, .int (kI (nx (ln_end L) d))), (0, .ref a), (1, .int (kI (d)))]) hx hb dX4_step_8 rfl hl (by decide) rfl (fun ls hl => ?_)
  refine lv_aload_n hx hb dX4_step_9 rfl (lv_at hl 1 rfl) ?_
  refine lv_iload_n hx hb dX4_step_10 rfl (lv_at hl 0 rfl) ?_
  refine kx_cb0 (va_runV (As := [.int (kI (nx (ln_end L) d))]) (rest := []) ⟨hx, hb, hml, hown, hts⟩ (m_X4_closesAt l D s.heap a pa sa ea gp gs L (nx (ln_end L) d) hO_a hA_pa hA_sa (by first | assumption | omega) (by first | assumption | omega) (by first | assumption | omega)) (cwV 1 hts (lw_V q1733 q1708 q1709 q99 q1710) rfl rfl rfl (by decide +kernel) ⟨Nat.le_of_ble_eq_true rfl, Nat.le_of_ble_eq_true rfl⟩) (kx_pv hK hS_6 hB (kx_rc hK hO_a (C := RX4) (T := TX4) (N := 6) rfl)) rfl rfl hl.1 rfl (lv_room (Nat.le_of_ble_eq_true rfl)) dX4_step_11 ⟨by first | exact Nat.le_of_ble_eq_true rfl | omega | (show _ ≤ _; omega) | (dsimp only [headSpec]; omega), by first | exact Nat.le_of_ble_eq_true rfl | omega | (show _ ≤ _; omega) | (dsimp only [headSpec]; omega)⟩) hS_6 (fun z_12 locs_9 hz_11 hS_10 => ?_)
  subst z_12
  refine kx_eqbb (ln_cl (w_step L d)) (hcs.symm) ?_
  refine lv_istore_n (lv' := [(3, .int (kI (kb (ln_cl (w_step L d))))), (2, .int (kI (nx (ln_end L) d))), (0, .ref a), (1, .int (kI (d)))]) hx hb dX4_step_14 rfl hl (by decide) rfl (fun ls hl => ?_)
  refine lv_aload_n hx hb dX4_step_15 rfl (lv_at hl 2 rfl) ?_
  refine kx_get (v := .ref sa) (C := RX4) (T := TX4) (N := 6) hx hb hts in_X4 hown hK hO_a rfl 2 (by decide) q339 (fun _ h9 => h9) rfl dX4_step_16 ?_
  refine lv_aload_n hx hb dX4_step_19 rfl (lv_at hl 2 rfl) ?_
  refine kx_get (v := .int (kI ((ln_n L : Nat) : Int))) (C := RX4) (T := TX4) (N := 6) hx hb hts in_X4 hown hK hO_a rfl 3 (by decide) q344 (fun _ h9 => h9) rfl dX4_step_20 ?_
  refine lv_iload_n hx hb dX4_step_23 rfl (lv_at hl 3 rfl) ?_
  refine kx_iast (i := ((ln_n L : Nat) : Int)) (x := d) hx hb hK hA_sa hS_10 (by first | rfl | exact Or.inl rfl | exact Or.inr rfl | exact Or.inr (Or.inl rfl) | exact Or.inr (Or.inr rfl) | exact Or.inr (Or.inr (Or.inl rfl)) | exact Or.inr (Or.inr (Or.inr rfl)) | ((try dsimp only); (try simp only [kNW]); omega)) (ln_n L) (rfl) (by omega) (by omega) dX4_step_24 (fun H_15 locs_16 hA_14 hU_13 hS_17 => ?_)
  have hzu_18 := hU_13.1
  refine lv_aload_n hx hb dX4_step_25 rfl (lv_at hl 2 rfl) ?_
  refine lv_dup hx hb dX4_step_26 rfl ?_
  have h_19 := hO_a.up hU_13 (by first | assumption | exact Ne.symm (by assumption) | omega | (have h9 := hO_a.lt; omega))
  refine kx_get (v := .int (kI ((ln_n L : Nat) : Int))) (C := RX4) (T := TX4) (N := 6) hx hb hts in_X4 hown hK h_19 rfl 3 (by decide) q344 (fun _ h9 => h9) rfl dX4_step_27 ?_
  refine kx_iconst hx hb dX4_step_30 ?_
  refine kx_iadd hx hb dX4_step_31 ?_
  refine kx_eqi (((ln_n L + 1 : Nat) : Int)) (by omega) ?_
  refine kx_put (v := .int (kI ((ln_n L + 1 : Nat) : Int))) (C := RX4) (T := TX4) (N := 6) hx hb hts in_X4 hown hK h_19 rfl 3 (by decide) tyX4 tyX4_ok nmX4 hS_17 (by first | rfl | exact Or.inl rfl | exact Or.inr rfl | exact Or.inr (Or.inl rfl) | exact Or.inr (Or.inr rfl) | exact Or.inr (Or.inr (Or.inl rfl)) | exact Or.inr (Or.inr (Or.inr rfl)) | ((try dsimp only); (try simp only [kNW]); omega)) q344 (fun _ h9 => h9) rfl rfl rfl rfl (Nat.le_of_ble_eq_true rfl) dX4_step_32 (fun H_22 locs_23 hO_21 hU_20 hS_24 => ?_)
  have hO_21 : kO D H_22 a 3 [.int (kI (ln_lv L)), .ref pa, .ref sa, .int (kI ((ln_n L + 1 : Nat) : Int)), .ref ea, .int (kI (ln_lb L))] := hO_21
  have hzu_25 := hU_20.1
  refine lv_aload_n hx hb dX4_step_35 rfl (lv_at hl 2 rfl) ?_
  refine kx_get (v := .ref pa) (C := RX4) (T := TX4) (N := 6) hx hb hts in_X4 hown hK hO_21 rfl 1 (by decide) q336 (fun _ h9 => h9) rfl dX4_step_36 ?_
  refine lv_aload_n hx hb dX4_step_39 rfl (lv_at hl 2 rfl) ?_
  refine kx_get (v := .int (kI ((ln_n L + 1 : Nat) : Int))) (C := RX4) (T := TX4) (N := 6) hx hb hts in_X4 hown hK hO_21 rfl 3 (by decide) q344 (fun _ h9 => h9) rfl dX4_step_40 ?_
  refine lv_iload_n hx hb dX4_step_43 rfl (lv_at hl 1 rfl) ?_
  have h_26 := hA_pa.up hU_13 (by first | assumption | exact Ne.symm (by assumption) | omega | (have h9 := hA_pa.lt; omega))
  have h_27 := h_26.up hU_20 (by first | assumption | exact Ne.symm (by assumption) | omega | (have h9 := h_26.lt; omega))
  refine kx_iast (i := ((ln_n L + 1 : Nat) : Int)) (x := nx (ln_end L) d) hx hb hK h_27 hS_24 (by first | rfl | exact Or.inl rfl | exact Or.inr rfl | exact Or.inr (Or.inl rfl) | exact Or.inr (Or.inr rfl) | exact Or.inr (Or.inr (Or.inl rfl)) | exact Or.inr (Or.inr (Or.inr rfl)) | ((try dsimp only); (try simp only [kNW]); omega)) (ln_n L + 1) (rfl) (by omega) (by omega) dX4_step_44 (fun H_30 locs_31 hA_29 hU_28 hS_32 => ?_)
  have hzu_33 := hU_28.1
  refine lv_aload_n hx hb dX4_step_45 rfl (lv_at hl 2 rfl) ?_
  refine lv_iload_n hx hb dX4_step_46 rfl (lv_at hl 0 rfl) ?_
  refine kx_ifz (tgt := 60) hx hb dX4_step_47 (by decide) (fun c47 => ?_) (fun c47 => ?_)
  · -- taken at 47
    exfalso; first | exact Bool.noConfusion (hcl.symm.trans c47) | exact absurd hcl c47 | (rw [hcl] at c47; exact absurd c47 (by decide))
  · -- not taken at 47
    refine kx_new (ci := 5) (fs := []) (C := RX6) (T := kT0) (N := 0) hx hb hts in_X6 hown hK (fun _ => .int) (fun k h => absurd h (Nat.not_lt_zero k)) q1699 q1734 q105 hS_32 rfl (fun j hj => absurd hj (Nat.not_lt_zero j)) (by first | exact Nat.le_of_ble_eq_true rfl | omega | (show _ ≤ _; omega) | (dsimp only [headSpec]; omega)) (by first | exact Nat.le_of_ble_eq_true rfl | omega | (show _ ≤ _; omega) | (dsimp only [headSpec]; omega)) dX4_step_50 (fun nw_34 H_35 hq_36 hz_37 hO_38 hE_39 hS_40 => ?_)
    have hge_nw_34 : s.heap.size ≤ nw_34 := by rw [hq_36]; exact hS_32.1
    refine W.widen (k := 1) (n := 0) (Nat.le_of_ble_eq_true rfl) (Nat.le_of_ble_eq_true rfl) ?_
    refine lv_dup hx hb dX4_step_53 rfl ?_
    refine kx_cv0 (va_runIN (As := []) (rest := [.ref nw_34, .ref a]) ⟨hx, hb, hml, hown, hts⟩ (m_X6_init l D H_35 nw_34  ) ⟨va_cnB 0 hts (lw_meth q1737) rfl rfl rfl (hK.w q1735 rfl) (hts _ q105) (by decide +kernel) ⟨Nat.le_of_ble_eq_true rfl, Nat.le_of_ble_eq_true rfl⟩, rfl, hts _ q1736⟩ (kx_ps hK hS_40 hB) rfl rfl hl.1 rfl (lv_room (Nat.le_of_ble_eq_true rfl)) dX4_step_54 ⟨by first | exact Nat.le_of_ble_eq_true rfl | omega | (show _ ≤ _; omega) | (dsimp only [headSpec]; omega), by first | exact Nat.le_of_ble_eq_true rfl | omega | (show _ ≤ _; omega) | (dsimp only [headSpec]; omega)⟩) hS_40 (fun locs_41 hz_43 hS_42 => ?_)
    refine lv_goto (tgt := 64) hx hb dX4_step_57 (by decide) ?_
    have h_45 := hO_21.up hU_28 (by first | assumption | exact Ne.symm (by assumption) | omega | (have h9 := hO_21.lt; omega))
    have h_46 := h_45.ex hE_39
    refine kx_put (v := .ref nw_34) (C := RX4) (T := TX4) (N := 6) hx hb hts in_X4 hown hK h_46 rfl 4 (by decide) tyX4 tyX4_ok nmX4 hS_42 (by first | rfl | exact Or.inl rfl | exact Or.inr rfl | exact Or.inr (Or.inl rfl) | exact Or.inr (Or.inr rfl) | exact Or.inr (Or.inr (Or.inl rfl)) | exact Or.inr (Or.inr (Or.inr rfl)) | ((try dsimp only); (try simp only [kNW]); omega)) q347 (fun _ h9 => h9) rfl rfl rfl rfl (Nat.le_of_ble_eq_true rfl) dX4_step_64 (fun H_49 locs_50 hO_48 hU_47 hS_51 => ?_)
    have hO_48 : kO D H_49 a 3 [.int (kI (ln_lv L)), .ref pa, .ref sa, .int (kI ((ln_n L + 1 : Nat) : Int)), .ref nw_34, .int (kI (ln_lb L))] := hO_48
    have hzu_52 := hU_47.1
    have h_53 := hA_29.ex hE_39
    have h_54 := h_53.up hU_47 (by first | assumption | exact Ne.symm (by assumption) | omega | (have h9 := h_53.lt; omega))
    have h_55 := hA_14.up hU_20 (by first | assumption | exact Ne.symm (by assumption) | omega | (have h9 := hA_14.lt; omega))
    have h_56 := h_55.up hU_28 (by first | assumption | exact Ne.symm (by assumption) | omega | (have h9 := h_55.lt; omega))
    have h_57 := h_56.ex hE_39
    have h_58 := h_57.up hU_47 (by first | assumption | exact Ne.symm (by assumption) | omega | (have h9 := h_57.lt; omega))
    have h_59 := hO_38.up hU_47 (by first | assumption | exact Ne.symm (by assumption) | omega | (have h9 := hO_38.lt; omega))
    exact kx_vret hx hb hr hlk (⟨(kup gp (ln_n L + 1) (nx (ln_end L) d)), (kup gs (ln_n L) d), nw_34, hO_48, h_54, h_58, h_59, by exact hM.step hnx, by first | assumption | rfl | omega | grind⟩) hS_51 dX4_step_67

set_option maxHeartbeats 4000000 in
set_option maxRecDepth 100000 in
theorem m_X4_init (l : Launch) (D : kG) (H : Heap) (a : Nat) (lv : Int) (pa : Nat) (sa : Nat) (hO_a : kO D H a 3 [.int (kI (0)), .null, .null, .int (kI (0)), .null, .int (kI (0))]) (bs_a : kBase D ≤ a) : Met l yX4_init (ws_ yX4_init cX4_init 4 none) ({ frames := 2, cells := 1, slots := 0, locals := 40 } : Room) (kPre D H [.ref a, .int (kI (lv)), .ref pa, .ref sa]) (kQv (fun H' => ∃ (ea : Nat), (kO D H' a 3 [.int (kI (lv)), .ref pa, .ref sa, .int (kI (0)), .ref ea, .int (kI ((-1)))]) ∧ (kO D H' ea 4 []) ∧ (H.size ≤ ea)) (fun q : Nat => q = a ∨ H.size ≤ q)) (1) (0) ((fun q : Nat => q = a ∨ H.size ≤ q)) := by
  refine Met.ofW (cc := cX4_init) (maxL := 4) (ret := none) (by decide) rfl ?_
  intro p e s m args below meth c s₁ B hml hv
  obtain ⟨rfl, hH, hK⟩ := hv
  subst hH
  have hx := B.exec
  have hb := B.bytes
  have hr := B.returns
  have hts := atoms_spec (ws := ws_ yX4_init cX4_init 4 none) B.pre
  have hts : ∀ w ∈ lw_all, w.before _ s = true := fun w h => hts w (List.mem_cons_of_mem _ h)
  have hown : s.vm.findClass RX4 = some m.cls := findClass_of_methodNamed B.named
  have hlk := B.notSynchronized
  have hin : meth.name = "<init>" := (name_of_methodNamed B.named B.method).1
  have hS : va_S (fun q : Nat => q = a ∨ s.heap.size ≤ q) s.heap s.heap [] := va_S.rf
  have hB : ∀ q, (fun q : Nat => q = a ∨ s.heap.size ≤ q) q → kBase D ≤ q := fun q h => by (try dsimp only at h); (try simp only [kNW] at h); have hks := hK.size; omega
  have hl := lv_entry ([.ref a, .int (kI (lv)), .ref pa, .ref sa]) (n := 4) (Nat.le_of_ble_eq_true rfl)
  rw [lg_entry_eq]
  generalize (lg_sl ([.ref a, .int (kI (lv)), .ref pa, .ref sa]) ++ List.replicate (4 - (lg_sl ([.ref a, .int (kI (lv)), .ref pa, .ref sa])).length) Slot.unset).toArray = ls at hl ⊢
  have hl : lv_has ls 4 [(0, .ref a), (1, .int (kI (lv))), (2, .ref pa), (3, .ref sa)] := hl
  have hlt0 := hO_a.lt
  refine lv_aload_n hx hb dX4_init_0 rfl (lv_at hl 0 rfl) ?_
  refine W.objInit hx hb hown (hts _ q324) (hts _ q133) (hts _ q134) rfl (by rw [hml]; exact hl.1) rfl dX4_init_1 (Nat.le_of_ble_eq_true rfl) (Nat.le_of_ble_eq_true rfl) ?_
  refine W.eq (g2 := F0 m 4 ls []) rfl ?_
  refine lv_aload_n hx hb dX4_init_4 rfl (lv_at hl 0 rfl) ?_
  refine kx_new (ci := 4) (fs := []) (C := RX5) (T := kT0) (N := 0) hx hb hts in_X5 hown hK (fun _ => .int) (fun k h => absurd h (Nat.not_lt_zero k)) q325 q326 q100 hS rfl (fun j hj => absurd hj (Nat.not_lt_zero j)) (by first | exact Nat.le_of_ble_eq_true rfl | omega | (show _ ≤ _; omega) | (dsimp only [headSpec]; omega)) (by first | exact Nat.le_of_ble_eq_true rfl | omega | (show _ ≤ _; omega) | (dsimp only [headSpec]; omega)) dX4_init_5 (fun nw_1 H_2 hq_3 hz_4 hO_5 hE_6 hS_7 => ?_)
  have hge_nw_1 : s.heap.size ≤ nw_1 := by rw [hq_3]; exact hS.1
  refine W.widen (k := 1) (n := 0) (Nat.le_of_ble_eq_true rfl) (Nat.le_of_ble_eq_true rfl) ?_
  refine lv_dup hx hb dX4_init_8 rfl ?_
  refine kx_cv0 (va_runIN (As := []) (rest := [.ref nw_1, .ref a]) ⟨hx, hb, hml, hown, hts⟩ (m_X5_init l D H_2 nw_1  ) ⟨va_cnB 0 hts (lw_meth q329) rfl rfl rfl (hK.w q327 rfl) (hts _ q100) (by decide +kernel) ⟨Nat.le_of_ble_eq_true rfl, Nat.le_of_ble_eq_true rfl⟩, rfl, hts _ q328⟩ (kx_ps hK hS_7 hB) rfl rfl hl.1 rfl (lv_room (Nat.le_of_ble_eq_true rfl)) dX4_init_9 ⟨by first | exact Nat.le_of_ble_eq_true rfl | omega | (show _ ≤ _; omega) | (dsimp only [headSpec]; omega), by first | exact Nat.le_of_ble_eq_true rfl | omega | (show _ ≤ _; omega) | (dsimp only [headSpec]; omega)⟩) hS_7 (fun locs_8 hz_10 hS_9 => ?_)
  have h_12 := hO_a.ex hE_6
  refine kx_put (v := .ref nw_1) (C := RX4) (T := TX4) (N := 6) hx hb hts in_X4 hown hK h_12 rfl 4 (by decide) tyX4 tyX4_ok nmX4 hS_9 (by first | rfl | exact Or.inl rfl | exact Or.inr rfl | exact Or.inr (Or.inl rfl) | exact Or.inr (Or.inr rfl) | exact Or.inr (Or.inr (Or.inl rfl)) | exact Or.inr (Or.inr (Or.inr rfl)) | ((try dsimp only); (try simp only [kNW]); omega)) q347 (fun _ h9 => h9) rfl rfl rfl rfl (Nat.le_of_ble_eq_true rfl) dX4_init_12 (fun H_15 locs_16 hO_14 hU_13 hS_17 => ?_)
  have hO_14 : kO D H_15 a 3 [.int (kI (0)), .null, .null, .int (kI (0)), .ref nw_1, .int (kI (0))] := hO_14
  have hzu_18 := hU_13.1
  refine lv_aload_n hx hb dX4_init_15 rfl (lv_at hl 0 rfl) ?_
  refine kx_iconst hx hb dX4_init_16 ?_
  refine kx_put (v := .int (kI ((-1)))) (C := RX4) (T := TX4) (N := 6) hx hb hts in_X4 hown hK hO_14 rfl 5 (by decide) tyX4 tyX4_ok nmX4 hS_17 (by first | rfl | exact Or.inl rfl | exact Or.inr rfl | exact Or.inr (Or.inl rfl) | exact Or.inr (Or.inr rfl) | exact Or.inr (Or.inr (Or.inl rfl)) | exact Or.inr (Or.inr (Or.inr rfl)) | ((try dsimp only); (try simp only [kNW]); omega)) q348 (fun _ h9 => h9) rfl rfl rfl rfl (Nat.le_of_ble_eq_true rfl) dX4_init_17 (fun H_21 locs_22 hO_20 hU_19 hS_23 => ?_)
  have hO_20 : kO D H_21 a 3 [.int (kI (0)), .null, .null, .int (kI (0)), .ref nw_1, .int (kI ((-1)))] := hO_20
  have hzu_24 := hU_19.1
  refine lv_aload_n hx hb dX4_init_20 rfl (lv_at hl 0 rfl) ?_
  refine lv_iload_n hx hb dX4_init_21 rfl (lv_at hl 1 rfl) ?_
  refine kx_put (v := .int (kI (lv))) (C := RX4) (T := TX4) (N := 6) hx hb hts in_X4 hown hK hO_20 rfl 0 (by decide) tyX4 tyX4_ok nmX4 hS_23 (by first | rfl | exact Or.inl rfl | exact Or.inr rfl | exact Or.inr (Or.inl rfl) | exact Or.inr (Or.inr rfl) | exact Or.inr (Or.inr (Or.inl rfl)) | exact Or.inr (Or.inr (Or.inr rfl)) | ((try dsimp only); (try simp only [kNW]); omega)) q333 (fun _ h9 => h9) rfl rfl rfl rfl (Nat.le_of_ble_eq_true rfl) dX4_init_22 (fun H_27 locs_28 hO_26 hU_25 hS_29 => ?_)
  have hO_26 : kO D H_27 a 3 [.int (kI (lv)), .null, .null, .int (kI (0)), .ref nw_1, .int (kI ((-1)))] := hO_26
  have hzu_30 := hU_25.1
  refine lv_aload_n hx hb dX4_init_25 rfl (lv_at hl 0 rfl) ?_
  refine lv_aload_n hx hb dX4_init_26 rfl (lv_at hl 2 rfl) ?_
  refine kx_putF (v := .ref pa) (C := RX4) (T := TX4) (N := 6) hx hb hts in_X4 hown hK hO_26 rfl 1 (by decide) tyX4 tyX4_ok nmX4 hS_29 (by first | rfl | exact Or.inl rfl | exact Or.inr rfl | exact Or.inr (Or.inl rfl) | exact Or.inr (Or.inr rfl) | exact Or.inr (Or.inr (Or.inl rfl)) | exact Or.inr (Or.inr (Or.inr rfl)) | ((try dsimp only); (try simp only [kNW]); omega)) q336 (fun _ h9 => h9) rfl hin rfl rfl rfl rfl (Nat.le_of_ble_eq_true rfl) dX4_init_27 (fun H_33 locs_34 hO_32 hU_31 hS_35 => ?_)
  have hO_32 : kO D H_33 a 3 [.int (kI (lv)), .ref pa, .null, .int (kI (0)), .ref nw_1, .int (kI ((-1)))] := hO_32
  have hzu_36 := hU_31.1
  refine lv_aload_n hx hb dX4_init_30 rfl (lv_at hl 0 rfl) ?_
  refine lv_aload_n hx hb dX4_init_31 rfl (lv_at hl 3 rfl) ?_
  refine kx_putF (v := .ref sa) (C := RX4) (T := TX4) (N := 6) hx hb hts in_X4 hown hK hO_32 rfl 2 (by decide) tyX4 tyX4_ok nmX4 hS_35 (by first | rfl | exact Or.inl rfl | exact Or.inr rfl | exact Or.inr (Or.inl rfl) | exact Or.inr (Or.inr rfl) | exact Or.inr (Or.inr (Or.inl rfl)) | exact Or.inr (Or.inr (Or.inr rfl)) | ((try dsimp only); (try simp only [kNW]); omega)) q339 (fun _ h9 => h9) rfl hin rfl rfl rfl rfl (Nat.le_of_ble_eq_true rfl) dX4_init_32 (fun H_39 locs_40 hO_38 hU_37 hS_41 => ?_)
  have hO_38 : kO D H_39 a 3 [.int (kI (lv)), .ref pa, .ref sa, .int (kI (0)), .ref nw_1, .int (kI ((-1)))] := hO_38
  have hzu_42 := hU_37.1
  have h_43 := hO_5.up hU_13 (by first | assumption | exact Ne.symm (by assumption) | omega | (have h9 := hO_5.lt; omega))
  have h_44 := h_43.up hU_19 (by first | assumption | exact Ne.symm (by assumption) | omega | (have h9 := h_43.lt; omega))
  have h_45 := h_44.up hU_25 (by first | assumption | exact Ne.symm (by assumption) | omega | (have h9 := h_44.lt; omega))
  have h_46 := h_45.up hU_31 (by first | assumption | exact Ne.symm (by assumption) | omega | (have h9 := h_45.lt; omega))
  have h_47 := h_46.up hU_37 (by first | assumption | exact Ne.symm (by assumption) | omega | (have h9 := h_46.lt; omega))
  exact kx_vret hx hb hr hlk (⟨nw_1, hO_38, h_47, by first | assumption | rfl | omega | grind⟩) hS_41 dX4_init_35

set_option maxHeartbeats 4000000 in
set_option maxRecDepth 100000 in
theorem m_X4_init_2 (l : Launch) (D : kG) (H : Heap) (a : Nat) (lv : Int) (pt : Int) (hO_a : kO D H a 3 [.int (kI (0)), .null, .null, .int (kI (0)), .null, .int (kI (0))]) (bs_a : kBase D ≤ a) : Met l yX4_init_2 (ws_ yX4_init_2 cX4_init_2 3 none) ({ frames := 3, cells := 3, slots := 121, locals := 63 } : Room) (kPre D H [.ref a, .int (kI (lv)), .int (kI (pt))]) (kQv (fun H' => ∃ (pa : Nat) (sa : Nat) (ea : Nat) (gp2 : Nat → Int) (gs2 : Nat → Int), (kO D H' a 3 [.int (kI (lv)), .ref pa, .ref sa, .int (kI (0)), .ref ea, .int (kI ((-1)))]) ∧ (kAi D H' pa 61 gp2) ∧ (kAi D H' sa 60 gs2) ∧ (kO D H' ea 4 []) ∧ (MLn gp2 gs2 (w_new lv pt)) ∧ (H.size ≤ pa ∧ H.size ≤ sa ∧ H.size ≤ ea) ∧ (a ≠ pa ∧ a ≠ sa ∧ pa ≠ sa)) (fun q : Nat => q = a ∨ H.size ≤ q)) (3) (121) ((fun q : Nat => q = a ∨ H.size ≤ q)) := by
  refine Met.ofW (cc := cX4_init_2) (maxL := 3) (ret := none) (by decide) rfl ?_
  intro p e s m args below meth c s₁ B hml hv
  obtain ⟨rfl, hH, hK⟩ := hv
  subst hH
  have hx := B.exec
  have hb := B.bytes
  have hr := B.returns
  have hts := atoms_spec (ws := ws_ yX4_init_2 cX4_init_2 3 none) B.pre
  have hts : ∀ w ∈ lw_all, w.before _ s = true := fun w h => hts w (List.mem_cons_of_mem _ h)
  have hown : s.vm.findClass RX4 = some m.cls := findClass_of_methodNamed B.named
  have hlk := B.notSynchronized
  have hin : meth.name = "<init>" := (name_of_methodNamed B.named B.method).1
  have hS : va_S (fun q : Nat => q = a ∨ s.heap.size ≤ q) s.heap s.heap [] := va_S.rf
  have hB : ∀ q, (fun q : Nat => q = a ∨ s.heap.size ≤ q) q → kBase D ≤ q := fun q h => by (try dsimp only at h); (try simp only [kNW] at h); have hks := hK.size; omega
  have hl := lv_entry ([.ref a, .int (kI (lv)), .int (kI (pt))]) (n := 3) (Nat.le_of_ble_eq_true rfl)
  rw [lg_entry_eq]
  generalize (lg_sl ([.ref a, .int (kI (lv)), .int (kI (pt))]) ++ List.replicate (3 - (lg_sl ([.ref a, .int (kI (lv)), .int (kI (pt))])).length) Slot.unset).toArray = ls at hl ⊢
  have hl : lv_has ls 3 [(0, .ref a), (1, .int (kI (lv))), (2, .int (kI (pt)))] := hl
  have hlt0 := hO_a.lt
  refine lv_aload_n hx hb dX4_init_2_0 rfl (lv_at hl 0 rfl) ?_
  refine lv_iload_n hx hb dX4_init_2_1 rfl (lv_at hl 1 rfl) ?_
  refine kx_bipush hx hb (by decide) dX4_init_2_2 ?_
  refine kx_newa (atype := .int) (ty := .int) (t := 0) (a0 := (61, .inl (fun j => kI ((fun _ => 0 : Nat → Int) j)))) (N' := 61) hx hb hts q332 rfl hK rfl (fun _ h => by cases h) hS (by first | rfl | omega) (by omega) (fun cA => rfl) (by first | decide | (simp only [componentBytes]; omega)) (by first | exact Nat.le_of_ble_eq_true rfl | omega | (show _ ≤ _; omega) | (dsimp only [headSpec]; omega)) (by first | exact Nat.le_of_ble_eq_true rfl | omega | (show _ ≤ _; omega) | (dsimp only [headSpec]; omega)) dX4_init_2_4 (fun na_1 H_2 hq_3 hz_4 hA_5 hE_6 hS_7 => ?_)
  have hge_na_1 : s.heap.size ≤ na_1 := by rw [hq_3]; exact hS.1
  refine W.widen (k := 1) (n := 61) (Nat.le_of_ble_eq_true rfl) (Nat.le_of_ble_eq_true rfl) ?_
  refine kx_bipush hx hb (by decide) dX4_init_2_6 ?_
  refine kx_newa (atype := .int) (ty := .int) (t := 0) (a0 := (60, .inl (fun j => kI ((fun _ => 0 : Nat → Int) j)))) (N' := 60) hx hb hts q332 rfl hK rfl (fun _ h => by cases h) hS_7 (by first | rfl | omega) (by omega) (fun cA => rfl) (by first | decide | (simp only [componentBytes]; omega)) (by first | exact Nat.le_of_ble_eq_true rfl | omega | (show _ ≤ _; omega) | (dsimp only [headSpec]; omega)) (by first | exact Nat.le_of_ble_eq_true rfl | omega | (show _ ≤ _; omega) | (dsimp only [headSpec]; omega)) dX4_init_2_8 (fun na_8 H_9 hq_10 hz_11 hA_12 hE_13 hS_14 => ?_)
  have hge_na_8 : s.heap.size ≤ na_8 := by rw [hq_10]; exact hS_7.1
  refine W.widen (k := 2) (n := 121) (Nat.le_of_ble_eq_true rfl) (Nat.le_of_ble_eq_true rfl) ?_
  have h_15 := hO_a.ex hE_6
  have h_16 := h_15.ex hE_13
  refine kx_cv (va_runI (As := [.int (kI (lv)), .ref na_1, .ref na_8]) (rest := []) ⟨hx, hb, hml, hown, hts⟩ (m_X4_init l D H_9 a lv na_1 na_8 h_16 (by first | assumption | omega)) (cwI 3 hts (lw_meth q323) rfl rfl rfl (hts _ q99) (hts _ q321) (hts _ q322) rfl (by decide +kernel) ⟨Nat.le_of_ble_eq_true rfl, Nat.le_of_ble_eq_true rfl⟩) (kx_ps hK hS_14 hB) rfl rfl hl.1 rfl (lv_room (Nat.le_of_ble_eq_true rfl)) dX4_init_2_10 ⟨by first | exact Nat.le_of_ble_eq_true rfl | omega | (show _ ≤ _; omega) | (dsimp only [headSpec]; omega), by first | exact Nat.le_of_ble_eq_true rfl | omega | (show _ ≤ _; omega) | (dsimp only [headSpec]; omega)⟩) hS_14 (fun q _ h => by (try dsimp only at h); (try dsimp only); (try simp only [kNW] at h); (try simp only [kNW]); omega) (fun q h => by (try dsimp only at h); (try dsimp only); (try simp only [kNW] at h); (try simp only [kNW]); omega) (fun H_20 locs_17 hz_19 hF_21 hS_18 => ?_)
  have hzf_23 := hF_21.1
  refine W.widen (k := 3) (n := 121) (Nat.le_of_ble_eq_true rfl) (Nat.le_of_ble_eq_true rfl) ?_
  obtain ⟨ea_24, ho_25, ho_26, hnew_27⟩ := hz_19
  refine lv_aload_n hx hb dX4_init_2_13 rfl (lv_at hl 0 rfl) ?_
  refine kx_get (v := .ref na_1) (C := RX4) (T := TX4) (N := 6) hx hb hts in_X4 hown hK ho_25 rfl 1 (by decide) q336 (fun _ h9 => h9) rfl dX4_init_2_14 ?_
  refine kx_iconst hx hb dX4_init_2_17 ?_
  refine lv_iload_n hx hb dX4_init_2_18 rfl (lv_at hl 2 rfl) ?_
  have h_28 := hA_5.ex hE_13
  have h_29 := h_28.fr hF_21 (fun h => by (try dsimp only at h); (try simp only [kNW] at h); omega)
  refine kx_iast (i := 0) (x := pt) hx hb hK h_29 hS_18 (by have := hS.1; first | (show _ ≤ _; omega) | omega) 0 (rfl) (by omega) (by omega) dX4_init_2_19 (fun H_32 locs_33 hA_31 hU_30 hS_34 => ?_)
  have hzu_35 := hU_30.1
  have h_36 := ho_25.up hU_30 (by first | assumption | exact Ne.symm (by assumption) | omega | (have h9 := ho_25.lt; omega))
  have h_37 := hA_12.fr hF_21 (fun h => by (try dsimp only at h); (try simp only [kNW] at h); omega)
  have h_38 := h_37.up hU_30 (by first | assumption | exact Ne.symm (by assumption) | omega | (have h9 := h_37.lt; omega))
  have h_39 := ho_26.up hU_30 (by first | assumption | exact Ne.symm (by assumption) | omega | (have h9 := ho_26.lt; omega))
  exact kx_vret hx hb hr hlk (⟨na_1, na_8, ea_24, (kup ((fun _ => 0)) 0 pt), ((fun _ => 0)), h_36, hA_31, h_38, h_39, by exact MLn.new, by first | assumption | rfl | omega | grind, by first | assumption | rfl | omega | grind⟩) hS_34 dX4_init_2_20

set_option maxHeartbeats 4000000 in
set_option maxRecDepth 100000 in
theorem m_X4_copy (l : Launch) (D : kG) (H : Heap) (a : Nat) (pa : Nat) (sa : Nat) (ea : Nat) (gp : Nat → Int) (gs : Nat → Int) (L : Ln) (hO_a : kO D H a 3 [.int (kI (ln_lv L)), .ref pa, .ref sa, .int (kI ((ln_n L : Nat) : Int)), .ref ea, .int (kI (ln_lb L))]) (hA_pa : kAi D H pa 61 gp) (hA_sa : kAi D H sa 60 gs) (hM : MLn gp gs L) (hok : LnOK L) : Met l yX4_copy (ws_ yX4_copy cX4_copy 2 (some (.object "ContourLabels$Line"))) ({ frames := 3, cells := 4, slots := 127, locals := 63 } : Room) (kPre D H [.ref a]) (kQr (fun (r : Nat) H' => ∃ (pa2 : Nat) (sa2 : Nat), (kO D H' r 3 [.int (kI (ln_lv L)), .ref pa2, .ref sa2, .int (kI ((ln_n L : Nat) : Int)), .ref ea, .int (kI (ln_lb L))]) ∧ (kAi D H' pa2 61 gp) ∧ (kAi D H' sa2 60 gs) ∧ (H.size ≤ r ∧ H.size ≤ pa2 ∧ H.size ≤ sa2) ∧ (r ≠ pa2 ∧ r ≠ sa2 ∧ pa2 ≠ sa2)) (kNW H)) (4) (127) ((kNW H)) := by
  refine Met.ofW (cc := cX4_copy) (maxL := 2) (ret := (some (.object "ContourLabels$Line"))) (by decide) rfl ?_
  intro p e s m args below meth c s₁ B hml hv
  obtain ⟨rfl, hH, hK⟩ := hv
  subst hH
  have hx := B.exec
  have hb := B.bytes
  have hr := B.returns
  have hts := atoms_spec (ws := ws_ yX4_copy cX4_copy 2 (some (.object "ContourLabels$Line"))) B.pre
  have hts : ∀ w ∈ lw_all, w.before _ s = true := fun w h => hts w (List.mem_cons_of_mem _ h)
  have hown : s.vm.findClass RX4 = some m.cls := findClass_of_methodNamed B.named
  have hlk := B.notSynchronized
  have hS : va_S (kNW s.heap) s.heap s.heap [] := va_S.rf
  have hB : ∀ q, (kNW s.heap) q → kBase D ≤ q := fun q h => Nat.le_trans hK.size h
  have hl := lv_entry ([.ref a]) (n := 2) (Nat.le_of_ble_eq_true rfl)
  rw [lg_entry_eq]
  generalize (lg_sl ([.ref a]) ++ List.replicate (2 - (lg_sl ([.ref a])).length) Slot.unset).toArray = ls at hl ⊢
  have hl : lv_has ls 2 [(0, .ref a)] := hl
  have hL60 := hok.n
  have hlb := hok.lbr
  have hlv := hok.lv
  have hsz := ln_size_23 L
  have hlt_a := hO_a.lt
  have hlt_pa := hA_pa.lt
  have hlt_sa := hA_sa.lt
  have hks9 := hK.size
  refine kx_new (ci := 3) (fs := [.int (kI (0)), .null, .null, .int (kI (0)), .null, .int (kI (0))]) (C := RX4) (T := TX4) (N := 6) hx hb hts in_X4 hown hK tyX4 tyX4_ok q312 q313 q99 hS rfl (fun j hj => by rcases (show j = 0 ∨ j = 1 ∨ j = 2 ∨ j = 3 ∨ j = 4 ∨ j = 5 by omega) with rfl | rfl | rfl | rfl | rfl | rfl <;> rfl) (by first | exact Nat.le_of_ble_eq_true rfl | omega | (show _ ≤ _; omega) | (dsimp only [headSpec]; omega)) (by first | exact Nat.le_of_ble_eq_true rfl | omega | (show _ ≤ _; omega) | (dsimp only [headSpec]; omega)) dX4_copy_0 (fun nw_1 H_2 hq_3 hz_4 hO_5 hE_6 hS_7 => ?_)
  have hge_nw_1 : s.heap.size ≤ nw_1 := by rw [hq_3]; exact hS.1
  refine W.widen (k := 1) (n := 6) (Nat.le_of_ble_eq_true rfl) (Nat.le_of_ble_eq_true rfl) ?_
  refine lv_dup hx hb dX4_copy_3 rfl ?_
  refine lv_aload_n hx hb dX4_copy_4 rfl (lv_at hl 0 rfl) ?_
  have h_8 := hO_a.ex hE_6
  refine kx_get (v := .int (kI (ln_lv L))) (C := RX4) (T := TX4) (N := 6) hx hb hts in_X4 hown hK h_8 rfl 0 (by decide) q333 (fun _ h9 => h9) rfl dX4_copy_5 ?_
  refine lv_aload_n hx hb dX4_copy_8 rfl (lv_at hl 0 rfl) ?_
  refine kx_get (v := .ref pa) (C := RX4) (T := TX4) (N := 6) hx hb hts in_X4 hown hK h_8 rfl 1 (by decide) q336 (fun _ h9 => h9) rfl dX4_copy_9 ?_
  have h_9 := hA_pa.ex hE_6
  refine kx_clone hx hb hml hl.1 hts hown q314 q315 q316 q317 q318 (hK.w q319 rfl) hK h_9 hS_7 (by first | exact Nat.le_of_ble_eq_true rfl | omega | (show _ ≤ _; omega) | (dsimp only [headSpec]; omega)) (by first | exact Nat.le_of_ble_eq_true rfl | omega | (show _ ≤ _; omega) | (dsimp only [headSpec]; omega)) (by first | exact Nat.le_of_ble_eq_true rfl | omega | (show _ ≤ _; omega) | (dsimp only [headSpec]; omega)) (by first | exact Nat.le_of_ble_eq_true rfl | omega | (show _ ≤ _; omega) | (dsimp only [headSpec]; omega)) dX4_copy_12 (fun na_10 H_11 hq_12 hz_13 hA_14 hE_15 hS_16 => ?_)
  have hge_na_10 : s.heap.size ≤ na_10 := by rw [hq_12]; exact hS_7.1
  refine W.widen (k := 2) (n := 67) (Nat.le_of_ble_eq_true rfl) (Nat.le_of_ble_eq_true rfl) ?_
  refine kx_castAi hx hb hts hown q320 hK hA_14 dX4_copy_15 ?_
  refine lv_aload_n hx hb dX4_copy_18 rfl (lv_at hl 0 rfl) ?_
  have h_17 := h_8.ex hE_15
  refine kx_get (v := .ref sa) (C := RX4) (T := TX4) (N := 6) hx hb hts in_X4 hown hK h_17 rfl 2 (by decide) q339 (fun _ h9 => h9) rfl dX4_copy_19 ?_
  have h_18 := hA_sa.ex hE_6
  have h_19 := h_18.ex hE_15
  refine kx_clone hx hb hml hl.1 hts hown q314 q315 q316 q317 q318 (hK.w q319 rfl) hK h_19 hS_16 (by first | exact Nat.le_of_ble_eq_true rfl | omega | (show _ ≤ _; omega) | (dsimp only [headSpec]; omega)) (by first | exact Nat.le_of_ble_eq_true rfl | omega | (show _ ≤ _; omega) | (dsimp only [headSpec]; omega)) (by first | exact Nat.le_of_ble_eq_true rfl | omega | (show _ ≤ _; omega) | (dsimp only [headSpec]; omega)) (by first | exact Nat.le_of_ble_eq_true rfl | omega | (show _ ≤ _; omega) | (dsimp only [headSpec]; omega)) dX4_copy_22 (fun na_20 H_21 hq_22 hz_23 hA_24 hE_25 hS_26 => ?_)
  have hge_na_20 : s.heap.size ≤ na_20 := by rw [hq_22]; exact hS_16.1
  refine W.widen (k := 3) (n := 127) (Nat.le_of_ble_eq_true rfl) (Nat.le_of_ble_eq_true rfl) ?_
  refine kx_castAi hx hb hts hown q320 hK hA_24 dX4_copy_25 ?_
  have h_27 := hO_5.ex hE_15
  have h_28 := h_27.ex hE_25
  refine kx_cv (va_runI (As := [.int (kI (ln_lv L)), .ref na_10, .ref na_20]) (rest := [.ref nw_1]) ⟨hx, hb, hml, hown, hts⟩ (m_X4_init l D H_21 nw_1 (ln_lv L) na_10 na_20 h_28 (by first | assumption | omega)) (cwI 3 hts (lw_meth q323) rfl rfl rfl (hts _ q99) (hts _ q321) (hts _ q322) rfl (by decide +kernel) ⟨Nat.le_of_ble_eq_true rfl, Nat.le_of_ble_eq_true rfl⟩) (kx_ps hK hS_26 hB) rfl rfl hl.1 rfl (lv_room (Nat.le_of_ble_eq_true rfl)) dX4_copy_28 ⟨by first | exact Nat.le_of_ble_eq_true rfl | omega | (show _ ≤ _; omega) | (dsimp only [headSpec]; omega), by first | exact Nat.le_of_ble_eq_true rfl | omega | (show _ ≤ _; omega) | (dsimp only [headSpec]; omega)⟩) hS_26 (fun q _ h => by (try dsimp only at h); (try dsimp only); (try simp only [kNW] at h); (try simp only [kNW]); omega) (fun q h => by (try dsimp only at h); (try dsimp only); (try simp only [kNW] at h); (try simp only [kNW]); omega) (fun H_32 locs_29 hz_31 hF_33 hS_30 => ?_)
  have hzf_35 := hF_33.1
  refine W.widen (k := 4) (n := 127) (Nat.le_of_ble_eq_true rfl) (Nat.le_of_ble_eq_true rfl) ?_
  obtain ⟨ea_36, ho_37, ho_38, hnew_39⟩ := hz_31
  refine lv_astore_n (lv' := [(1, .ref nw_1), (0, .ref a)]) hx hb dX4_copy_31 rfl hl (by decide) rfl (fun ls hl => ?_)
  refine lv_aload_n hx hb dX4_copy_32 rfl (lv_at hl 0 rfl) ?_
  refine lv_aload_n hx hb dX4_copy_33 rfl (lv_at hl 1 rfl) ?_
  have h_40 := h_17.ex hE_25
  have h_41 := h_40.fr hF_33 (fun h => by (try dsimp only at h); (try simp only [kNW] at h); omega)
  refine kx_get (v := .int (kI ((ln_n L : Nat) : Int))) (C := RX4) (T := TX4) (N := 6) hx hb hts in_X4 hown hK h_41 rfl 3 (by decide) q344 (fun _ h9 => h9) rfl dX4_copy_34 ?_
  refine kx_put (v := .int (kI ((ln_n L : Nat) : Int))) (C := RX4) (T := TX4) (N := 6) hx hb hts in_X4 hown hK ho_37 rfl 3 (by decide) tyX4 tyX4_ok nmX4 hS_30 (by first | rfl | exact Or.inl rfl | exact Or.inr rfl | exact Or.inr (Or.inl rfl) | exact Or.inr (Or.inr rfl) | exact Or.inr (Or.inr (Or.inl rfl)) | exact Or.inr (Or.inr (Or.inr rfl)) | ((try dsimp only); (try simp only [kNW]); omega)) q344 (fun _ h9 => h9) rfl rfl rfl rfl (Nat.le_of_ble_eq_true rfl) dX4_copy_37 (fun H_44 locs_45 hO_43 hU_42 hS_46 => ?_)
  have hO_43 : kO D H_44 nw_1 3 [.int (kI ((ln_lv L))), .ref na_10, .ref na_20, .int (kI ((ln_n L : Nat) : Int)), .ref ea_36, .int (kI ((-1)))] := hO_43
  have hzu_47 := hU_42.1
  refine lv_aload_n hx hb dX4_copy_40 rfl (lv_at hl 0 rfl) ?_
  refine lv_aload_n hx hb dX4_copy_41 rfl (lv_at hl 1 rfl) ?_
  have h_48 := h_41.up hU_42 (by first | assumption | exact Ne.symm (by assumption) | omega | (have h9 := h_41.lt; omega))
  refine kx_get (v := .ref ea) (C := RX4) (T := TX4) (N := 6) hx hb hts in_X4 hown hK h_48 rfl 4 (by decide) q347 (fun _ h9 => h9) rfl dX4_copy_42 ?_
  refine kx_put (v := .ref ea) (C := RX4) (T := TX4) (N := 6) hx hb hts in_X4 hown hK hO_43 rfl 4 (by decide) tyX4 tyX4_ok nmX4 hS_46 (by first | rfl | exact Or.inl rfl | exact Or.inr rfl | exact Or.inr (Or.inl rfl) | exact Or.inr (Or.inr rfl) | exact Or.inr (Or.inr (Or.inl rfl)) | exact Or.inr (Or.inr (Or.inr rfl)) | ((try dsimp only); (try simp only [kNW]); omega)) q347 (fun _ h9 => h9) rfl rfl rfl rfl (Nat.le_of_ble_eq_true rfl) dX4_copy_45 (fun H_51 locs_52 hO_50 hU_49 hS_53 => ?_)
  have hO_50 : kO D H_51 nw_1 3 [.int (kI ((ln_lv L))), .ref na_10, .ref na_20, .int (kI ((ln_n L : Nat) : Int)), .ref ea, .int (kI ((-1)))] := hO_50
  have hzu_54 := hU_49.1
  refine lv_aload_n hx hb dX4_copy_48 rfl (lv_at hl 0 rfl) ?_
  refine lv_aload_n hx hb dX4_copy_49 rfl (lv_at hl 1 rfl) ?_
  have h_55 := h_48.up hU_49 (by first | assumption | exact Ne.symm (by assumption) | omega | (have h9 := h_48.lt; omega))
  refine kx_get (v := .int (kI (ln_lb L))) (C := RX4) (T := TX4) (N := 6) hx hb hts in_X4 hown hK h_55 rfl 5 (by decide) q348 (fun _ h9 => h9) rfl dX4_copy_50 ?_
  refine kx_put (v := .int (kI (ln_lb L))) (C := RX4) (T := TX4) (N := 6) hx hb hts in_X4 hown hK hO_50 rfl 5 (by decide) tyX4 tyX4_ok nmX4 hS_53 (by first | rfl | exact Or.inl rfl | exact Or.inr rfl | exact Or.inr (Or.inl rfl) | exact Or.inr (Or.inr rfl) | exact Or.inr (Or.inr (Or.inl rfl)) | exact Or.inr (Or.inr (Or.inr rfl)) | ((try dsimp only); (try simp only [kNW]); omega)) q348 (fun _ h9 => h9) rfl rfl rfl rfl (Nat.le_of_ble_eq_true rfl) dX4_copy_53 (fun H_58 locs_59 hO_57 hU_56 hS_60 => ?_)
  have hO_57 : kO D H_58 nw_1 3 [.int (kI ((ln_lv L))), .ref na_10, .ref na_20, .int (kI ((ln_n L : Nat) : Int)), .ref ea, .int (kI (ln_lb L))] := hO_57
  have hzu_61 := hU_56.1
  refine lv_aload_n hx hb dX4_copy_56 rfl (lv_at hl 0 rfl) ?_
  have h_62 := hA_14.ex hE_25
  have h_63 := h_62.fr hF_33 (fun h => by (try dsimp only at h); (try simp only [kNW] at h); omega)
  have h_64 := h_63.up hU_42 (by first | assumption | exact Ne.symm (by assumption) | omega | (have h9 := h_63.lt; omega))
  have h_65 := h_64.up hU_49 (by first | assumption | exact Ne.symm (by assumption) | omega | (have h9 := h_64.lt; omega))
  have h_66 := h_65.up hU_56 (by first | assumption | exact Ne.symm (by assumption) | omega | (have h9 := h_65.lt; omega))
  have h_67 := hA_24.fr hF_33 (fun h => by (try dsimp only at h); (try simp only [kNW] at h); omega)
  have h_68 := h_67.up hU_42 (by first | assumption | exact Ne.symm (by assumption) | omega | (have h9 := h_67.lt; omega))
  have h_69 := h_68.up hU_49 (by first | assumption | exact Ne.symm (by assumption) | omega | (have h9 := h_68.lt; omega))
  have h_70 := h_69.up hU_56 (by first | assumption | exact Ne.symm (by assumption) | omega | (have h9 := h_69.lt; omega))
  exact kx_aret (z := nw_1) hx hb hr (by first | exact Or.inl ⟨_, rfl⟩ | exact Or.inr ⟨_, rfl⟩) hlk (⟨na_10, na_20, hO_57, h_66, h_70, by first | assumption | rfl | omega | grind, by first | assumption | rfl | omega | grind⟩) hS_60 dX4_copy_57

