/-! MATH 41 -/
theorem st_whyNot_b (S : Ls) (l : Nat) (d : Int) : st_whyNot S l d = if ln_cl (st_ln S l) = true then 1 else if ln_n (st_ln S l) = 60 then 2 else if nx (ln_end (st_ln S l)) d = -1 then 3 else if (decide (st_owner S (nx (ln_end (st_ln S l)) d) ≠ -1) && !decide (nx (ln_end (st_ln S l)) d = ln_bg (st_ln S l) ∧ 3 ≤ ln_n (st_ln S l))) = true then 4 else if (decide (d % 2 = 1) && st_step S (ln_end (st_ln S l) + ac d) (ln_end (st_ln S l) + 24 * dn d)) = true then 5 else 0 := by
  unfold st_whyNot
  simp only [Bool.and_eq_true, decide_eq_true_eq, Bool.not_eq_true', decide_eq_false_iff_not]
set_option maxHeartbeats 4000000 in
set_option maxRecDepth 100000 in
theorem m_why0_o (l : Launch) (D : kG) (H : Heap) (a : Nat) (pa : Nat) (sa : Nat) (ea : Nat) (L : Ln) (hO_a : kO D H a 3 [.int (kI (ln_lv L)), .ref pa, .ref sa, .int (kI ((ln_n L : Nat) : Int)), .ref ea, .int (kI (ln_lb L))]) (hO_ea : kO D H ea 4 []) : Met l yX2_lambda_whyNotStepped_0 (ws_ yX2_lambda_whyNotStepped_0 cX2_lambda_whyNotStepped_0 1 (some .boolean)) ({ frames := 1, cells := 0, slots := 0, locals := 20 } : Room) (kPre D H [.ref a]) (kQb (fun (r : Bool) H' => H' = H ∧ r = false) kNO) (0) (0) (kNO) := by
  refine Met.ofW (cc := cX2_lambda_whyNotStepped_0) (maxL := 1) (ret := (some .boolean)) (by decide) rfl ?_
  intro p e s m args below meth c s₁ B hml hv
  obtain ⟨rfl, hH, hK⟩ := hv
  subst hH
  have hx := B.exec
  have hb := B.bytes
  have hr := B.returns
  have hts := atoms_spec (ws := ws_ yX2_lambda_whyNotStepped_0 cX2_lambda_whyNotStepped_0 1 (some .boolean)) B.pre
  have hts : ∀ w ∈ lw_all, w.before _ s = true := fun w h => hts w (List.mem_cons_of_mem _ h)
  have hown : s.vm.findClass RX2 = some m.cls := findClass_of_methodNamed B.named
  have hlk := B.notSynchronized
  have hS : va_S kNO s.heap s.heap [] := va_S.rf
  have hB : ∀ q, kNO q → kBase D ≤ q := fun _ h => h.elim
  have hl := lv_entry ([.ref a]) (n := 1) (Nat.le_of_ble_eq_true rfl)
  rw [lg_entry_eq]
  generalize (lg_sl ([.ref a]) ++ List.replicate (1 - (lg_sl ([.ref a])).length) Slot.unset).toArray = ls at hl ⊢
  have hl : lv_has ls 1 [(0, .ref a)] := hl
  refine lv_aload_n hx hb dX2_lambda_whyNotStepped_0_0 rfl (lv_at hl 0 rfl) ?_
  refine kx_cb0 (va_runV (As := []) (rest := []) ⟨hx, hb, hml, hown, hts⟩ (m_isClosed_o l D s.heap a pa sa ea L hO_a hO_ea ) (cwV 0 hts (lw_V q1695 q1696 q1697 q99 q1698) rfl rfl rfl (by decide +kernel) ⟨Nat.le_of_ble_eq_true rfl, Nat.le_of_ble_eq_true rfl⟩) (kx_pv hK hS hB (kx_rc hK hO_a (C := RX4) (T := TX4) (N := 6) rfl)) rfl rfl hl.1 rfl (lv_room (Nat.le_of_ble_eq_true rfl)) dX2_lambda_whyNotStepped_0_1 ⟨by first | exact Nat.le_of_ble_eq_true rfl | omega | (show _ ≤ _; omega) | (dsimp only [headSpec]; omega), by first | exact Nat.le_of_ble_eq_true rfl | omega | (show _ ≤ _; omega) | (dsimp only [headSpec]; omega)⟩) hS (fun z_4 locs_1 hz_3 hS_2 => ?_)
  subst z_4
  exact kx_zret (z := false) hx hb hr hlk (⟨rfl, by rfl⟩) hS_2 dX2_lambda_whyNotStepped_0_4

set_option maxHeartbeats 4000000 in
set_option maxRecDepth 100000 in
theorem m_why0_c (l : Launch) (D : kG) (H : Heap) (a : Nat) (pa : Nat) (sa : Nat) (ea : Nat) (L : Ln) (hO_a : kO D H a 3 [.int (kI (ln_lv L)), .ref pa, .ref sa, .int (kI ((ln_n L : Nat) : Int)), .ref ea, .int (kI (ln_lb L))]) (hO_ea : kO D H ea 5 []) : Met l yX2_lambda_whyNotStepped_0 (ws_ yX2_lambda_whyNotStepped_0 cX2_lambda_whyNotStepped_0 1 (some .boolean)) ({ frames := 1, cells := 0, slots := 0, locals := 20 } : Room) (kPre D H [.ref a]) (kQb (fun (r : Bool) H' => H' = H ∧ r = true) kNO) (0) (0) (kNO) := by
  refine Met.ofW (cc := cX2_lambda_whyNotStepped_0) (maxL := 1) (ret := (some .boolean)) (by decide) rfl ?_
  intro p e s m args below meth c s₁ B hml hv
  obtain ⟨rfl, hH, hK⟩ := hv
  subst hH
  have hx := B.exec
  have hb := B.bytes
  have hr := B.returns
  have hts := atoms_spec (ws := ws_ yX2_lambda_whyNotStepped_0 cX2_lambda_whyNotStepped_0 1 (some .boolean)) B.pre
  have hts : ∀ w ∈ lw_all, w.before _ s = true := fun w h => hts w (List.mem_cons_of_mem _ h)
  have hown : s.vm.findClass RX2 = some m.cls := findClass_of_methodNamed B.named
  have hlk := B.notSynchronized
  have hS : va_S kNO s.heap s.heap [] := va_S.rf
  have hB : ∀ q, kNO q → kBase D ≤ q := fun _ h => h.elim
  have hl := lv_entry ([.ref a]) (n := 1) (Nat.le_of_ble_eq_true rfl)
  rw [lg_entry_eq]
  generalize (lg_sl ([.ref a]) ++ List.replicate (1 - (lg_sl ([.ref a])).length) Slot.unset).toArray = ls at hl ⊢
  have hl : lv_has ls 1 [(0, .ref a)] := hl
  refine lv_aload_n hx hb dX2_lambda_whyNotStepped_0_0 rfl (lv_at hl 0 rfl) ?_
  refine kx_cb0 (va_runV (As := []) (rest := []) ⟨hx, hb, hml, hown, hts⟩ (m_isClosed_c l D s.heap a pa sa ea L hO_a hO_ea ) (cwV 0 hts (lw_V q1695 q1696 q1697 q99 q1698) rfl rfl rfl (by decide +kernel) ⟨Nat.le_of_ble_eq_true rfl, Nat.le_of_ble_eq_true rfl⟩) (kx_pv hK hS hB (kx_rc hK hO_a (C := RX4) (T := TX4) (N := 6) rfl)) rfl rfl hl.1 rfl (lv_room (Nat.le_of_ble_eq_true rfl)) dX2_lambda_whyNotStepped_0_1 ⟨by first | exact Nat.le_of_ble_eq_true rfl | omega | (show _ ≤ _; omega) | (dsimp only [headSpec]; omega), by first | exact Nat.le_of_ble_eq_true rfl | omega | (show _ ≤ _; omega) | (dsimp only [headSpec]; omega)⟩) hS (fun z_4 locs_1 hz_3 hS_2 => ?_)
  subst z_4
  exact kx_zret (z := true) hx hb hr hlk (⟨rfl, by rfl⟩) hS_2 dX2_lambda_whyNotStepped_0_4

set_option maxHeartbeats 4000000 in
set_option maxRecDepth 100000 in
theorem m_X2_lambda_whyNotStepped_1 (l : Launch) (D : kG) (H : Heap) (a : Nat) (pa : Nat) (sa : Nat) (ea : Nat) (L : Ln) (hO_a : kO D H a 3 [.int (kI (ln_lv L)), .ref pa, .ref sa, .int (kI ((ln_n L : Nat) : Int)), .ref ea, .int (kI (ln_lb L))]) (hn9 : ln_n L ≤ 60) : Met l yX2_lambda_whyNotStepped_1 (ws_ yX2_lambda_whyNotStepped_1 cX2_lambda_whyNotStepped_1 1 (some .boolean)) ({ frames := 0, cells := 0, slots := 0, locals := 0 } : Room) (kPre D H [.ref a]) (kQb (fun (r : Bool) H' => H' = H ∧ r = decide (ln_n L = 60)) kNO) (0) (0) (kNO) := by
  refine Met.ofW (cc := cX2_lambda_whyNotStepped_1) (maxL := 1) (ret := (some .boolean)) (by decide) rfl ?_
  intro p e s m args below meth c s₁ B hml hv
  obtain ⟨rfl, hH, hK⟩ := hv
  subst hH
  have hx := B.exec
  have hb := B.bytes
  have hr := B.returns
  have hts := atoms_spec (ws := ws_ yX2_lambda_whyNotStepped_1 cX2_lambda_whyNotStepped_1 1 (some .boolean)) B.pre
  have hts : ∀ w ∈ lw_all, w.before _ s = true := fun w h => hts w (List.mem_cons_of_mem _ h)
  have hown : s.vm.findClass RX2 = some m.cls := findClass_of_methodNamed B.named
  have hlk := B.notSynchronized
  have hS : va_S kNO s.heap s.heap [] := va_S.rf
  have hB : ∀ q, kNO q → kBase D ≤ q := fun _ h => h.elim
  have hl := lv_entry ([.ref a]) (n := 1) (Nat.le_of_ble_eq_true rfl)
  rw [lg_entry_eq]
  generalize (lg_sl ([.ref a]) ++ List.replicate (1 - (lg_sl ([.ref a])).length) Slot.unset).toArray = ls at hl ⊢
  have hl : lv_has ls 1 [(0, .ref a)] := hl
  refine lv_aload_n hx hb dX2_lambda_whyNotStepped_1_0 rfl (lv_at hl 0 rfl) ?_
  refine kx_getN (v := .int (kI ((ln_n L : Nat) : Int))) (C := RX4) (T := TX4) (N := 6) hx hb hts in_X4 hown hK hO_a rfl 3 (by decide) (hK.w q345 rfl) (fun _ h9 => h9) rfl dX2_lambda_whyNotStepped_1_1 ?_
  refine kx_bipush hx hb (by decide) dX2_lambda_whyNotStepped_1_4 ?_
  refine kx_icmp_ne (x := ((ln_n L : Nat) : Int)) (y := 60) (tgt := 13) hx hb dX2_lambda_whyNotStepped_1_6 (by decide) (by omega) (by omega) (by omega) (by omega) (fun c_6_1 => ?_) (fun c_6_1 => ?_)
  · -- taken at 6
    refine kx_iconst hx hb dX2_lambda_whyNotStepped_1_13 ?_
    exact kx_zret (z := false) hx hb hr hlk (⟨rfl, by first | rfl | exact (decide_eq_true (by omega)).symm | exact (decide_eq_false (by omega)).symm | grind⟩) hS dX2_lambda_whyNotStepped_1_14
  · -- not taken at 6
    refine kx_iconst hx hb dX2_lambda_whyNotStepped_1_9 ?_
    refine lv_goto (tgt := 14) hx hb dX2_lambda_whyNotStepped_1_10 (by decide) ?_
    exact kx_zret (z := true) hx hb hr hlk (⟨rfl, by first | rfl | exact (decide_eq_true (by omega)).symm | exact (decide_eq_false (by omega)).symm | grind⟩) hS dX2_lambda_whyNotStepped_1_14

set_option maxHeartbeats 4000000 in
set_option maxRecDepth 100000 in
theorem m_X2_lambda_whyNotStepped_2 (l : Launch) (D : kG) (H : Heap) (x : Int) (hr_x : -2147483648 ≤ x ∧ x ≤ 2147483647) : Met l yX2_lambda_whyNotStepped_2 (ws_ yX2_lambda_whyNotStepped_2 cX2_lambda_whyNotStepped_2 1 (some .boolean)) ({ frames := 0, cells := 0, slots := 0, locals := 0 } : Room) (kPre D H [.int (kI (x))]) (kQb (fun (r : Bool) H' => H' = H ∧ r = decide (x = -1)) kNO) (0) (0) (kNO) := by
  refine Met.ofW (cc := cX2_lambda_whyNotStepped_2) (maxL := 1) (ret := (some .boolean)) (by decide) rfl ?_
  intro p e s m args below meth c s₁ B hml hv
  obtain ⟨rfl, hH, hK⟩ := hv
  subst hH
  have hx := B.exec
  have hb := B.bytes
  have hr := B.returns
  have hts := atoms_spec (ws := ws_ yX2_lambda_whyNotStepped_2 cX2_lambda_whyNotStepped_2 1 (some .boolean)) B.pre
  have hts : ∀ w ∈ lw_all, w.before _ s = true := fun w h => hts w (List.mem_cons_of_mem _ h)
  have hown : s.vm.findClass RX2 = some m.cls := findClass_of_methodNamed B.named
  have hlk := B.notSynchronized
  have hS : va_S kNO s.heap s.heap [] := va_S.rf
  have hB : ∀ q, kNO q → kBase D ≤ q := fun _ h => h.elim
  have hl := lv_entry ([.int (kI (x))]) (n := 1) (Nat.le_of_ble_eq_true rfl)
  rw [lg_entry_eq]
  generalize (lg_sl ([.int (kI (x))]) ++ List.replicate (1 - (lg_sl ([.int (kI (x))])).length) Slot.unset).toArray = ls at hl ⊢
  have hl : lv_has ls 1 [(0, .int (kI (x)))] := hl
  refine lv_iload_n hx hb dX2_lambda_whyNotStepped_2_0 rfl (lv_at hl 0 rfl) ?_
  refine kx_iconst hx hb dX2_lambda_whyNotStepped_2_1 ?_
  refine kx_icmp_ne (x := x) (y := (-1)) (tgt := 9) hx hb dX2_lambda_whyNotStepped_2_2 (by decide) (by omega) (by omega) (by omega) (by omega) (fun c_2_1 => ?_) (fun c_2_1 => ?_)
  · -- taken at 2
    refine kx_iconst hx hb dX2_lambda_whyNotStepped_2_9 ?_
    exact kx_zret (z := false) hx hb hr hlk (⟨rfl, by first | rfl | exact (decide_eq_true (by omega)).symm | exact (decide_eq_false (by omega)).symm | grind⟩) hS dX2_lambda_whyNotStepped_2_10
  · -- not taken at 2
    refine kx_iconst hx hb dX2_lambda_whyNotStepped_2_5 ?_
    refine lv_goto (tgt := 10) hx hb dX2_lambda_whyNotStepped_2_6 (by decide) ?_
    exact kx_zret (z := true) hx hb hr hlk (⟨rfl, by first | rfl | exact (decide_eq_true (by omega)).symm | exact (decide_eq_false (by omega)).symm | grind⟩) hS dX2_lambda_whyNotStepped_2_10

set_option maxHeartbeats 4000000 in
set_option maxRecDepth 100000 in
theorem m_X2_lambda_whyNotStepped_3 (l : Launch) (D : kG) (H : Heap) (st : Nat) (la : Nat) (mc : Int) (ea : Nat) (F : Fts) (S : Ls) (gap : Int) (ln : Nat) (x : Int) (hO_st : kO D H st 1 [.ref la, .int (kI (gap))]) (hO_la : kO D H la 9 [.int (kI (mc)), .ref ea, .int (kI ((S.length : Nat) : Int))]) (hP_kLs_ea : kLs D H ea S.length F) (hP_kLn_F : kLn D H F S) (hok : LsOK S gap) (hln : ln < S.length) (hpt : 0 ≤ x ∧ x ≤ 383) : Met l yX2_lambda_whyNotStepped_3 (ws_ yX2_lambda_whyNotStepped_3 cX2_lambda_whyNotStepped_3 3 (some .boolean)) ({ frames := 4, cells := 0, slots := 0, locals := 86 } : Room) (kPre D H [.ref st, .int (kI (x)), .ref (fA F ln)]) (kQb (fun (r : Bool) H' => H' = H ∧ r = (decide (st_owner S x ≠ -1) && !decide (x = ln_bg (st_ln S ln) ∧ 3 ≤ ln_n (st_ln S ln)))) kNO) (0) (0) (kNO) := by
  refine Met.ofW (cc := cX2_lambda_whyNotStepped_3) (maxL := 3) (ret := (some .boolean)) (by decide) rfl ?_
  intro p e s m args below meth c s₁ B hml hv
  obtain ⟨rfl, hH, hK⟩ := hv
  subst hH
  have hx := B.exec
  have hb := B.bytes
  have hr := B.returns
  have hts := atoms_spec (ws := ws_ yX2_lambda_whyNotStepped_3 cX2_lambda_whyNotStepped_3 3 (some .boolean)) B.pre
  have hts : ∀ w ∈ lw_all, w.before _ s = true := fun w h => hts w (List.mem_cons_of_mem _ h)
  have hown : s.vm.findClass RX2 = some m.cls := findClass_of_methodNamed B.named
  have hlk := B.notSynchronized
  have hS : va_S kNO s.heap s.heap [] := va_S.rf
  have hB : ∀ q, kNO q → kBase D ≤ q := fun _ h => h.elim
  have hl := lv_entry ([.ref st, .int (kI (x)), .ref (fA F ln)]) (n := 3) (Nat.le_of_ble_eq_true rfl)
  rw [lg_entry_eq]
  generalize (lg_sl ([.ref st, .int (kI (x)), .ref (fA F ln)]) ++ List.replicate (3 - (lg_sl ([.ref st, .int (kI (x)), .ref (fA F ln)])).length) Slot.unset).toArray = ls at hl ⊢
  have hl : lv_has ls 3 [(0, .ref st), (1, .int (kI (x))), (2, .ref (fA F ln))] := hl
  have hL8 := hok.1
  have hor := st_owner_rng S x
  obtain ⟨ea_1, gp_1, gs_1, ho_1, hp_1, hs_1, he_1, hm_1⟩ := (hP_kLn_F ln (hln))
  refine lv_aload_n hx hb dX2_lambda_whyNotStepped_3_0 rfl (lv_at hl 0 rfl) ?_
  refine lv_iload_n hx hb dX2_lambda_whyNotStepped_3_1 rfl (lv_at hl 1 rfl) ?_
  refine kx_ci0 (va_runV (As := [.int (kI (x))]) (rest := []) ⟨hx, hb, hml, hown, hts⟩ (m_X2_lineAt l D s.heap st la mc ea F S gap x hO_st hO_la hP_kLs_ea hP_kLn_F (by first | assumption | omega) (by first | assumption | omega)) (cwV 1 hts (lw_V q1655 q1656 q1657 q80 q1658) rfl rfl rfl (by decide +kernel) ⟨Nat.le_of_ble_eq_true rfl, Nat.le_of_ble_eq_true rfl⟩) (kx_pv hK hS hB (kx_rc hK hO_st (C := RX2) (T := TX2) (N := 2) rfl)) rfl rfl hl.1 rfl (lv_room (Nat.le_of_ble_eq_true rfl)) dX2_lambda_whyNotStepped_3_2 ⟨by first | exact Nat.le_of_ble_eq_true rfl | omega | (show _ ≤ _; omega) | (dsimp only [headSpec]; omega), by first | exact Nat.le_of_ble_eq_true rfl | omega | (show _ ≤ _; omega) | (dsimp only [headSpec]; omega)⟩) hS (fun z_5 locs_2 hz_4 hS_3 => ?_)
  subst z_5
  refine kx_iconst hx hb dX2_lambda_whyNotStepped_3_5 ?_
  refine kx_icmp_eq (x := st_owner S x) (y := (-1)) (tgt := 21) hx hb dX2_lambda_whyNotStepped_3_6 (by decide) (by omega) (by omega) (by omega) (by omega) (fun c_6_6 => ?_) (fun c_6_6 => ?_)
  · -- taken at 6
    refine kx_iconst hx hb dX2_lambda_whyNotStepped_3_21 ?_
    exact kx_zret (z := false) hx hb hr hlk (⟨rfl, by simp [*]⟩) hS_3 dX2_lambda_whyNotStepped_3_22
  · -- not taken at 6
    refine lv_aload_n hx hb dX2_lambda_whyNotStepped_3_9 rfl (lv_at hl 2 rfl) ?_
    refine lv_iload_n hx hb dX2_lambda_whyNotStepped_3_10 rfl (lv_at hl 1 rfl) ?_
    refine kx_cb0 (va_runV (As := [.int (kI (x))]) (rest := []) ⟨hx, hb, hml, hown, hts⟩ (m_X4_closesAt l D s.heap (fA F ln) (fP F ln) (fS F ln) ea_1 gp_1 gs_1 ((st_ln S ln)) x ho_1 hp_1 hs_1 (by first | assumption | omega) ((hok.ln (by omega : ln < S.length))) (by first | assumption | omega)) (cwV 1 hts (lw_V q1707 q1708 q1709 q99 q1710) rfl rfl rfl (by decide +kernel) ⟨Nat.le_of_ble_eq_true rfl, Nat.le_of_ble_eq_true rfl⟩) (kx_pv hK hS_3 hB (kx_rc hK ho_1 (C := RX4) (T := TX4) (N := 6) rfl)) rfl rfl hl.1 rfl (lv_room (Nat.le_of_ble_eq_true rfl)) dX2_lambda_whyNotStepped_3_11 ⟨by first | exact Nat.le_of_ble_eq_true rfl | omega | (show _ ≤ _; omega) | (dsimp only [headSpec]; omega), by first | exact Nat.le_of_ble_eq_true rfl | omega | (show _ ≤ _; omega) | (dsimp only [headSpec]; omega)⟩) hS_3 (fun z_10 locs_7 hz_9 hS_8 => ?_)
    subst z_10
    refine kx_ifnz (tgt := 21) hx hb dX2_lambda_whyNotStepped_3_14 (by decide) (fun c_14_11 => ?_) (fun c_14_11 => ?_)
    · -- taken at 14
      have c_14_11 := of_decide_eq_true c_14_11
      refine kx_iconst hx hb dX2_lambda_whyNotStepped_3_21 ?_
      exact kx_zret (z := false) hx hb hr hlk (⟨rfl, by simp [*]⟩) hS_8 dX2_lambda_whyNotStepped_3_22
    · -- not taken at 14
      have c_14_11 := of_decide_eq_false c_14_11
      refine kx_iconst hx hb dX2_lambda_whyNotStepped_3_17 ?_
      refine lv_goto (tgt := 22) hx hb dX2_lambda_whyNotStepped_3_18 (by decide) ?_
      exact kx_zret (z := true) hx hb hr hlk (⟨rfl, by simp [*]⟩) hS_8 dX2_lambda_whyNotStepped_3_22

set_option maxHeartbeats 4000000 in
set_option maxRecDepth 100000 in
theorem m_X2_lambda_whyNotStepped_4 (l : Launch) (D : kG) (H : Heap) (st : Nat) (la : Nat) (mc : Int) (ea : Nat) (F : Fts) (S : Ls) (gap : Int) (ln : Nat) (d : Int) (hO_st : kO D H st 1 [.ref la, .int (kI (gap))]) (hO_la : kO D H la 9 [.int (kI (mc)), .ref ea, .int (kI ((S.length : Nat) : Int))]) (hP_kLs_ea : kLs D H ea S.length F) (hP_kLn_F : kLn D H F S) (hok : LsOK S gap) (hln : ln < S.length) (hd : 0 ≤ d ∧ d ≤ 7) : Met l yX2_lambda_whyNotStepped_4 (ws_ yX2_lambda_whyNotStepped_4 cX2_lambda_whyNotStepped_4 3 (some .boolean)) ({ frames := 4, cells := 0, slots := 0, locals := 90 } : Room) (kPre D H [.ref st, .ref (fA F ln), .int (kI (d))]) (kQb (fun (r : Bool) H' => H' = H ∧ r = (decide (d % 2 = 1) && st_step S (ln_end (st_ln S ln) + ac d) (ln_end (st_ln S ln) + 24 * dn d))) kNO) (0) (0) (kNO) := by
  refine Met.ofW (cc := cX2_lambda_whyNotStepped_4) (maxL := 3) (ret := (some .boolean)) (by decide) rfl ?_
  intro p e s m args below meth c s₁ B hml hv
  obtain ⟨rfl, hH, hK⟩ := hv
  subst hH
  have hx := B.exec
  have hb := B.bytes
  have hr := B.returns
  have hts := atoms_spec (ws := ws_ yX2_lambda_whyNotStepped_4 cX2_lambda_whyNotStepped_4 3 (some .boolean)) B.pre
  have hts : ∀ w ∈ lw_all, w.before _ s = true := fun w h => hts w (List.mem_cons_of_mem _ h)
  have hown : s.vm.findClass RX2 = some m.cls := findClass_of_methodNamed B.named
  have hlk := B.notSynchronized
  have hS : va_S kNO s.heap s.heap [] := va_S.rf
  have hB : ∀ q, kNO q → kBase D ≤ q := fun _ h => h.elim
  have hl := lv_entry ([.ref st, .ref (fA F ln), .int (kI (d))]) (n := 3) (Nat.le_of_ble_eq_true rfl)
  rw [lg_entry_eq]
  generalize (lg_sl ([.ref st, .ref (fA F ln), .int (kI (d))]) ++ List.replicate (3 - (lg_sl ([.ref st, .ref (fA F ln), .int (kI (d))])).length) Slot.unset).toArray = ls at hl ⊢
  have hl : lv_has ls 3 [(0, .ref st), (1, .ref (fA F ln)), (2, .int (kI (d)))] := hl
  have hL8 := hok.1
  obtain ⟨ea_1, gp_1, gs_1, ho_1, hp_1, hs_1, he_1, hm_1⟩ := (hP_kLn_F ln (hln))
  have hpe : 0 ≤ ln_end (st_ln S ln) ∧ ln_end (st_ln S ln) ≤ 383 := (hok.ln hln).pos (k := ln_n (st_ln S ln)) (Nat.le_refl _)
  refine lv_aload_n hx hb dX2_lambda_whyNotStepped_4_0 rfl (lv_at hl 0 rfl) ?_
  refine lv_aload_n hx hb dX2_lambda_whyNotStepped_4_1 rfl (lv_at hl 1 rfl) ?_
  refine kx_ci0 (va_runV (As := []) (rest := [.ref st]) ⟨hx, hb, hml, hown, hts⟩ (m_X4_end l D s.heap (fA F ln) (fP F ln) (fS F ln) ea_1 gp_1 gs_1 ((st_ln S ln)) ho_1 hp_1 hs_1 (by first | assumption | omega) ((hok.ln (by omega : ln < S.length)))) (cwV 0 hts (lw_V q1682 q1683 q1684 q99 q1685) rfl rfl rfl (by decide +kernel) ⟨Nat.le_of_ble_eq_true rfl, Nat.le_of_ble_eq_true rfl⟩) (kx_pv hK hS hB (kx_rc hK ho_1 (C := RX4) (T := TX4) (N := 6) rfl)) rfl rfl hl.1 rfl (lv_room (Nat.le_of_ble_eq_true rfl)) dX2_lambda_whyNotStepped_4_2 ⟨by first | exact Nat.le_of_ble_eq_true rfl | omega | (show _ ≤ _; omega) | (dsimp only [headSpec]; omega), by first | exact Nat.le_of_ble_eq_true rfl | omega | (show _ ≤ _; omega) | (dsimp only [headSpec]; omega)⟩) hS (fun z_5 locs_2 hz_4 hS_3 => ?_)
  subst z_5
  refine lv_iload_n hx hb dX2_lambda_whyNotStepped_4_5 rfl (lv_at hl 2 rfl) ?_
  refine kx_cb0 (va_runV (As := [.int (kI (ln_end (st_ln S ln))), .int (kI (d))]) (rest := []) ⟨hx, hb, hml, hown, hts⟩ (m_X2_crosses l D s.heap st la mc ea F S gap (ln_end (st_ln S ln)) d hO_st hO_la hP_kLs_ea hP_kLn_F (by first | assumption | omega) (by omega) (by first | assumption | omega)) (cwV 2 hts (lw_V q1714 q1716 qs28 q80 q1717) rfl rfl rfl (by decide +kernel) ⟨Nat.le_of_ble_eq_true rfl, Nat.le_of_ble_eq_true rfl⟩) (kx_pv hK hS_3 hB (kx_rc hK hO_st (C := RX2) (T := TX2) (N := 2) rfl)) rfl rfl hl.1 rfl (lv_room (Nat.le_of_ble_eq_true rfl)) dX2_lambda_whyNotStepped_4_6 ⟨by first | exact Nat.le_of_ble_eq_true rfl | omega | (show _ ≤ _; omega) | (dsimp only [headSpec]; omega), by first | exact Nat.le_of_ble_eq_true rfl | omega | (show _ ≤ _; omega) | (dsimp only [headSpec]; omega)⟩) hS_3 (fun z_9 locs_6 hz_8 hS_7 => ?_)
  subst z_9
  exact kx_zret (z := (decide (d % 2 = 1) && st_step S ((ln_end (st_ln S ln)) + ac d) ((ln_end (st_ln S ln)) + 24 * dn d))) hx hb hr hlk (⟨rfl, by rfl⟩) hS_7 dX2_lambda_whyNotStepped_4_9

set_option maxHeartbeats 4000000 in
set_option maxRecDepth 100000 in
theorem m_first_s (l : Launch) (D : kG) (H : Heap) (aq : Nat) (gq : Nat → Option Nat) (r0 : Nat) (r1 : Nat) (r2 : Nat) (r3 : Nat) (r4 : Nat) (st : Nat) (la : Nat) (mc : Int) (ea : Nat) (F : Fts) (S : Ls) (gap : Int) (ln : Nat) (d : Int) (hA_aq : kAq D H aq 5 5 gq) (hL_r0 : kLm D H r0 6 [.ref (fA F ln)]) (hL_r1 : kLm D H r1 7 [.ref (fA F ln)]) (hL_r2 : kLm D H r2 8 [.int (kI (nx (ln_end (st_ln S ln)) d))]) (hL_r3 : kLm D H r3 9 [.ref st, .int (kI (nx (ln_end (st_ln S ln)) d)), .ref (fA F ln)]) (hL_r4 : kLm D H r4 10 [.ref st, .ref (fA F ln), .int (kI (d))]) (hO_st : kO D H st 1 [.ref la, .int (kI (gap))]) (hO_la : kO D H la 9 [.int (kI (mc)), .ref ea, .int (kI ((S.length : Nat) : Int))]) (hP_kLs_ea : kLs D H ea S.length F) (hP_kLn_F : kLn D H F S) (hok : LsOK S gap) (hln : ln < S.length) (hd : 0 ≤ d ∧ d ≤ 7) (hg0 : gq 0 = some r0) (hg1 : gq 1 = some r1) (hg2 : gq 2 = some r2) (hg3 : gq 3 = some r3) (hg4 : gq 4 = some r4) : Met l yX1_first (ws_ yX1_first cX1_first 2 (some .int)) ({ frames := 6, cells := 0, slots := 0, locals := 132 } : Room) (kPre D H [.ref aq]) (kQi (fun (r : Int) H' => H' = H ∧ r = st_whyNot S ln d) kNO) (0) (0) (kNO) := by
  refine Met.ofW (cc := cX1_first) (maxL := 2) (ret := (some .int)) (by decide) rfl ?_
  intro p e s m args below meth c s₁ B hml hv
  obtain ⟨rfl, hH, hK⟩ := hv
  subst hH
  have hx := B.exec
  have hb := B.bytes
  have hr := B.returns
  have hts := atoms_spec (ws := ws_ yX1_first cX1_first 2 (some .int)) B.pre
  have hts : ∀ w ∈ lw_all, w.before _ s = true := fun w h => hts w (List.mem_cons_of_mem _ h)
  have hown : s.vm.findClass RX1 = some m.cls := findClass_of_methodNamed B.named
  have hlk := B.notSynchronized
  have hS : va_S kNO s.heap s.heap [] := va_S.rf
  have hB : ∀ q, kNO q → kBase D ≤ q := fun _ h => h.elim
  have hl := lv_entry ([.ref aq]) (n := 2) (Nat.le_of_ble_eq_true rfl)
  rw [lg_entry_eq]
  generalize (lg_sl ([.ref aq]) ++ List.replicate (2 - (lg_sl ([.ref aq])).length) Slot.unset).toArray = ls at hl ⊢
  have hl : lv_has ls 2 [(0, .ref aq)] := hl
  have hL8 := hok.1
  have hpe : 0 ≤ ln_end (st_ln S ln) ∧ ln_end (st_ln S ln) ≤ 383 := (hok.ln hln).pos (k := ln_n (st_ln S ln)) (Nat.le_refl _)
  have hnx : -1 ≤ nx (ln_end (st_ln S ln)) d ∧ nx (ln_end (st_ln S ln)) d ≤ 383 := by by_cases h9 : nx (ln_end (st_ln S ln)) d = -1; omega; (have := nx_ok hpe h9; omega)
  have hn60 := (hok.ln hln).n
  by_cases hcl9 : ln_cl (st_ln S ln) = true
  · -- hcl9 t
    obtain ⟨ea_1, gp_1, gs_1, ho_1, hp_1, hs_1, he_1, hm_1⟩ := (hP_kLn_F ln (hln)).closed_ hcl9
    refine kx_iconst hx hb dX1_first_0 ?_
    refine lv_istore_n (lv' := [(1, .int (kI (0))), (0, .ref aq)]) hx hb dX1_first_1 rfl hl (by decide) rfl (fun ls hl => ?_)
    refine lv_iload_n hx hb dX1_first_2 rfl (lv_at hl 0 rfl) ?_
    refine lv_aload_n hx hb dX1_first_3 rfl (lv_at hl 1 rfl) ?_
    refine kx_alen hx hb hK hA_aq rfl dX1_first_4 ?_
    refine kx_icmp_ge (x := 0) (y := ((5 : Nat) : Int)) (tgt := 29) hx hb dX1_first_5 (by decide) (by omega) (by omega) (by omega) (by omega) (fun c_5_2 => ?_) (fun c_5_2 => ?_)
    · -- taken at 5
      exfalso; omega
    · -- not taken at 5
      refine lv_aload_n hx hb dX1_first_8 rfl (lv_at hl 1 rfl) ?_
      refine lv_iload_n hx hb dX1_first_9 rfl (lv_at hl 0 rfl) ?_
      refine kx_aald hx hb hK (t := 5) rfl hA_aq 0 (rfl) (by omega) (by omega) dX1_first_10 ?_
      refine kx_eqq hx hb (b := r0) hg0 ?_
      refine kx_cFb0 (kl_S0 (i := 6) (σ := ls_7) (vals := [.ref (fA F ln)]) (rest := []) ⟨hx, hb, hml, hown, hts⟩ hK hS hB hlk rfl rfl lk_7 List.mem_cons_self (by decide +kernel) (by decide +kernel) (by decide +kernel) rfl (by decide +kernel) hL_r0 rfl (m_why0_c l D s.heap (fA F ln) (fP F ln) (fS F ln) ea_1 ((st_ln S ln)) ho_1 he_1 ) rfl (lw_meth q1694) rfl rfl q80 q1693 (show (parseMethodDescriptor yX2_lambda_whyNotStepped_0.desc).map (fun d => d.parameters.length) = some 1 by decide +kernel) q1176 (by decide +kernel) kl_ret lkd_7 lki_7 lkr_7 (Nat.zero_le _) hl.1 (Nat.le_of_ble_eq_true rfl) dX1_first_11 ⟨by first | exact Nat.le_of_ble_eq_true rfl | omega | (show _ ≤ _; omega) | (dsimp only [headSpec]; omega), by first | exact Nat.le_of_ble_eq_true rfl | omega | (show _ ≤ _; omega) | (dsimp only [headSpec]; omega)⟩ (Nat.le_of_ble_eq_true rfl) (Nat.le_of_ble_eq_true rfl)) hS (fun z_6 locs_3 hz_5 hS_4 => ?_)
      subst z_6
      refine kx_ifz (tgt := 23) hx hb dX1_first_16 (by decide) (fun c_16_7 => ?_) (fun c_16_7 => ?_)
      · -- taken at 16
        exact absurd c_16_7 (by decide)
      · -- not taken at 16
        refine lv_iload_n hx hb dX1_first_19 rfl (lv_at hl 0 rfl) ?_
        refine kx_iconst hx hb dX1_first_20 ?_
        refine kx_iadd hx hb dX1_first_21 ?_
        exact kx_iret (z := (0 + 1)) hx hb hr hlk (⟨rfl, by rw [st_whyNot_b]; repeat (first | rw [if_pos (by assumption)] | rw [if_neg (by assumption)] | rw [if_neg (by rw [Bool.not_eq_true]; assumption)]); try rfl⟩) hS_4 dX1_first_22
  · -- hcl9 f
    have hcl8 : ln_cl (st_ln S ln) = false := by simpa using hcl9
    obtain ⟨ea_8, gp_8, gs_8, ho_8, hp_8, hs_8, he_8, hm_8⟩ := (hP_kLn_F ln (hln)).open_ hcl8
    refine kx_iconst hx hb dX1_first_0 ?_
    refine lv_istore_n (lv' := [(1, .int (kI (0))), (0, .ref aq)]) hx hb dX1_first_1 rfl hl (by decide) rfl (fun ls hl => ?_)
    refine lv_iload_n hx hb dX1_first_2 rfl (lv_at hl 0 rfl) ?_
    refine lv_aload_n hx hb dX1_first_3 rfl (lv_at hl 1 rfl) ?_
    refine kx_alen hx hb hK hA_aq rfl dX1_first_4 ?_
    refine kx_icmp_ge (x := 0) (y := ((5 : Nat) : Int)) (tgt := 29) hx hb dX1_first_5 (by decide) (by omega) (by omega) (by omega) (by omega) (fun c_5_9 => ?_) (fun c_5_9 => ?_)
    · -- taken at 5
      exfalso; omega
    · -- not taken at 5
      refine lv_aload_n hx hb dX1_first_8 rfl (lv_at hl 1 rfl) ?_
      refine lv_iload_n hx hb dX1_first_9 rfl (lv_at hl 0 rfl) ?_
      refine kx_aald hx hb hK (t := 5) rfl hA_aq 0 (rfl) (by omega) (by omega) dX1_first_10 ?_
      refine kx_eqq hx hb (b := r0) hg0 ?_
      refine kx_cFb0 (kl_S0 (i := 6) (σ := ls_7) (vals := [.ref (fA F ln)]) (rest := []) ⟨hx, hb, hml, hown, hts⟩ hK hS hB hlk rfl rfl lk_7 List.mem_cons_self (by decide +kernel) (by decide +kernel) (by decide +kernel) rfl (by decide +kernel) hL_r0 rfl (m_why0_o l D s.heap (fA F ln) (fP F ln) (fS F ln) ea_8 ((st_ln S ln)) ho_8 he_8 ) rfl (lw_meth q1694) rfl rfl q80 q1693 (show (parseMethodDescriptor yX2_lambda_whyNotStepped_0.desc).map (fun d => d.parameters.length) = some 1 by decide +kernel) q1176 (by decide +kernel) kl_ret lkd_7 lki_7 lkr_7 (Nat.zero_le _) hl.1 (Nat.le_of_ble_eq_true rfl) dX1_first_11 ⟨by first | exact Nat.le_of_ble_eq_true rfl | omega | (show _ ≤ _; omega) | (dsimp only [headSpec]; omega), by first | exact Nat.le_of_ble_eq_true rfl | omega | (show _ ≤ _; omega) | (dsimp only [headSpec]; omega)⟩ (Nat.le_of_ble_eq_true rfl) (Nat.le_of_ble_eq_true rfl)) hS (fun z_13 locs_10 hz_12 hS_11 => ?_)
      subst z_13
      refine kx_ifz (tgt := 23) hx hb dX1_first_16 (by decide) (fun c_16_14 => ?_) (fun c_16_14 => ?_)
      · -- taken at 16
        refine lv_iinc (v := kI (1)) (lv' := [(1, .int (kI (1))), (0, .ref aq)]) hx hb dX1_first_23 hl (k := 0) rfl (rfl) (by decide) rfl (fun ls hl => ?_)
        refine lv_goto (tgt := 2) hx hb dX1_first_26 (by decide) ?_
        refine lv_iload_n hx hb dX1_first_2 rfl (lv_at hl 0 rfl) ?_
        refine lv_aload_n hx hb dX1_first_3 rfl (lv_at hl 1 rfl) ?_
        refine kx_alen hx hb hK hA_aq rfl dX1_first_4 ?_
        refine kx_icmp_ge (x := 1) (y := ((5 : Nat) : Int)) (tgt := 29) hx hb dX1_first_5 (by decide) (by omega) (by omega) (by omega) (by omega) (fun c_5_15 => ?_) (fun c_5_15 => ?_)
        · -- taken at 5
          exfalso; omega
        · -- not taken at 5
          refine lv_aload_n hx hb dX1_first_8 rfl (lv_at hl 1 rfl) ?_
          refine lv_iload_n hx hb dX1_first_9 rfl (lv_at hl 0 rfl) ?_
          refine kx_aald hx hb hK (t := 5) rfl hA_aq 1 (rfl) (by omega) (by omega) dX1_first_10 ?_
          refine kx_eqq hx hb (b := r1) hg1 ?_
          refine kx_cFb0 (kl_S0 (i := 7) (σ := ls_8) (vals := [.ref (fA F ln)]) (rest := []) ⟨hx, hb, hml, hown, hts⟩ hK hS_11 hB hlk rfl rfl lk_8 List.mem_cons_self (by decide +kernel) (by decide +kernel) (by decide +kernel) rfl (by decide +kernel) hL_r1 rfl (m_X2_lambda_whyNotStepped_1 l D s.heap (fA F ln) (fP F ln) (fS F ln) ea_8 ((st_ln S ln)) ho_8 (by first | assumption | omega)) rfl (lw_meth q1701) rfl rfl q80 q1700 (show (parseMethodDescriptor yX2_lambda_whyNotStepped_1.desc).map (fun d => d.parameters.length) = some 1 by decide +kernel) q1176 (by decide +kernel) kl_ret lkd_8 lki_8 lkr_8 (Nat.zero_le _) hl.1 (Nat.le_of_ble_eq_true rfl) dX1_first_11 ⟨by first | exact Nat.le_of_ble_eq_true rfl | omega | (show _ ≤ _; omega) | (dsimp only [headSpec]; omega), by first | exact Nat.le_of_ble_eq_true rfl | omega | (show _ ≤ _; omega) | (dsimp only [headSpec]; omega)⟩ (Nat.le_of_ble_eq_true rfl) (Nat.le_of_ble_eq_true rfl)) hS_11 (fun z_19 locs_16 hz_18 hS_17 => ?_)
          subst z_19
          refine kx_ifz (tgt := 23) hx hb dX1_first_16 (by decide) (fun c_16_20 => ?_) (fun c_16_20 => ?_)
          · -- taken at 16
            have c_16_20 := of_decide_eq_false c_16_20
            refine lv_iinc (v := kI (2)) (lv' := [(1, .int (kI (2))), (0, .ref aq)]) hx hb dX1_first_23 hl (k := 0) rfl (rfl) (by decide) rfl (fun ls hl => ?_)
            refine lv_goto (tgt := 2) hx hb dX1_first_26 (by decide) ?_
            refine lv_iload_n hx hb dX1_first_2 rfl (lv_at hl 0 rfl) ?_
            refine lv_aload_n hx hb dX1_first_3 rfl (lv_at hl 1 rfl) ?_
            refine kx_alen hx hb hK hA_aq rfl dX1_first_4 ?_
            refine kx_icmp_ge (x := 2) (y := ((5 : Nat) : Int)) (tgt := 29) hx hb dX1_first_5 (by decide) (by omega) (by omega) (by omega) (by omega) (fun c_5_21 => ?_) (fun c_5_21 => ?_)
            · -- taken at 5
              exfalso; omega
            · -- not taken at 5
              refine lv_aload_n hx hb dX1_first_8 rfl (lv_at hl 1 rfl) ?_
              refine lv_iload_n hx hb dX1_first_9 rfl (lv_at hl 0 rfl) ?_
              refine kx_aald hx hb hK (t := 5) rfl hA_aq 2 (rfl) (by omega) (by omega) dX1_first_10 ?_
              refine kx_eqq hx hb (b := r2) hg2 ?_
              refine kx_cFb0 (kl_S0 (i := 8) (σ := ls_9) (vals := [.int (kI (nx (ln_end (st_ln S ln)) d))]) (rest := []) ⟨hx, hb, hml, hown, hts⟩ hK hS_17 hB hlk rfl rfl lk_9 List.mem_cons_self (by decide +kernel) (by decide +kernel) (by decide +kernel) rfl (by decide +kernel) hL_r2 rfl (m_X2_lambda_whyNotStepped_2 l D s.heap (nx (ln_end (st_ln S ln)) d)  (by first | assumption | omega)) rfl (lw_meth q1703) rfl rfl q80 q1702 (show (parseMethodDescriptor yX2_lambda_whyNotStepped_2.desc).map (fun d => d.parameters.length) = some 1 by decide +kernel) q1176 (by decide +kernel) kl_ret lkd_9 lki_9 lkr_9 (Nat.zero_le _) hl.1 (Nat.le_of_ble_eq_true rfl) dX1_first_11 ⟨by first | exact Nat.le_of_ble_eq_true rfl | omega | (show _ ≤ _; omega) | (dsimp only [headSpec]; omega), by first | exact Nat.le_of_ble_eq_true rfl | omega | (show _ ≤ _; omega) | (dsimp only [headSpec]; omega)⟩ (Nat.le_of_ble_eq_true rfl) (Nat.le_of_ble_eq_true rfl)) hS_17 (fun z_25 locs_22 hz_24 hS_23 => ?_)
              subst z_25
              refine kx_ifz (tgt := 23) hx hb dX1_first_16 (by decide) (fun c_16_26 => ?_) (fun c_16_26 => ?_)
              · -- taken at 16
                have c_16_26 := of_decide_eq_false c_16_26
                refine lv_iinc (v := kI (3)) (lv' := [(1, .int (kI (3))), (0, .ref aq)]) hx hb dX1_first_23 hl (k := 0) rfl (rfl) (by decide) rfl (fun ls hl => ?_)
                refine lv_goto (tgt := 2) hx hb dX1_first_26 (by decide) ?_
                refine lv_iload_n hx hb dX1_first_2 rfl (lv_at hl 0 rfl) ?_
                refine lv_aload_n hx hb dX1_first_3 rfl (lv_at hl 1 rfl) ?_
                refine kx_alen hx hb hK hA_aq rfl dX1_first_4 ?_
                refine kx_icmp_ge (x := 3) (y := ((5 : Nat) : Int)) (tgt := 29) hx hb dX1_first_5 (by decide) (by omega) (by omega) (by omega) (by omega) (fun c_5_27 => ?_) (fun c_5_27 => ?_)
                · -- taken at 5
                  exfalso; omega
                · -- not taken at 5
                  refine lv_aload_n hx hb dX1_first_8 rfl (lv_at hl 1 rfl) ?_
                  refine lv_iload_n hx hb dX1_first_9 rfl (lv_at hl 0 rfl) ?_
                  refine kx_aald hx hb hK (t := 5) rfl hA_aq 3 (rfl) (by omega) (by omega) dX1_first_10 ?_
                  refine kx_eqq hx hb (b := r3) hg3 ?_
                  refine kx_cFb0 (kl_V0 (i := 9) (σ := ls_10) (vals := [.int (kI (nx (ln_end (st_ln S ln)) d)), .ref (fA F ln)]) (b := st) (rest := []) ⟨hx, hb, hml, hown, hts⟩ hK hS_23 hB hlk rfl rfl lk_10 List.mem_cons_self (by decide +kernel) (by decide +kernel) (by decide +kernel) rfl (by decide +kernel) hL_r3 rfl (m_X2_lambda_whyNotStepped_3 l D s.heap st la mc ea F S gap ln (nx (ln_end (st_ln S ln)) d) hO_st hO_la hP_kLs_ea hP_kLn_F (by first | assumption | omega) (by first | assumption | omega) (by first | assumption | omega)) rfl (lw_meth q1706) rfl rfl q80 q1705 qs26 (kx_rc hK hO_st (C := RX2) (T := TX2) (N := 2) rfl) (show (parseMethodDescriptor yX2_lambda_whyNotStepped_3.desc).map (fun d => d.parameters.length) = some 2 by decide +kernel) q1176 (by decide +kernel) kl_ret lkd_10 lki_10 lkr_10 (Nat.zero_le _) hl.1 (Nat.le_of_ble_eq_true rfl) dX1_first_11 ⟨by first | exact Nat.le_of_ble_eq_true rfl | omega | (show _ ≤ _; omega) | (dsimp only [headSpec]; omega), by first | exact Nat.le_of_ble_eq_true rfl | omega | (show _ ≤ _; omega) | (dsimp only [headSpec]; omega)⟩ (Nat.le_of_ble_eq_true rfl) (Nat.le_of_ble_eq_true rfl)) hS_23 (fun z_31 locs_28 hz_30 hS_29 => ?_)
                  subst z_31
                  refine kx_ifz (tgt := 23) hx hb dX1_first_16 (by decide) (fun c_16_32 => ?_) (fun c_16_32 => ?_)
                  · -- taken at 16
                    refine lv_iinc (v := kI (4)) (lv' := [(1, .int (kI (4))), (0, .ref aq)]) hx hb dX1_first_23 hl (k := 0) rfl (rfl) (by decide) rfl (fun ls hl => ?_)
                    refine lv_goto (tgt := 2) hx hb dX1_first_26 (by decide) ?_
                    refine lv_iload_n hx hb dX1_first_2 rfl (lv_at hl 0 rfl) ?_
                    refine lv_aload_n hx hb dX1_first_3 rfl (lv_at hl 1 rfl) ?_
                    refine kx_alen hx hb hK hA_aq rfl dX1_first_4 ?_
                    refine kx_icmp_ge (x := 4) (y := ((5 : Nat) : Int)) (tgt := 29) hx hb dX1_first_5 (by decide) (by omega) (by omega) (by omega) (by omega) (fun c_5_33 => ?_) (fun c_5_33 => ?_)
                    · -- taken at 5
                      exfalso; omega
                    · -- not taken at 5
                      refine lv_aload_n hx hb dX1_first_8 rfl (lv_at hl 1 rfl) ?_
                      refine lv_iload_n hx hb dX1_first_9 rfl (lv_at hl 0 rfl) ?_
                      refine kx_aald hx hb hK (t := 5) rfl hA_aq 4 (rfl) (by omega) (by omega) dX1_first_10 ?_
                      refine kx_eqq hx hb (b := r4) hg4 ?_
                      refine kx_cFb0 (kl_V0 (i := 10) (σ := ls_11) (vals := [.ref (fA F ln), .int (kI (d))]) (b := st) (rest := []) ⟨hx, hb, hml, hown, hts⟩ hK hS_29 hB hlk rfl rfl lk_11 List.mem_cons_self (by decide +kernel) (by decide +kernel) (by decide +kernel) rfl (by decide +kernel) hL_r4 rfl (m_X2_lambda_whyNotStepped_4 l D s.heap st la mc ea F S gap ln d hO_st hO_la hP_kLs_ea hP_kLn_F (by first | assumption | omega) (by first | assumption | omega) (by first | assumption | omega)) rfl (lw_meth q1713) rfl rfl q80 q1712 qs27 (kx_rc hK hO_st (C := RX2) (T := TX2) (N := 2) rfl) (show (parseMethodDescriptor yX2_lambda_whyNotStepped_4.desc).map (fun d => d.parameters.length) = some 2 by decide +kernel) q1176 (by decide +kernel) kl_ret lkd_11 lki_11 lkr_11 (Nat.zero_le _) hl.1 (Nat.le_of_ble_eq_true rfl) dX1_first_11 ⟨by first | exact Nat.le_of_ble_eq_true rfl | omega | (show _ ≤ _; omega) | (dsimp only [headSpec]; omega), by first | exact Nat.le_of_ble_eq_true rfl | omega | (show _ ≤ _; omega) | (dsimp only [headSpec]; omega)⟩ (Nat.le_of_ble_eq_true rfl) (Nat.le_of_ble_eq_true rfl)) hS_29 (fun z_37 locs_34 hz_36 hS_35 => ?_)
                      subst z_37
                      refine kx_ifz (tgt := 23) hx hb dX1_first_16 (by decide) (fun c_16_38 => ?_) (fun c_16_38 => ?_)
                      · -- taken at 16
                        refine lv_iinc (v := kI (5)) (lv' := [(1, .int (kI (5))), (0, .ref aq)]) hx hb dX1_first_23 hl (k := 0) rfl (rfl) (by decide) rfl (fun ls hl => ?_)
                        refine lv_goto (tgt := 2) hx hb dX1_first_26 (by decide) ?_
                        refine lv_iload_n hx hb dX1_first_2 rfl (lv_at hl 0 rfl) ?_
                        refine lv_aload_n hx hb dX1_first_3 rfl (lv_at hl 1 rfl) ?_
                        refine kx_alen hx hb hK hA_aq rfl dX1_first_4 ?_
                        refine kx_icmp_ge (x := 5) (y := ((5 : Nat) : Int)) (tgt := 29) hx hb dX1_first_5 (by decide) (by omega) (by omega) (by omega) (by omega) (fun c_5_39 => ?_) (fun c_5_39 => ?_)
                        · -- taken at 5
                          refine kx_iconst hx hb dX1_first_29 ?_
                          exact kx_iret (z := 0) hx hb hr hlk (⟨rfl, by rw [st_whyNot_b]; repeat (first | rw [if_pos (by assumption)] | rw [if_neg (by assumption)] | rw [if_neg (by rw [Bool.not_eq_true]; assumption)]); try rfl⟩) hS_35 dX1_first_30
                        · -- not taken at 5
                          exfalso; omega
                      · -- not taken at 16
                        refine lv_iload_n hx hb dX1_first_19 rfl (lv_at hl 0 rfl) ?_
                        refine kx_iconst hx hb dX1_first_20 ?_
                        refine kx_iadd hx hb dX1_first_21 ?_
                        exact kx_iret (z := (4 + 1)) hx hb hr hlk (⟨rfl, by rw [st_whyNot_b]; repeat (first | rw [if_pos (by assumption)] | rw [if_neg (by assumption)] | rw [if_neg (by rw [Bool.not_eq_true]; assumption)]); try rfl⟩) hS_35 dX1_first_22
                  · -- not taken at 16
                    refine lv_iload_n hx hb dX1_first_19 rfl (lv_at hl 0 rfl) ?_
                    refine kx_iconst hx hb dX1_first_20 ?_
                    refine kx_iadd hx hb dX1_first_21 ?_
                    exact kx_iret (z := (3 + 1)) hx hb hr hlk (⟨rfl, by rw [st_whyNot_b]; repeat (first | rw [if_pos (by assumption)] | rw [if_neg (by assumption)] | rw [if_neg (by rw [Bool.not_eq_true]; assumption)]); try rfl⟩) hS_29 dX1_first_22
              · -- not taken at 16
                have c_16_26 := of_decide_eq_true c_16_26
                refine lv_iload_n hx hb dX1_first_19 rfl (lv_at hl 0 rfl) ?_
                refine kx_iconst hx hb dX1_first_20 ?_
                refine kx_iadd hx hb dX1_first_21 ?_
                exact kx_iret (z := (2 + 1)) hx hb hr hlk (⟨rfl, by rw [st_whyNot_b]; repeat (first | rw [if_pos (by assumption)] | rw [if_neg (by assumption)] | rw [if_neg (by rw [Bool.not_eq_true]; assumption)]); try rfl⟩) hS_23 dX1_first_22
          · -- not taken at 16
            have c_16_20 := of_decide_eq_true c_16_20
            refine lv_iload_n hx hb dX1_first_19 rfl (lv_at hl 0 rfl) ?_
            refine kx_iconst hx hb dX1_first_20 ?_
            refine kx_iadd hx hb dX1_first_21 ?_
            exact kx_iret (z := (1 + 1)) hx hb hr hlk (⟨rfl, by rw [st_whyNot_b]; repeat (first | rw [if_pos (by assumption)] | rw [if_neg (by assumption)] | rw [if_neg (by rw [Bool.not_eq_true]; assumption)]); try rfl⟩) hS_17 dX1_first_22
      · -- not taken at 16
        exact absurd c_16_14 (by decide)

set_option maxHeartbeats 4000000 in
set_option maxRecDepth 100000 in
theorem m_X2_whyNotStepped (l : Launch) (D : kG) (H : Heap) (st : Nat) (la : Nat) (mc : Int) (ea : Nat) (F : Fts) (S : Ls) (gap : Int) (ln : Nat) (d : Int) (hO_st : kO D H st 1 [.ref la, .int (kI (gap))]) (hO_la : kO D H la 9 [.int (kI (mc)), .ref ea, .int (kI ((S.length : Nat) : Int))]) (hP_kLs_ea : kLs D H ea S.length F) (hP_kLn_F : kLn D H F S) (hok : LsOK S gap) (hln : ln < S.length) (hd : 0 ≤ d ∧ d ≤ 7) : Met l yX2_whyNotStepped (ws_ yX2_whyNotStepped cX2_whyNotStepped 6 (some .int)) ({ frames := 7, cells := 6, slots := 14, locals := 3100 } : Room) (kPre D H [.ref st, .int (kI ((ln : Nat) : Int)), .int (kI (d))]) (kQi (fun (r : Int) H' => (r = st_whyNot S ln d) ∧ (True)) (kNW H)) (6) (14) ((kNW H)) := by
  refine Met.ofW (cc := cX2_whyNotStepped) (maxL := 6) (ret := (some .int)) (by decide) rfl ?_
  intro p e s m args below meth c s₁ B hml hv
  obtain ⟨rfl, hH, hK⟩ := hv
  subst hH
  have hx := B.exec
  have hb := B.bytes
  have hr := B.returns
  have hts := atoms_spec (ws := ws_ yX2_whyNotStepped cX2_whyNotStepped 6 (some .int)) B.pre
  have hts : ∀ w ∈ lw_all, w.before _ s = true := fun w h => hts w (List.mem_cons_of_mem _ h)
  have hown : s.vm.findClass RX2 = some m.cls := findClass_of_methodNamed B.named
  have hlk := B.notSynchronized
  have hS : va_S (kNW s.heap) s.heap s.heap [] := va_S.rf
  have hB : ∀ q, (kNW s.heap) q → kBase D ≤ q := fun q h => Nat.le_trans hK.size h
  have hl := lv_entry ([.ref st, .int (kI ((ln : Nat) : Int)), .int (kI (d))]) (n := 6) (Nat.le_of_ble_eq_true rfl)
  rw [lg_entry_eq]
  generalize (lg_sl ([.ref st, .int (kI ((ln : Nat) : Int)), .int (kI (d))]) ++ List.replicate (6 - (lg_sl ([.ref st, .int (kI ((ln : Nat) : Int)), .int (kI (d))])).length) Slot.unset).toArray = ls at hl ⊢
  have hl : lv_has ls 6 [(0, .ref st), (1, .int (kI ((ln : Nat) : Int))), (2, .int (kI (d)))] := hl
  have hL8 := hok.1
  have hpe : 0 ≤ ln_end (st_ln S ln) ∧ ln_end (st_ln S ln) ≤ 383 := (hok.ln hln).pos (k := ln_n (st_ln S ln)) (Nat.le_refl _)
  have hnx : -1 ≤ nx (ln_end (st_ln S ln)) d ∧ nx (ln_end (st_ln S ln)) d ≤ 383 := by by_cases h9 : nx (ln_end (st_ln S ln)) d = -1; omega; (have := nx_ok hpe h9; omega)
  refine lv_aload_n hx hb dX2_whyNotStepped_0 rfl (lv_at hl 0 rfl) ?_
  refine kx_get (v := .ref la) (C := RX2) (T := TX2) (N := 2) hx hb hts in_X2 hown hK hO_st rfl 0 (by decide) q167 (fun _ h9 => h9) rfl dX2_whyNotStepped_1 ?_
  refine lv_iload_n hx hb dX2_whyNotStepped_4 rfl (lv_at hl 1 rfl) ?_
  refine kx_cFr0 (va_runF (C := RJ2) (As := [.int (kI ((ln : Nat) : Int))]) (rest := []) (hK.at (ci := 9) rfl) ⟨hx, hb, hml, hown, hts⟩ (m_get l D s.heap la mc ea S.length F ln hO_la hP_kLs_ea (by first | assumption | omega)) (va_cwF (x := ({ cls := "java/util/List", name := "get", desc := "(I)Ljava/lang/Object;" } : Jvm.MethodName)) 1 hts (lw_F q289 q292 q294 q83 q296) rfl rfl rfl (hK.fw (by decide)) (by decide +kernel) ⟨Nat.le_of_ble_eq_true rfl, Nat.le_of_ble_eq_true rfl⟩) (kx_pv hK hS hB (kx_rc hK hO_la (C := RJ2) (T := TJ2) (N := 3) rfl)) rfl rfl hl.1 rfl (lv_room (Nat.le_of_ble_eq_true rfl)) dX2_whyNotStepped_5 ⟨by first | exact Nat.le_of_ble_eq_true rfl | omega | (show _ ≤ _; omega) | (dsimp only [headSpec]; omega), by first | exact Nat.le_of_ble_eq_true rfl | omega | (show _ ≤ _; omega) | (dsimp only [headSpec]; omega)⟩) hS (fun z_4 locs_1 hz_3 hS_2 => ?_)
  subst z_4
  obtain ⟨ea_5, gp_5, gs_5, ho_5, hp_5, hs_5, he_5, hm_5⟩ := (hP_kLn_F ln (hln))
  refine kx_castS hx hb hts hown q307 hK ho_5 rfl dX2_whyNotStepped_10 ?_
  refine lv_astore_n (lv' := [(3, .ref (fA F ln)), (0, .ref st), (1, .int (kI ((ln : Nat) : Int))), (2, .int (kI (d)))]) hx hb dX2_whyNotStepped_13 rfl hl (by decide) rfl (fun ls hl => ?_)
  refine lv_aload_n hx hb dX2_whyNotStepped_14 rfl (lv_at hl 0 rfl) ?_
  refine kx_ci0 (va_runV (As := []) (rest := []) ⟨hx, hb, hml, hown, hts⟩ (m_X4_end l D s.heap (fA F ln) (fP F ln) (fS F ln) ea_5 gp_5 gs_5 ((st_ln S ln)) ho_5 hp_5 hs_5 (by first | assumption | omega) ((hok.ln (by omega : ln < S.length)))) (cwV 0 hts (lw_V q1682 q1683 q1684 q99 q1685) rfl rfl rfl (by decide +kernel) ⟨Nat.le_of_ble_eq_true rfl, Nat.le_of_ble_eq_true rfl⟩) (kx_pv hK hS_2 hB (kx_rc hK ho_5 (C := RX4) (T := TX4) (N := 6) rfl)) rfl rfl hl.1 rfl (lv_room (Nat.le_of_ble_eq_true rfl)) dX2_whyNotStepped_15 ⟨by first | exact Nat.le_of_ble_eq_true rfl | omega | (show _ ≤ _; omega) | (dsimp only [headSpec]; omega), by first | exact Nat.le_of_ble_eq_true rfl | omega | (show _ ≤ _; omega) | (dsimp only [headSpec]; omega)⟩) hS_2 (fun z_9 locs_6 hz_8 hS_7 => ?_)
  subst z_9
  refine lv_iload_n hx hb dX2_whyNotStepped_18 rfl (lv_at hl 3 rfl) ?_
  refine kx_ci0 (va_runSN (As := [.int (kI (ln_end (st_ln S ln))), .int (kI (d))]) (rest := []) ⟨hx, hb, hml, hown, hts⟩ (m_X1_next l D s.heap (ln_end (st_ln S ln)) d  (by omega) (by first | assumption | omega)) ⟨va_cnB 2 hts (lw_meth q1688) rfl rfl rfl (hK.w q1686 rfl) (hts _ q79) (by decide +kernel) ⟨Nat.le_of_ble_eq_true rfl, Nat.le_of_ble_eq_true rfl⟩, hts _ q1687, trivial⟩ (kx_ps hK hS_7 hB) rfl rfl hl.1 rfl (lv_room (Nat.le_of_ble_eq_true rfl)) dX2_whyNotStepped_19 ⟨by first | exact Nat.le_of_ble_eq_true rfl | omega | (show _ ≤ _; omega) | (dsimp only [headSpec]; omega), by first | exact Nat.le_of_ble_eq_true rfl | omega | (show _ ≤ _; omega) | (dsimp only [headSpec]; omega)⟩) hS_7 (fun z_13 locs_10 hz_12 hS_11 => ?_)
  subst z_13
  refine lv_istore (lv' := [(4, .int (kI (nx (ln_end (st_ln S ln)) d))), (3, .ref (fA F ln)), (0, .ref st), (1, .int (kI ((ln : Nat) : Int))), (2, .int (kI (d)))]) hx hb dX2_whyNotStepped_22 hl (by decide) rfl (fun ls hl => ?_)
  refine kx_iconst hx hb dX2_whyNotStepped_24 ?_
  refine kx_anew (t := 5) (N' := 5) hx hb hts hown q1072 hK (by decide) rfl hS_11 (by first | rfl | omega) (by omega) (by first | exact Nat.le_of_ble_eq_true rfl | omega | (show _ ≤ _; omega) | (dsimp only [headSpec]; omega)) (by first | exact Nat.le_of_ble_eq_true rfl | omega | (show _ ≤ _; omega) | (dsimp only [headSpec]; omega)) dX2_whyNotStepped_25 (fun arq H_14 hq_15 hz_16 hA_17 hE_18 hS_19 => ?_)
  have hge_arq : s.heap.size ≤ arq := by rw [hq_15]; exact hS_11.1
  refine W.widen (k := 1) (n := 5) (Nat.le_of_ble_eq_true rfl) (Nat.le_of_ble_eq_true rfl) ?_
  refine lv_dup hx hb dX2_whyNotStepped_28 rfl ?_
  refine kx_iconst hx hb dX2_whyNotStepped_29 ?_
  refine lv_aload_n hx hb dX2_whyNotStepped_30 rfl (lv_at hl 1 rfl) ?_
  refine kx_lam (i := 6) (σ := ls_7) (vals := [.ref (fA F ln)]) (rest := [.int (kI (0)), .ref arq, .ref arq]) hx hb hml hl.1 hts hK B.named rfl (by decide) rfl lk_7 hS_19 rfl (fun z hz => by have hz : z ∈ [((.object "ContourLabels$Line" : FieldType), (.ref (fA F ln) : Value))] := hz; simp only [List.mem_cons, List.not_mem_nil, or_false] at hz; rcases hz with rfl <;> exact ⟨rfl, rfl⟩) (by first | exact Nat.le_of_ble_eq_true rfl | omega | (show _ ≤ _; omega) | (dsimp only [headSpec]; omega)) (by first | exact Nat.le_of_ble_eq_true rfl | omega | (show _ ≤ _; omega) | (dsimp only [headSpec]; omega)) (by first | exact Nat.le_of_ble_eq_true rfl | omega | (show _ ≤ _; omega) | (dsimp only [headSpec]; omega)) dX2_whyNotStepped_31 (fun rn0 H_20 hq_21 hz_22 hL_23 hE_24 hS_25 => ?_)
  have hge_rn0 : s.heap.size ≤ rn0 := by rw [hq_21]; exact hS_19.1
  refine W.widen (k := 2) (n := 6) (Nat.le_of_ble_eq_true rfl) (Nat.le_of_ble_eq_true rfl) ?_
  have h_26 := hA_17.ex hE_24
  refine kx_aastL hx hb hK (t := 5) rfl h_26 hS_25 (by have := hS.1; first | (show _ ≤ _; omega) | omega) 0 (rfl) (by omega) (by omega) hL_23 (q := _) rfl rfl dX2_whyNotStepped_36 (fun H_29 locs_30 hA_28 hU_27 hS_31 => ?_)
  have hzu_32 := hU_27.1
  refine lv_dup hx hb dX2_whyNotStepped_37 rfl ?_
  refine kx_iconst hx hb dX2_whyNotStepped_38 ?_
  refine lv_aload_n hx hb dX2_whyNotStepped_39 rfl (lv_at hl 1 rfl) ?_
  refine kx_lam (i := 7) (σ := ls_8) (vals := [.ref (fA F ln)]) (rest := [.int (kI (1)), .ref arq, .ref arq]) hx hb hml hl.1 hts hK B.named rfl (by decide) rfl lk_8 hS_31 rfl (fun z hz => by have hz : z ∈ [((.object "ContourLabels$Line" : FieldType), (.ref (fA F ln) : Value))] := hz; simp only [List.mem_cons, List.not_mem_nil, or_false] at hz; rcases hz with rfl <;> exact ⟨rfl, rfl⟩) (by first | exact Nat.le_of_ble_eq_true rfl | omega | (show _ ≤ _; omega) | (dsimp only [headSpec]; omega)) (by first | exact Nat.le_of_ble_eq_true rfl | omega | (show _ ≤ _; omega) | (dsimp only [headSpec]; omega)) (by first | exact Nat.le_of_ble_eq_true rfl | omega | (show _ ≤ _; omega) | (dsimp only [headSpec]; omega)) dX2_whyNotStepped_40 (fun rn1 H_33 hq_34 hz_35 hL_36 hE_37 hS_38 => ?_)
  have hge_rn1 : s.heap.size ≤ rn1 := by rw [hq_34]; exact hS_31.1
  refine W.widen (k := 3) (n := 7) (Nat.le_of_ble_eq_true rfl) (Nat.le_of_ble_eq_true rfl) ?_
  have h_39 := hA_28.ex hE_37
  refine kx_aastL hx hb hK (t := 5) rfl h_39 hS_38 (by first | rfl | exact Or.inl rfl | exact Or.inr rfl | exact Or.inr (Or.inl rfl) | exact Or.inr (Or.inr rfl) | exact Or.inr (Or.inr (Or.inl rfl)) | exact Or.inr (Or.inr (Or.inr rfl)) | ((try dsimp only); (try simp only [kNW]); omega)) 1 (rfl) (by omega) (by omega) hL_36 (q := _) rfl rfl dX2_whyNotStepped_45 (fun H_42 locs_43 hA_41 hU_40 hS_44 => ?_)
  have hzu_45 := hU_40.1
  refine lv_dup hx hb dX2_whyNotStepped_46 rfl ?_
  refine kx_iconst hx hb dX2_whyNotStepped_47 ?_
  refine lv_iload hx hb dX2_whyNotStepped_48 (lv_at hl 0 rfl) ?_
  refine kx_lam (i := 8) (σ := ls_9) (vals := [.int (kI (nx (ln_end (st_ln S ln)) d))]) (rest := [.int (kI (2)), .ref arq, .ref arq]) hx hb hml hl.1 hts hK B.named rfl (by decide) rfl lk_9 hS_44 rfl (fun z hz => by have hz : z ∈ [((.int : FieldType), (.int (kI (nx (ln_end (st_ln S ln)) d)) : Value))] := hz; simp only [List.mem_cons, List.not_mem_nil, or_false] at hz; rcases hz with rfl <;> exact ⟨rfl, rfl⟩) (by first | exact Nat.le_of_ble_eq_true rfl | omega | (show _ ≤ _; omega) | (dsimp only [headSpec]; omega)) (by first | exact Nat.le_of_ble_eq_true rfl | omega | (show _ ≤ _; omega) | (dsimp only [headSpec]; omega)) (by first | exact Nat.le_of_ble_eq_true rfl | omega | (show _ ≤ _; omega) | (dsimp only [headSpec]; omega)) dX2_whyNotStepped_50 (fun rn2 H_46 hq_47 hz_48 hL_49 hE_50 hS_51 => ?_)
  have hge_rn2 : s.heap.size ≤ rn2 := by rw [hq_47]; exact hS_44.1
  refine W.widen (k := 4) (n := 8) (Nat.le_of_ble_eq_true rfl) (Nat.le_of_ble_eq_true rfl) ?_
  have h_52 := hA_41.ex hE_50
  refine kx_aastL hx hb hK (t := 5) rfl h_52 hS_51 (by first | rfl | exact Or.inl rfl | exact Or.inr rfl | exact Or.inr (Or.inl rfl) | exact Or.inr (Or.inr rfl) | exact Or.inr (Or.inr (Or.inl rfl)) | exact Or.inr (Or.inr (Or.inr rfl)) | ((try dsimp only); (try simp only [kNW]); omega)) 2 (rfl) (by omega) (by omega) hL_49 (q := _) rfl rfl dX2_whyNotStepped_55 (fun H_55 locs_56 hA_54 hU_53 hS_57 => ?_)
  have hzu_58 := hU_53.1
  refine lv_dup hx hb dX2_whyNotStepped_56 rfl ?_
  refine kx_iconst hx hb dX2_whyNotStepped_57 ?_
  refine lv_aload_n hx hb dX2_whyNotStepped_58 rfl (lv_at hl 2 rfl) ?_
  refine lv_iload hx hb dX2_whyNotStepped_59 (lv_at hl 0 rfl) ?_
  refine lv_aload_n hx hb dX2_whyNotStepped_61 rfl (lv_at hl 1 rfl) ?_
  refine kx_lam (i := 9) (σ := ls_10) (vals := [.ref st, .int (kI (nx (ln_end (st_ln S ln)) d)), .ref (fA F ln)]) (rest := [.int (kI (3)), .ref arq, .ref arq]) hx hb hml hl.1 hts hK B.named rfl (by decide) rfl lk_10 hS_57 rfl (fun z hz => by have hz : z ∈ [((.object "ContourLabels$State" : FieldType), (.ref st : Value)), ((.int : FieldType), (.int (kI (nx (ln_end (st_ln S ln)) d)) : Value)), ((.object "ContourLabels$Line" : FieldType), (.ref (fA F ln) : Value))] := hz; simp only [List.mem_cons, List.not_mem_nil, or_false] at hz; rcases hz with rfl | rfl | rfl <;> exact ⟨rfl, rfl⟩) (by first | exact Nat.le_of_ble_eq_true rfl | omega | (show _ ≤ _; omega) | (dsimp only [headSpec]; omega)) (by first | exact Nat.le_of_ble_eq_true rfl | omega | (show _ ≤ _; omega) | (dsimp only [headSpec]; omega)) (by first | exact Nat.le_of_ble_eq_true rfl | omega | (show _ ≤ _; omega) | (dsimp only [headSpec]; omega)) dX2_whyNotStepped_62 (fun rn3 H_59 hq_60 hz_61 hL_62 hE_63 hS_64 => ?_)
  have hge_rn3 : s.heap.size ≤ rn3 := by rw [hq_60]; exact hS_57.1
  refine W.widen (k := 5) (n := 11) (Nat.le_of_ble_eq_true rfl) (Nat.le_of_ble_eq_true rfl) ?_
  have h_65 := hA_54.ex hE_63
  refine kx_aastL hx hb hK (t := 5) rfl h_65 hS_64 (by first | rfl | exact Or.inl rfl | exact Or.inr rfl | exact Or.inr (Or.inl rfl) | exact Or.inr (Or.inr rfl) | exact Or.inr (Or.inr (Or.inl rfl)) | exact Or.inr (Or.inr (Or.inr rfl)) | ((try dsimp only); (try simp only [kNW]); omega)) 3 (rfl) (by omega) (by omega) hL_62 (q := _) rfl rfl dX2_whyNotStepped_67 (fun H_68 locs_69 hA_67 hU_66 hS_70 => ?_)
  have hzu_71 := hU_66.1
  refine lv_dup hx hb dX2_whyNotStepped_68 rfl ?_
  refine kx_iconst hx hb dX2_whyNotStepped_69 ?_
  refine lv_aload_n hx hb dX2_whyNotStepped_70 rfl (lv_at hl 2 rfl) ?_
  refine lv_aload_n hx hb dX2_whyNotStepped_71 rfl (lv_at hl 1 rfl) ?_
  refine lv_iload_n hx hb dX2_whyNotStepped_72 rfl (lv_at hl 4 rfl) ?_
  refine kx_lam (i := 10) (σ := ls_11) (vals := [.ref st, .ref (fA F ln), .int (kI (d))]) (rest := [.int (kI (4)), .ref arq, .ref arq]) hx hb hml hl.1 hts hK B.named rfl (by decide) rfl lk_11 hS_70 rfl (fun z hz => by have hz : z ∈ [((.object "ContourLabels$State" : FieldType), (.ref st : Value)), ((.object "ContourLabels$Line" : FieldType), (.ref (fA F ln) : Value)), ((.int : FieldType), (.int (kI (d)) : Value))] := hz; simp only [List.mem_cons, List.not_mem_nil, or_false] at hz; rcases hz with rfl | rfl | rfl <;> exact ⟨rfl, rfl⟩) (by first | exact Nat.le_of_ble_eq_true rfl | omega | (show _ ≤ _; omega) | (dsimp only [headSpec]; omega)) (by first | exact Nat.le_of_ble_eq_true rfl | omega | (show _ ≤ _; omega) | (dsimp only [headSpec]; omega)) (by first | exact Nat.le_of_ble_eq_true rfl | omega | (show _ ≤ _; omega) | (dsimp only [headSpec]; omega)) dX2_whyNotStepped_73 (fun rn4 H_72 hq_73 hz_74 hL_75 hE_76 hS_77 => ?_)
  have hge_rn4 : s.heap.size ≤ rn4 := by rw [hq_73]; exact hS_70.1
  refine W.widen (k := 6) (n := 14) (Nat.le_of_ble_eq_true rfl) (Nat.le_of_ble_eq_true rfl) ?_
  have h_78 := hA_67.ex hE_76
  refine kx_aastL hx hb hK (t := 5) rfl h_78 hS_77 (by first | rfl | exact Or.inl rfl | exact Or.inr rfl | exact Or.inr (Or.inl rfl) | exact Or.inr (Or.inr rfl) | exact Or.inr (Or.inr (Or.inl rfl)) | exact Or.inr (Or.inr (Or.inr rfl)) | ((try dsimp only); (try simp only [kNW]); omega)) 4 (rfl) (by omega) (by omega) hL_75 (q := _) rfl rfl dX2_whyNotStepped_78 (fun H_81 locs_82 hA_80 hU_79 hS_83 => ?_)
  have hzu_84 := hU_79.1
  refine lv_astore (lv' := [(5, .ref arq), (4, .int (kI (nx (ln_end (st_ln S ln)) d))), (3, .ref (fA F ln)), (0, .ref st), (1, .int (kI ((ln : Nat) : Int))), (2, .int (kI (d)))]) hx hb dX2_whyNotStepped_79 hl (by decide) rfl (fun ls hl => ?_)
  refine lv_aload hx hb dX2_whyNotStepped_81 (lv_at hl 0 rfl) ?_
  have h_85 := hL_23.up hU_27 (by first | assumption | exact Ne.symm (by assumption) | omega | (have h9 := hL_23.lt; omega))
  have h_86 := h_85.ex hE_37
  have h_87 := h_86.up hU_40 (by first | assumption | exact Ne.symm (by assumption) | omega | (have h9 := h_86.lt; omega))
  have h_88 := h_87.ex hE_50
  have h_89 := h_88.up hU_53 (by first | assumption | exact Ne.symm (by assumption) | omega | (have h9 := h_88.lt; omega))
  have h_90 := h_89.ex hE_63
  have h_91 := h_90.up hU_66 (by first | assumption | exact Ne.symm (by assumption) | omega | (have h9 := h_90.lt; omega))
  have h_92 := h_91.ex hE_76
  have h_93 := h_92.up hU_79 (by first | assumption | exact Ne.symm (by assumption) | omega | (have h9 := h_92.lt; omega))
  have h_94 := hL_36.up hU_40 (by first | assumption | exact Ne.symm (by assumption) | omega | (have h9 := hL_36.lt; omega))
  have h_95 := h_94.ex hE_50
  have h_96 := h_95.up hU_53 (by first | assumption | exact Ne.symm (by assumption) | omega | (have h9 := h_95.lt; omega))
  have h_97 := h_96.ex hE_63
  have h_98 := h_97.up hU_66 (by first | assumption | exact Ne.symm (by assumption) | omega | (have h9 := h_97.lt; omega))
  have h_99 := h_98.ex hE_76
  have h_100 := h_99.up hU_79 (by first | assumption | exact Ne.symm (by assumption) | omega | (have h9 := h_99.lt; omega))
  have h_101 := hL_49.up hU_53 (by first | assumption | exact Ne.symm (by assumption) | omega | (have h9 := hL_49.lt; omega))
  have h_102 := h_101.ex hE_63
  have h_103 := h_102.up hU_66 (by first | assumption | exact Ne.symm (by assumption) | omega | (have h9 := h_102.lt; omega))
  have h_104 := h_103.ex hE_76
  have h_105 := h_104.up hU_79 (by first | assumption | exact Ne.symm (by assumption) | omega | (have h9 := h_104.lt; omega))
  have h_106 := hL_62.up hU_66 (by first | assumption | exact Ne.symm (by assumption) | omega | (have h9 := hL_62.lt; omega))
  have h_107 := h_106.ex hE_76
  have h_108 := h_107.up hU_79 (by first | assumption | exact Ne.symm (by assumption) | omega | (have h9 := h_107.lt; omega))
  have h_109 := hL_75.up hU_79 (by first | assumption | exact Ne.symm (by assumption) | omega | (have h9 := hL_75.lt; omega))
  have h_110 := hO_st.ex (va_S.ex hS_83)
  have h_111 := hO_la.ex (va_S.ex hS_83)
  have h_112 := hP_kLs_ea.ex (va_S.ex hS_83)
  have h_113 := hP_kLn_F.ex (va_S.ex hS_83)
  refine kx_ci0 (va_runSN (As := [.ref arq]) (rest := []) ⟨hx, hb, hml, hown, hts⟩ (m_first_s l D H_81 arq (kupq (kupq (kupq (kupq (kupq ((fun _ => none)) 0 (some rn0)) 1 (some rn1)) 2 (some rn2)) 3 (some rn3)) 4 (some rn4)) rn0 rn1 rn2 rn3 rn4 st la mc ea F S gap ln d hA_80 h_93 h_100 h_105 h_108 h_109 h_110 h_111 h_112 h_113 (by first | assumption | omega) (by first | assumption | omega) (by first | assumption | omega) (by simp [kupq]) (by simp [kupq]) (by simp [kupq]) (by simp [kupq]) (by simp [kupq])) ⟨va_cnB 1 hts (lw_meth q1174) rfl rfl rfl (hK.w q1172 rfl) (hts _ q79) (by decide +kernel) ⟨Nat.le_of_ble_eq_true rfl, Nat.le_of_ble_eq_true rfl⟩, hts _ q1173, trivial⟩ (kx_ps hK hS_83 hB) rfl rfl hl.1 rfl (lv_room (Nat.le_of_ble_eq_true rfl)) dX2_whyNotStepped_83 ⟨by first | exact Nat.le_of_ble_eq_true rfl | omega | (show _ ≤ _; omega) | (dsimp only [headSpec]; omega), by first | exact Nat.le_of_ble_eq_true rfl | omega | (show _ ≤ _; omega) | (dsimp only [headSpec]; omega)⟩) hS_83 (fun z_117 locs_114 hz_116 hS_115 => ?_)
  subst z_117
  exact kx_iret (z := st_whyNot S ln d) hx hb hr hlk (⟨by rfl, by first | assumption | rfl | omega | grind⟩) hS_115 dX2_whyNotStepped_86

