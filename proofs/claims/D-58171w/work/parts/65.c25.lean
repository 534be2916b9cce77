/-! MATH 42 -/
theorem st_whyL_b (S : Ls) (gap : Int) (l p : Nat) : st_whyL S gap l p = if (!ln_isPlace (st_ln S l) p) = true then 1 else if ln_bends (st_ln S l) p > 1 then 2 else if ln_stands (st_ln S l) p = true then 3 else if st_free S l p < gap then 4 else 0 := by
  unfold st_whyL
  simp only [Bool.not_eq_true']
set_option maxHeartbeats 4000000 in
set_option maxRecDepth 100000 in
theorem m_whl0_o (l : Launch) (D : kG) (H : Heap) (a : Nat) (pa : Nat) (sa : Nat) (ea : Nat) (gp : Nat → Int) (gs : Nat → Int) (L : Ln) (pl : Nat) (hO_a : kO D H a 3 [.int (kI (ln_lv L)), .ref pa, .ref sa, .int (kI ((ln_n L : Nat) : Int)), .ref ea, .int (kI (ln_lb L))]) (hA_pa : kAi D H pa 61 gp) (hA_sa : kAi D H sa 60 gs) (hO_ea : kO D H ea 4 []) (hM : MLn gp gs L) (hok : LnOK L) (hpl : pl ≤ ln_n L) (hcl : ln_cl L = false) : Met l yX2_lambda_whyNotLabelled_5 (ws_ yX2_lambda_whyNotLabelled_5 cX2_lambda_whyNotLabelled_5 2 (some .boolean)) ({ frames := 3, cells := 0, slots := 0, locals := 62 } : Room) (kPre D H [.ref a, .int (kI ((pl : Nat) : Int))]) (kQb (fun (r : Bool) H' => H' = H ∧ r = (!ln_isPlace L (pl : Int))) kNO) (0) (0) (kNO) := by
  refine Met.ofW (cc := cX2_lambda_whyNotLabelled_5) (maxL := 2) (ret := (some .boolean)) (by decide) rfl ?_
  intro p e s m args below meth c s₁ B hml hv
  obtain ⟨rfl, hH, hK⟩ := hv
  subst hH
  have hx := B.exec
  have hb := B.bytes
  have hr := B.returns
  have hts := atoms_spec (ws := ws_ yX2_lambda_whyNotLabelled_5 cX2_lambda_whyNotLabelled_5 2 (some .boolean)) B.pre
  have hts : ∀ w ∈ lw_all, w.before _ s = true := fun w h => hts w (List.mem_cons_of_mem _ h)
  have hown : s.vm.findClass RX2 = some m.cls := findClass_of_methodNamed B.named
  have hlk := B.notSynchronized
  have hS : va_S kNO s.heap s.heap [] := va_S.rf
  have hB : ∀ q, kNO q → kBase D ≤ q := fun _ h => h.elim
  have hl := lv_entry ([.ref a, .int (kI ((pl : Nat) : Int))]) (n := 2) (Nat.le_of_ble_eq_true rfl)
  rw [lg_entry_eq]
  generalize (lg_sl ([.ref a, .int (kI ((pl : Nat) : Int))]) ++ List.replicate (2 - (lg_sl ([.ref a, .int (kI ((pl : Nat) : Int))])).length) Slot.unset).toArray = ls at hl ⊢
  have hl : lv_has ls 2 [(0, .ref a), (1, .int (kI ((pl : Nat) : Int)))] := hl
  have hL60 := hok.n
  have hlb := hok.lbr
  have hlv := hok.lv
  have hsz := ln_size_23 L
  refine lv_aload_n hx hb dX2_lambda_whyNotLabelled_5_0 rfl (lv_at hl 0 rfl) ?_
  refine lv_iload_n hx hb dX2_lambda_whyNotLabelled_5_1 rfl (lv_at hl 1 rfl) ?_
  refine kx_cb0 (va_runV (As := [.int (kI ((pl : Nat) : Int))]) (rest := []) ⟨hx, hb, hml, hown, hts⟩ (m_hasPlace_o l D s.heap a pa sa ea gp gs L pl hO_a hA_pa hA_sa hO_ea (by first | assumption | omega) (by first | assumption | omega) (by first | assumption | omega) (by first | assumption | omega)) (cwV 1 hts (lw_V q1076 q1077 q1078 q99 q1079) rfl rfl rfl (by decide +kernel) ⟨Nat.le_of_ble_eq_true rfl, Nat.le_of_ble_eq_true rfl⟩) (kx_pv hK hS hB (kx_rc hK hO_a (C := RX4) (T := TX4) (N := 6) rfl)) rfl rfl hl.1 rfl (lv_room (Nat.le_of_ble_eq_true rfl)) dX2_lambda_whyNotLabelled_5_2 ⟨by first | exact Nat.le_of_ble_eq_true rfl | omega | (show _ ≤ _; omega) | (dsimp only [headSpec]; omega), by first | exact Nat.le_of_ble_eq_true rfl | omega | (show _ ≤ _; omega) | (dsimp only [headSpec]; omega)⟩) hS (fun z_4 locs_1 hz_3 hS_2 => ?_)
  subst z_4
  refine kx_ifnz (tgt := 12) hx hb dX2_lambda_whyNotLabelled_5_5 (by decide) (fun c_5_5 => ?_) (fun c_5_5 => ?_)
  · -- taken at 5
    refine kx_iconst hx hb dX2_lambda_whyNotLabelled_5_12 ?_
    exact kx_zret (z := false) hx hb hr hlk (⟨rfl, by simp [*]⟩) hS_2 dX2_lambda_whyNotLabelled_5_13
  · -- not taken at 5
    refine kx_iconst hx hb dX2_lambda_whyNotLabelled_5_8 ?_
    refine lv_goto (tgt := 13) hx hb dX2_lambda_whyNotLabelled_5_9 (by decide) ?_
    exact kx_zret (z := true) hx hb hr hlk (⟨rfl, by simp [*]⟩) hS_2 dX2_lambda_whyNotLabelled_5_13

set_option maxHeartbeats 4000000 in
set_option maxRecDepth 100000 in
theorem m_whl1_o (l : Launch) (D : kG) (H : Heap) (a : Nat) (pa : Nat) (sa : Nat) (ea : Nat) (gp : Nat → Int) (gs : Nat → Int) (L : Ln) (pl : Nat) (hO_a : kO D H a 3 [.int (kI (ln_lv L)), .ref pa, .ref sa, .int (kI ((ln_n L : Nat) : Int)), .ref ea, .int (kI (ln_lb L))]) (hA_pa : kAi D H pa 61 gp) (hA_sa : kAi D H sa 60 gs) (hO_ea : kO D H ea 4 []) (hM : MLn gp gs L) (hok : LnOK L) (hpl : pl ≤ ln_n L) (hcl : ln_cl L = false) : Met l yX2_lambda_whyNotLabelled_6 (ws_ yX2_lambda_whyNotLabelled_6 cX2_lambda_whyNotLabelled_6 2 (some .boolean)) ({ frames := 3, cells := 0, slots := 0, locals := 66 } : Room) (kPre D H [.ref a, .int (kI ((pl : Nat) : Int))]) (kQb (fun (r : Bool) H' => H' = H ∧ r = decide (ln_bends L (pl : Int) > 1)) kNO) (0) (0) (kNO) := by
  refine Met.ofW (cc := cX2_lambda_whyNotLabelled_6) (maxL := 2) (ret := (some .boolean)) (by decide) rfl ?_
  intro p e s m args below meth c s₁ B hml hv
  obtain ⟨rfl, hH, hK⟩ := hv
  subst hH
  have hx := B.exec
  have hb := B.bytes
  have hr := B.returns
  have hts := atoms_spec (ws := ws_ yX2_lambda_whyNotLabelled_6 cX2_lambda_whyNotLabelled_6 2 (some .boolean)) B.pre
  have hts : ∀ w ∈ lw_all, w.before _ s = true := fun w h => hts w (List.mem_cons_of_mem _ h)
  have hown : s.vm.findClass RX2 = some m.cls := findClass_of_methodNamed B.named
  have hlk := B.notSynchronized
  have hS : va_S kNO s.heap s.heap [] := va_S.rf
  have hB : ∀ q, kNO q → kBase D ≤ q := fun _ h => h.elim
  have hl := lv_entry ([.ref a, .int (kI ((pl : Nat) : Int))]) (n := 2) (Nat.le_of_ble_eq_true rfl)
  rw [lg_entry_eq]
  generalize (lg_sl ([.ref a, .int (kI ((pl : Nat) : Int))]) ++ List.replicate (2 - (lg_sl ([.ref a, .int (kI ((pl : Nat) : Int))])).length) Slot.unset).toArray = ls at hl ⊢
  have hl : lv_has ls 2 [(0, .ref a), (1, .int (kI ((pl : Nat) : Int)))] := hl
  have hL60 := hok.n
  have hlb := hok.lbr
  have hlv := hok.lv
  have hsz := ln_size_23 L
  have hbe := ln_bends_rng hok (pl : Int)
  refine lv_aload_n hx hb dX2_lambda_whyNotLabelled_6_0 rfl (lv_at hl 0 rfl) ?_
  refine lv_iload_n hx hb dX2_lambda_whyNotLabelled_6_1 rfl (lv_at hl 1 rfl) ?_
  refine kx_ci0 (va_runV (As := [.int (kI ((pl : Nat) : Int))]) (rest := []) ⟨hx, hb, hml, hown, hts⟩ (m_bendOfPlace_o l D s.heap a pa sa ea gp gs L pl hO_a hA_pa hA_sa hO_ea (by first | assumption | omega) (by first | assumption | omega) (by first | assumption | omega) (by first | assumption | omega)) (cwV 1 hts (lw_V q1106 q1107 q1108 q99 q1109) rfl rfl rfl (by decide +kernel) ⟨Nat.le_of_ble_eq_true rfl, Nat.le_of_ble_eq_true rfl⟩) (kx_pv hK hS hB (kx_rc hK hO_a (C := RX4) (T := TX4) (N := 6) rfl)) rfl rfl hl.1 rfl (lv_room (Nat.le_of_ble_eq_true rfl)) dX2_lambda_whyNotLabelled_6_2 ⟨by first | exact Nat.le_of_ble_eq_true rfl | omega | (show _ ≤ _; omega) | (dsimp only [headSpec]; omega), by first | exact Nat.le_of_ble_eq_true rfl | omega | (show _ ≤ _; omega) | (dsimp only [headSpec]; omega)⟩) hS (fun z_4 locs_1 hz_3 hS_2 => ?_)
  subst z_4
  refine kx_iconst hx hb dX2_lambda_whyNotLabelled_6_5 ?_
  refine kx_icmp_le (x := ln_bends L (pl : Int)) (y := 1) (tgt := 13) hx hb dX2_lambda_whyNotLabelled_6_6 (by decide) (by omega) (by omega) (by omega) (by omega) (fun c_6_5 => ?_) (fun c_6_5 => ?_)
  · -- taken at 6
    refine kx_iconst hx hb dX2_lambda_whyNotLabelled_6_13 ?_
    exact kx_zret (z := false) hx hb hr hlk (⟨rfl, by first | rfl | exact (decide_eq_true (by omega)).symm | exact (decide_eq_false (by omega)).symm | grind⟩) hS_2 dX2_lambda_whyNotLabelled_6_14
  · -- not taken at 6
    refine kx_iconst hx hb dX2_lambda_whyNotLabelled_6_9 ?_
    refine lv_goto (tgt := 14) hx hb dX2_lambda_whyNotLabelled_6_10 (by decide) ?_
    exact kx_zret (z := true) hx hb hr hlk (⟨rfl, by first | rfl | exact (decide_eq_true (by omega)).symm | exact (decide_eq_false (by omega)).symm | grind⟩) hS_2 dX2_lambda_whyNotLabelled_6_14

set_option maxHeartbeats 4000000 in
set_option maxRecDepth 100000 in
theorem m_whl0_c (l : Launch) (D : kG) (H : Heap) (a : Nat) (pa : Nat) (sa : Nat) (ea : Nat) (gp : Nat → Int) (gs : Nat → Int) (L : Ln) (pl : Nat) (hO_a : kO D H a 3 [.int (kI (ln_lv L)), .ref pa, .ref sa, .int (kI ((ln_n L : Nat) : Int)), .ref ea, .int (kI (ln_lb L))]) (hA_pa : kAi D H pa 61 gp) (hA_sa : kAi D H sa 60 gs) (hO_ea : kO D H ea 5 []) (hM : MLn gp gs L) (hok : LnOK L) (hpl : pl ≤ ln_n L) (hcl : ln_cl L = true) : Met l yX2_lambda_whyNotLabelled_5 (ws_ yX2_lambda_whyNotLabelled_5 cX2_lambda_whyNotLabelled_5 2 (some .boolean)) ({ frames := 3, cells := 0, slots := 0, locals := 62 } : Room) (kPre D H [.ref a, .int (kI ((pl : Nat) : Int))]) (kQb (fun (r : Bool) H' => H' = H ∧ r = (!ln_isPlace L (pl : Int))) kNO) (0) (0) (kNO) := by
  refine Met.ofW (cc := cX2_lambda_whyNotLabelled_5) (maxL := 2) (ret := (some .boolean)) (by decide) rfl ?_
  intro p e s m args below meth c s₁ B hml hv
  obtain ⟨rfl, hH, hK⟩ := hv
  subst hH
  have hx := B.exec
  have hb := B.bytes
  have hr := B.returns
  have hts := atoms_spec (ws := ws_ yX2_lambda_whyNotLabelled_5 cX2_lambda_whyNotLabelled_5 2 (some .boolean)) B.pre
  have hts : ∀ w ∈ lw_all, w.before _ s = true := fun w h => hts w (List.mem_cons_of_mem _ h)
  have hown : s.vm.findClass RX2 = some m.cls := findClass_of_methodNamed B.named
  have hlk := B.notSynchronized
  have hS : va_S kNO s.heap s.heap [] := va_S.rf
  have hB : ∀ q, kNO q → kBase D ≤ q := fun _ h => h.elim
  have hl := lv_entry ([.ref a, .int (kI ((pl : Nat) : Int))]) (n := 2) (Nat.le_of_ble_eq_true rfl)
  rw [lg_entry_eq]
  generalize (lg_sl ([.ref a, .int (kI ((pl : Nat) : Int))]) ++ List.replicate (2 - (lg_sl ([.ref a, .int (kI ((pl : Nat) : Int))])).length) Slot.unset).toArray = ls at hl ⊢
  have hl : lv_has ls 2 [(0, .ref a), (1, .int (kI ((pl : Nat) : Int)))] := hl
  have hL60 := hok.n
  have hlb := hok.lbr
  have hlv := hok.lv
  have hsz := ln_size_23 L
  refine lv_aload_n hx hb dX2_lambda_whyNotLabelled_5_0 rfl (lv_at hl 0 rfl) ?_
  refine lv_iload_n hx hb dX2_lambda_whyNotLabelled_5_1 rfl (lv_at hl 1 rfl) ?_
  refine kx_cb0 (va_runV (As := [.int (kI ((pl : Nat) : Int))]) (rest := []) ⟨hx, hb, hml, hown, hts⟩ (m_hasPlace_c l D s.heap a pa sa ea gp gs L pl hO_a hA_pa hA_sa hO_ea (by first | assumption | omega) (by first | assumption | omega) (by first | assumption | omega) (by first | assumption | omega)) (cwV 1 hts (lw_V q1076 q1077 q1078 q99 q1079) rfl rfl rfl (by decide +kernel) ⟨Nat.le_of_ble_eq_true rfl, Nat.le_of_ble_eq_true rfl⟩) (kx_pv hK hS hB (kx_rc hK hO_a (C := RX4) (T := TX4) (N := 6) rfl)) rfl rfl hl.1 rfl (lv_room (Nat.le_of_ble_eq_true rfl)) dX2_lambda_whyNotLabelled_5_2 ⟨by first | exact Nat.le_of_ble_eq_true rfl | omega | (show _ ≤ _; omega) | (dsimp only [headSpec]; omega), by first | exact Nat.le_of_ble_eq_true rfl | omega | (show _ ≤ _; omega) | (dsimp only [headSpec]; omega)⟩) hS (fun z_4 locs_1 hz_3 hS_2 => ?_)
  subst z_4
  refine kx_ifnz (tgt := 12) hx hb dX2_lambda_whyNotLabelled_5_5 (by decide) (fun c_5_5 => ?_) (fun c_5_5 => ?_)
  · -- taken at 5
    refine kx_iconst hx hb dX2_lambda_whyNotLabelled_5_12 ?_
    exact kx_zret (z := false) hx hb hr hlk (⟨rfl, by simp [*]⟩) hS_2 dX2_lambda_whyNotLabelled_5_13
  · -- not taken at 5
    refine kx_iconst hx hb dX2_lambda_whyNotLabelled_5_8 ?_
    refine lv_goto (tgt := 13) hx hb dX2_lambda_whyNotLabelled_5_9 (by decide) ?_
    exact kx_zret (z := true) hx hb hr hlk (⟨rfl, by simp [*]⟩) hS_2 dX2_lambda_whyNotLabelled_5_13

set_option maxHeartbeats 4000000 in
set_option maxRecDepth 100000 in
theorem m_whl1_c (l : Launch) (D : kG) (H : Heap) (a : Nat) (pa : Nat) (sa : Nat) (ea : Nat) (gp : Nat → Int) (gs : Nat → Int) (L : Ln) (pl : Nat) (hO_a : kO D H a 3 [.int (kI (ln_lv L)), .ref pa, .ref sa, .int (kI ((ln_n L : Nat) : Int)), .ref ea, .int (kI (ln_lb L))]) (hA_pa : kAi D H pa 61 gp) (hA_sa : kAi D H sa 60 gs) (hO_ea : kO D H ea 5 []) (hM : MLn gp gs L) (hok : LnOK L) (hpl : pl ≤ ln_n L) (hcl : ln_cl L = true) : Met l yX2_lambda_whyNotLabelled_6 (ws_ yX2_lambda_whyNotLabelled_6 cX2_lambda_whyNotLabelled_6 2 (some .boolean)) ({ frames := 4, cells := 0, slots := 0, locals := 87 } : Room) (kPre D H [.ref a, .int (kI ((pl : Nat) : Int))]) (kQb (fun (r : Bool) H' => H' = H ∧ r = decide (ln_bends L (pl : Int) > 1)) kNO) (0) (0) (kNO) := by
  refine Met.ofW (cc := cX2_lambda_whyNotLabelled_6) (maxL := 2) (ret := (some .boolean)) (by decide) rfl ?_
  intro p e s m args below meth c s₁ B hml hv
  obtain ⟨rfl, hH, hK⟩ := hv
  subst hH
  have hx := B.exec
  have hb := B.bytes
  have hr := B.returns
  have hts := atoms_spec (ws := ws_ yX2_lambda_whyNotLabelled_6 cX2_lambda_whyNotLabelled_6 2 (some .boolean)) B.pre
  have hts : ∀ w ∈ lw_all, w.before _ s = true := fun w h => hts w (List.mem_cons_of_mem _ h)
  have hown : s.vm.findClass RX2 = some m.cls := findClass_of_methodNamed B.named
  have hlk := B.notSynchronized
  have hS : va_S kNO s.heap s.heap [] := va_S.rf
  have hB : ∀ q, kNO q → kBase D ≤ q := fun _ h => h.elim
  have hl := lv_entry ([.ref a, .int (kI ((pl : Nat) : Int))]) (n := 2) (Nat.le_of_ble_eq_true rfl)
  rw [lg_entry_eq]
  generalize (lg_sl ([.ref a, .int (kI ((pl : Nat) : Int))]) ++ List.replicate (2 - (lg_sl ([.ref a, .int (kI ((pl : Nat) : Int))])).length) Slot.unset).toArray = ls at hl ⊢
  have hl : lv_has ls 2 [(0, .ref a), (1, .int (kI ((pl : Nat) : Int)))] := hl
  have hL60 := hok.n
  have hlb := hok.lbr
  have hlv := hok.lv
  have hsz := ln_size_23 L
  have hbe := ln_bends_rng hok (pl : Int)
  refine lv_aload_n hx hb dX2_lambda_whyNotLabelled_6_0 rfl (lv_at hl 0 rfl) ?_
  refine lv_iload_n hx hb dX2_lambda_whyNotLabelled_6_1 rfl (lv_at hl 1 rfl) ?_
  refine kx_ci0 (va_runV (As := [.int (kI ((pl : Nat) : Int))]) (rest := []) ⟨hx, hb, hml, hown, hts⟩ (m_bendOfPlace_c l D s.heap a pa sa ea gp gs L pl hO_a hA_pa hA_sa hO_ea (by first | assumption | omega) (by first | assumption | omega) (by first | assumption | omega) (by first | assumption | omega)) (cwV 1 hts (lw_V q1106 q1107 q1108 q99 q1109) rfl rfl rfl (by decide +kernel) ⟨Nat.le_of_ble_eq_true rfl, Nat.le_of_ble_eq_true rfl⟩) (kx_pv hK hS hB (kx_rc hK hO_a (C := RX4) (T := TX4) (N := 6) rfl)) rfl rfl hl.1 rfl (lv_room (Nat.le_of_ble_eq_true rfl)) dX2_lambda_whyNotLabelled_6_2 ⟨by first | exact Nat.le_of_ble_eq_true rfl | omega | (show _ ≤ _; omega) | (dsimp only [headSpec]; omega), by first | exact Nat.le_of_ble_eq_true rfl | omega | (show _ ≤ _; omega) | (dsimp only [headSpec]; omega)⟩) hS (fun z_4 locs_1 hz_3 hS_2 => ?_)
  subst z_4
  refine kx_iconst hx hb dX2_lambda_whyNotLabelled_6_5 ?_
  refine kx_icmp_le (x := ln_bends L (pl : Int)) (y := 1) (tgt := 13) hx hb dX2_lambda_whyNotLabelled_6_6 (by decide) (by omega) (by omega) (by omega) (by omega) (fun c_6_5 => ?_) (fun c_6_5 => ?_)
  · -- taken at 6
    refine kx_iconst hx hb dX2_lambda_whyNotLabelled_6_13 ?_
    exact kx_zret (z := false) hx hb hr hlk (⟨rfl, by first | rfl | exact (decide_eq_true (by omega)).symm | exact (decide_eq_false (by omega)).symm | grind⟩) hS_2 dX2_lambda_whyNotLabelled_6_14
  · -- not taken at 6
    refine kx_iconst hx hb dX2_lambda_whyNotLabelled_6_9 ?_
    refine lv_goto (tgt := 14) hx hb dX2_lambda_whyNotLabelled_6_10 (by decide) ?_
    exact kx_zret (z := true) hx hb hr hlk (⟨rfl, by first | rfl | exact (decide_eq_true (by omega)).symm | exact (decide_eq_false (by omega)).symm | grind⟩) hS_2 dX2_lambda_whyNotLabelled_6_14

set_option maxHeartbeats 4000000 in
set_option maxRecDepth 100000 in
theorem m_X2_lambda_whyNotLabelled_7 (l : Launch) (D : kG) (H : Heap) (a : Nat) (pa : Nat) (sa : Nat) (ea : Nat) (gp : Nat → Int) (gs : Nat → Int) (L : Ln) (pl : Nat) (hO_a : kO D H a 3 [.int (kI (ln_lv L)), .ref pa, .ref sa, .int (kI ((ln_n L : Nat) : Int)), .ref ea, .int (kI (ln_lb L))]) (hA_pa : kAi D H pa 61 gp) (hA_sa : kAi D H sa 60 gs) (hM : MLn gp gs L) (hok : LnOK L) (hpl : pl + ln_size L - 1 ≤ ln_n L) : Met l yX2_lambda_whyNotLabelled_7 (ws_ yX2_lambda_whyNotLabelled_7 cX2_lambda_whyNotLabelled_7 2 (some .boolean)) ({ frames := 4, cells := 0, slots := 0, locals := 83 } : Room) (kPre D H [.ref a, .int (kI ((pl : Nat) : Int))]) (kQb (fun (r : Bool) H' => H' = H ∧ r = ln_stands L pl) kNO) (0) (0) (kNO) := by
  refine Met.ofW (cc := cX2_lambda_whyNotLabelled_7) (maxL := 2) (ret := (some .boolean)) (by decide) rfl ?_
  intro p e s m args below meth c s₁ B hml hv
  obtain ⟨rfl, hH, hK⟩ := hv
  subst hH
  have hx := B.exec
  have hb := B.bytes
  have hr := B.returns
  have hts := atoms_spec (ws := ws_ yX2_lambda_whyNotLabelled_7 cX2_lambda_whyNotLabelled_7 2 (some .boolean)) B.pre
  have hts : ∀ w ∈ lw_all, w.before _ s = true := fun w h => hts w (List.mem_cons_of_mem _ h)
  have hown : s.vm.findClass RX2 = some m.cls := findClass_of_methodNamed B.named
  have hlk := B.notSynchronized
  have hS : va_S kNO s.heap s.heap [] := va_S.rf
  have hB : ∀ q, kNO q → kBase D ≤ q := fun _ h => h.elim
  have hl := lv_entry ([.ref a, .int (kI ((pl : Nat) : Int))]) (n := 2) (Nat.le_of_ble_eq_true rfl)
  rw [lg_entry_eq]
  generalize (lg_sl ([.ref a, .int (kI ((pl : Nat) : Int))]) ++ List.replicate (2 - (lg_sl ([.ref a, .int (kI ((pl : Nat) : Int))])).length) Slot.unset).toArray = ls at hl ⊢
  have hl : lv_has ls 2 [(0, .ref a), (1, .int (kI ((pl : Nat) : Int)))] := hl
  have hL60 := hok.n
  have hlb := hok.lbr
  have hlv := hok.lv
  have hsz := ln_size_23 L
  refine lv_aload_n hx hb dX2_lambda_whyNotLabelled_7_0 rfl (lv_at hl 0 rfl) ?_
  refine lv_iload_n hx hb dX2_lambda_whyNotLabelled_7_1 rfl (lv_at hl 1 rfl) ?_
  refine kx_cb0 (va_runV (As := [.int (kI ((pl : Nat) : Int))]) (rest := []) ⟨hx, hb, hml, hown, hts⟩ (m_X4_stands l D s.heap a pa sa ea gp gs L pl hO_a hA_pa hA_sa (by first | assumption | omega) (by first | assumption | omega) (by first | assumption | omega)) (cwV 1 hts (lw_V q1134 q1135 q1136 q99 q1137) rfl rfl rfl (by decide +kernel) ⟨Nat.le_of_ble_eq_true rfl, Nat.le_of_ble_eq_true rfl⟩) (kx_pv hK hS hB (kx_rc hK hO_a (C := RX4) (T := TX4) (N := 6) rfl)) rfl rfl hl.1 rfl (lv_room (Nat.le_of_ble_eq_true rfl)) dX2_lambda_whyNotLabelled_7_2 ⟨by first | exact Nat.le_of_ble_eq_true rfl | omega | (show _ ≤ _; omega) | (dsimp only [headSpec]; omega), by first | exact Nat.le_of_ble_eq_true rfl | omega | (show _ ≤ _; omega) | (dsimp only [headSpec]; omega)⟩) hS (fun z_4 locs_1 hz_3 hS_2 => ?_)
  subst z_4
  exact kx_zret (z := ln_stands L pl) hx hb hr hlk (⟨rfl, by rfl⟩) hS_2 dX2_lambda_whyNotLabelled_7_5

set_option maxHeartbeats 4000000 in
set_option maxRecDepth 100000 in
theorem m_X2_lambda_whyNotLabelled_8 (l : Launch) (D : kG) (H : Heap) (st : Nat) (la : Nat) (mc : Int) (ea : Nat) (F : Fts) (S : Ls) (gap : Int) (ln : Nat) (pl : Nat) (hO_st : kO D H st 1 [.ref la, .int (kI (gap))]) (hO_la : kO D H la 9 [.int (kI (mc)), .ref ea, .int (kI ((S.length : Nat) : Int))]) (hP_kLs_ea : kLs D H ea S.length F) (hP_kLn_F : kLn D H F S) (hok : LsOK S gap) (hln : ln < S.length) (hpl : pl + ln_size (st_ln S ln) - 1 ≤ ln_n (st_ln S ln)) : Met l yX2_lambda_whyNotLabelled_8 (ws_ yX2_lambda_whyNotLabelled_8 cX2_lambda_whyNotLabelled_8 3 (some .boolean)) ({ frames := 4, cells := 0, slots := 0, locals := 95 } : Room) (kPre D H [.ref st, .int (kI ((ln : Nat) : Int)), .int (kI ((pl : Nat) : Int))]) (kQb (fun (r : Bool) H' => H' = H ∧ r = decide (st_free S ln pl < gap)) kNO) (0) (0) (kNO) := by
  refine Met.ofW (cc := cX2_lambda_whyNotLabelled_8) (maxL := 3) (ret := (some .boolean)) (by decide) rfl ?_
  intro p e s m args below meth c s₁ B hml hv
  obtain ⟨rfl, hH, hK⟩ := hv
  subst hH
  have hx := B.exec
  have hb := B.bytes
  have hr := B.returns
  have hts := atoms_spec (ws := ws_ yX2_lambda_whyNotLabelled_8 cX2_lambda_whyNotLabelled_8 3 (some .boolean)) B.pre
  have hts : ∀ w ∈ lw_all, w.before _ s = true := fun w h => hts w (List.mem_cons_of_mem _ h)
  have hown : s.vm.findClass RX2 = some m.cls := findClass_of_methodNamed B.named
  have hlk := B.notSynchronized
  have hS : va_S kNO s.heap s.heap [] := va_S.rf
  have hB : ∀ q, kNO q → kBase D ≤ q := fun _ h => h.elim
  have hl := lv_entry ([.ref st, .int (kI ((ln : Nat) : Int)), .int (kI ((pl : Nat) : Int))]) (n := 3) (Nat.le_of_ble_eq_true rfl)
  rw [lg_entry_eq]
  generalize (lg_sl ([.ref st, .int (kI ((ln : Nat) : Int)), .int (kI ((pl : Nat) : Int))]) ++ List.replicate (3 - (lg_sl ([.ref st, .int (kI ((ln : Nat) : Int)), .int (kI ((pl : Nat) : Int))])).length) Slot.unset).toArray = ls at hl ⊢
  have hl : lv_has ls 3 [(0, .ref st), (1, .int (kI ((ln : Nat) : Int))), (2, .int (kI ((pl : Nat) : Int)))] := hl
  have hL8 := hok.1
  have hgp := hok.2.1
  have hfr9 := st_free_rng hok (l := ln) (p := pl) hln (by have := ln_size_23 (st_ln S ln); omega)
  have hn60 := (hok.ln hln).n
  refine lv_aload_n hx hb dX2_lambda_whyNotLabelled_8_0 rfl (lv_at hl 0 rfl) ?_
  refine lv_iload_n hx hb dX2_lambda_whyNotLabelled_8_1 rfl (lv_at hl 1 rfl) ?_
  refine lv_iload_n hx hb dX2_lambda_whyNotLabelled_8_2 rfl (lv_at hl 2 rfl) ?_
  refine kx_ci0 (va_runV (As := [.int (kI ((ln : Nat) : Int)), .int (kI ((pl : Nat) : Int))]) (rest := []) ⟨hx, hb, hml, hown, hts⟩ (m_X2_far l D s.heap st la mc ea F S gap ln pl hO_st hO_la hP_kLs_ea hP_kLn_F (by first | assumption | omega) (by first | assumption | omega) (by first | assumption | omega)) (cwV 2 hts (lw_V q1158 q1160 qs16 q80 q1161) rfl rfl rfl (by decide +kernel) ⟨Nat.le_of_ble_eq_true rfl, Nat.le_of_ble_eq_true rfl⟩) (kx_pv hK hS hB (kx_rc hK hO_st (C := RX2) (T := TX2) (N := 2) rfl)) rfl rfl hl.1 rfl (lv_room (Nat.le_of_ble_eq_true rfl)) dX2_lambda_whyNotLabelled_8_3 ⟨by first | exact Nat.le_of_ble_eq_true rfl | omega | (show _ ≤ _; omega) | (dsimp only [headSpec]; omega), by first | exact Nat.le_of_ble_eq_true rfl | omega | (show _ ≤ _; omega) | (dsimp only [headSpec]; omega)⟩) hS (fun z_4 locs_1 hz_3 hS_2 => ?_)
  subst z_4
  refine lv_aload_n hx hb dX2_lambda_whyNotLabelled_8_6 rfl (lv_at hl 0 rfl) ?_
  refine kx_get (v := .int (kI (gap))) (C := RX2) (T := TX2) (N := 2) hx hb hts in_X2 hown hK hO_st rfl 1 (by decide) q170 (fun _ h9 => h9) rfl dX2_lambda_whyNotLabelled_8_7 ?_
  refine kx_icmp_ge (x := st_free S ln pl) (y := gap) (tgt := 17) hx hb dX2_lambda_whyNotLabelled_8_10 (by decide) (by omega) (by omega) (by omega) (by omega) (fun c_10_5 => ?_) (fun c_10_5 => ?_)
  · -- taken at 10
    refine kx_iconst hx hb dX2_lambda_whyNotLabelled_8_17 ?_
    exact kx_zret (z := false) hx hb hr hlk (⟨rfl, by first | rfl | exact (decide_eq_true (by omega)).symm | exact (decide_eq_false (by omega)).symm | grind⟩) hS_2 dX2_lambda_whyNotLabelled_8_18
  · -- not taken at 10
    refine kx_iconst hx hb dX2_lambda_whyNotLabelled_8_13 ?_
    refine lv_goto (tgt := 18) hx hb dX2_lambda_whyNotLabelled_8_14 (by decide) ?_
    exact kx_zret (z := true) hx hb hr hlk (⟨rfl, by first | rfl | exact (decide_eq_true (by omega)).symm | exact (decide_eq_false (by omega)).symm | grind⟩) hS_2 dX2_lambda_whyNotLabelled_8_18

set_option maxHeartbeats 4000000 in
set_option maxRecDepth 100000 in
theorem m_first_l (l : Launch) (D : kG) (H : Heap) (aq : Nat) (gq : Nat → Option Nat) (r0 : Nat) (r1 : Nat) (r2 : Nat) (r3 : Nat) (st : Nat) (la : Nat) (mc : Int) (ea : Nat) (F : Fts) (S : Ls) (gap : Int) (ln : Nat) (pl : Nat) (hA_aq : kAq D H aq 5 4 gq) (hL_r0 : kLm D H r0 0 [.ref (fA F ln), .int (kI ((pl : Nat) : Int))]) (hL_r1 : kLm D H r1 1 [.ref (fA F ln), .int (kI ((pl : Nat) : Int))]) (hL_r2 : kLm D H r2 2 [.ref (fA F ln), .int (kI ((pl : Nat) : Int))]) (hL_r3 : kLm D H r3 3 [.ref st, .int (kI ((ln : Nat) : Int)), .int (kI ((pl : Nat) : Int))]) (hO_st : kO D H st 1 [.ref la, .int (kI (gap))]) (hO_la : kO D H la 9 [.int (kI (mc)), .ref ea, .int (kI ((S.length : Nat) : Int))]) (hP_kLs_ea : kLs D H ea S.length F) (hP_kLn_F : kLn D H F S) (hok : LsOK S gap) (hln : ln < S.length) (hpl : pl ≤ ln_n (st_ln S ln)) (hg0 : gq 0 = some r0) (hg1 : gq 1 = some r1) (hg2 : gq 2 = some r2) (hg3 : gq 3 = some r3) : Met l yX1_first (ws_ yX1_first cX1_first 2 (some .int)) ({ frames := 6, cells := 0, slots := 0, locals := 137 } : Room) (kPre D H [.ref aq]) (kQi (fun (r : Int) H' => H' = H ∧ r = st_whyL S gap ln pl) kNO) (0) (0) (kNO) := by
  refine Met.ofW (cc := cX1_first) (maxL := 2) (ret := (some .int)) (by decide) rfl ?_
  intro p e s m args below meth c s₁ B hml hv
  obtain ⟨rfl, hH, hK⟩ := hv
  subst hH
  have hx := B.exec
  have hb := B.bytes
  have hr := B.returns
  have hts := atoms_spec (ws := ws_ yX1_first cX1_first 2 (some .int)) B.pre
  have hts : ∀ w ∈ lw_all, w.before _ s = true := fun w h => hts w (List.mem_cons_of_mem _ h)
  have hown : s.vm.findClass RX1 = some m.cls := findClass_of_methodNamed B.named
  have hlk := B.notSynchronized
  have hS : va_S kNO s.heap s.heap [] := va_S.rf
  have hB : ∀ q, kNO q → kBase D ≤ q := fun _ h => h.elim
  have hl := lv_entry ([.ref aq]) (n := 2) (Nat.le_of_ble_eq_true rfl)
  rw [lg_entry_eq]
  generalize (lg_sl ([.ref aq]) ++ List.replicate (2 - (lg_sl ([.ref aq])).length) Slot.unset).toArray = ls at hl ⊢
  have hl : lv_has ls 2 [(0, .ref aq)] := hl
  have hL8 := hok.1
  have hn60 := (hok.ln hln).n
  have hszn9 := ln_size_23 (st_ln S ln)
  by_cases hcl9 : ln_cl (st_ln S ln) = true
  · -- hcl9 t
    obtain ⟨ea_1, gp_1, gs_1, ho_1, hp_1, hs_1, he_1, hm_1⟩ := (hP_kLn_F ln (hln)).closed_ hcl9
    refine kx_iconst hx hb dX1_first_0 ?_
    refine lv_istore_n (lv' := [(1, .int (kI (0))), (0, .ref aq)]) hx hb dX1_first_1 rfl hl (by decide) rfl (fun ls hl => ?_)
    refine lv_iload_n hx hb dX1_first_2 rfl (lv_at hl 0 rfl) ?_
    refine lv_aload_n hx hb dX1_first_3 rfl (lv_at hl 1 rfl) ?_
    refine kx_alen hx hb hK hA_aq rfl dX1_first_4 ?_
    refine kx_icmp_ge (x := 0) (y := ((4 : Nat) : Int)) (tgt := 29) hx hb dX1_first_5 (by decide) (by omega) (by omega) (by omega) (by omega) (fun c_5_2 => ?_) (fun c_5_2 => ?_)
    · -- taken at 5
      exfalso; omega
    · -- not taken at 5
      refine lv_aload_n hx hb dX1_first_8 rfl (lv_at hl 1 rfl) ?_
      refine lv_iload_n hx hb dX1_first_9 rfl (lv_at hl 0 rfl) ?_
      refine kx_aald hx hb hK (t := 5) rfl hA_aq 0 (rfl) (by omega) (by omega) dX1_first_10 ?_
      refine kx_eqq hx hb (b := r0) hg0 ?_
      refine kx_cFb0 (kl_S0 (i := 0) (σ := ls_1) (vals := [.ref (fA F ln), .int (kI ((pl : Nat) : Int))]) (rest := []) ⟨hx, hb, hml, hown, hts⟩ hK hS hB hlk rfl rfl lk_1 List.mem_cons_self (by decide +kernel) (by decide +kernel) (by decide +kernel) rfl (by decide +kernel) hL_r0 rfl (m_whl0_c l D s.heap (fA F ln) (fP F ln) (fS F ln) ea_1 gp_1 gs_1 ((st_ln S ln)) pl ho_1 hp_1 hs_1 he_1 (by first | assumption | omega) ((hok.ln hln)) (by first | assumption | omega) hcl9) rfl (lw_meth q1075) rfl rfl q80 q1074 (show (parseMethodDescriptor yX2_lambda_whyNotLabelled_5.desc).map (fun d => d.parameters.length) = some 2 by decide +kernel) q1176 (by decide +kernel) kl_ret lkd_1 lki_1 lkr_1 (Nat.zero_le _) hl.1 (Nat.le_of_ble_eq_true rfl) dX1_first_11 ⟨by first | exact Nat.le_of_ble_eq_true rfl | omega | (show _ ≤ _; omega) | (dsimp only [headSpec]; omega), by first | exact Nat.le_of_ble_eq_true rfl | omega | (show _ ≤ _; omega) | (dsimp only [headSpec]; omega)⟩ (Nat.le_of_ble_eq_true rfl) (Nat.le_of_ble_eq_true rfl)) hS (fun z_6 locs_3 hz_5 hS_4 => ?_)
      subst z_6
      refine kx_ifz (tgt := 23) hx hb dX1_first_16 (by decide) (fun c_16_7 => ?_) (fun c_16_7 => ?_)
      · -- taken at 16
        have hplc9 : pl + ln_size (st_ln S ln) ≤ ln_n (st_ln S ln) + 1 := ln_isPlace_le (by simpa using (by assumption : (!ln_isPlace (st_ln S ln) (pl : Int)) = false))
        refine lv_iinc (v := kI (1)) (lv' := [(1, .int (kI (1))), (0, .ref aq)]) hx hb dX1_first_23 hl (k := 0) rfl (rfl) (by decide) rfl (fun ls hl => ?_)
        refine lv_goto (tgt := 2) hx hb dX1_first_26 (by decide) ?_
        refine lv_iload_n hx hb dX1_first_2 rfl (lv_at hl 0 rfl) ?_
        refine lv_aload_n hx hb dX1_first_3 rfl (lv_at hl 1 rfl) ?_
        refine kx_alen hx hb hK hA_aq rfl dX1_first_4 ?_
        refine kx_icmp_ge (x := 1) (y := ((4 : Nat) : Int)) (tgt := 29) hx hb dX1_first_5 (by decide) (by omega) (by omega) (by omega) (by omega) (fun c_5_8 => ?_) (fun c_5_8 => ?_)
        · -- taken at 5
          exfalso; omega
        · -- not taken at 5
          refine lv_aload_n hx hb dX1_first_8 rfl (lv_at hl 1 rfl) ?_
          refine lv_iload_n hx hb dX1_first_9 rfl (lv_at hl 0 rfl) ?_
          refine kx_aald hx hb hK (t := 5) rfl hA_aq 1 (rfl) (by omega) (by omega) dX1_first_10 ?_
          refine kx_eqq hx hb (b := r1) hg1 ?_
          refine kx_cFb0 (kl_S0 (i := 1) (σ := ls_2) (vals := [.ref (fA F ln), .int (kI ((pl : Nat) : Int))]) (rest := []) ⟨hx, hb, hml, hown, hts⟩ hK hS_4 hB hlk rfl rfl lk_2 List.mem_cons_self (by decide +kernel) (by decide +kernel) (by decide +kernel) rfl (by decide +kernel) hL_r1 rfl (m_whl1_c l D s.heap (fA F ln) (fP F ln) (fS F ln) ea_1 gp_1 gs_1 ((st_ln S ln)) pl ho_1 hp_1 hs_1 he_1 (by first | assumption | omega) ((hok.ln hln)) (by first | assumption | omega) hcl9) rfl (lw_meth q1105) rfl rfl q80 q1104 (show (parseMethodDescriptor yX2_lambda_whyNotLabelled_6.desc).map (fun d => d.parameters.length) = some 2 by decide +kernel) q1176 (by decide +kernel) kl_ret lkd_2 lki_2 lkr_2 (Nat.zero_le _) hl.1 (Nat.le_of_ble_eq_true rfl) dX1_first_11 ⟨by first | exact Nat.le_of_ble_eq_true rfl | omega | (show _ ≤ _; omega) | (dsimp only [headSpec]; omega), by first | exact Nat.le_of_ble_eq_true rfl | omega | (show _ ≤ _; omega) | (dsimp only [headSpec]; omega)⟩ (Nat.le_of_ble_eq_true rfl) (Nat.le_of_ble_eq_true rfl)) hS_4 (fun z_12 locs_9 hz_11 hS_10 => ?_)
          subst z_12
          refine kx_ifz (tgt := 23) hx hb dX1_first_16 (by decide) (fun c_16_13 => ?_) (fun c_16_13 => ?_)
          · -- taken at 16
            have c_16_13 := of_decide_eq_false c_16_13
            refine lv_iinc (v := kI (2)) (lv' := [(1, .int (kI (2))), (0, .ref aq)]) hx hb dX1_first_23 hl (k := 0) rfl (rfl) (by decide) rfl (fun ls hl => ?_)
            refine lv_goto (tgt := 2) hx hb dX1_first_26 (by decide) ?_
            refine lv_iload_n hx hb dX1_first_2 rfl (lv_at hl 0 rfl) ?_
            refine lv_aload_n hx hb dX1_first_3 rfl (lv_at hl 1 rfl) ?_
            refine kx_alen hx hb hK hA_aq rfl dX1_first_4 ?_
            refine kx_icmp_ge (x := 2) (y := ((4 : Nat) : Int)) (tgt := 29) hx hb dX1_first_5 (by decide) (by omega) (by omega) (by omega) (by omega) (fun c_5_14 => ?_) (fun c_5_14 => ?_)
            · -- taken at 5
              exfalso; omega
            · -- not taken at 5
              refine lv_aload_n hx hb dX1_first_8 rfl (lv_at hl 1 rfl) ?_
              refine lv_iload_n hx hb dX1_first_9 rfl (lv_at hl 0 rfl) ?_
              refine kx_aald hx hb hK (t := 5) rfl hA_aq 2 (rfl) (by omega) (by omega) dX1_first_10 ?_
              refine kx_eqq hx hb (b := r2) hg2 ?_
              refine kx_cFb0 (kl_S0 (i := 2) (σ := ls_3) (vals := [.ref (fA F ln), .int (kI ((pl : Nat) : Int))]) (rest := []) ⟨hx, hb, hml, hown, hts⟩ hK hS_10 hB hlk rfl rfl lk_3 List.mem_cons_self (by decide +kernel) (by decide +kernel) (by decide +kernel) rfl (by decide +kernel) hL_r2 rfl (m_X2_lambda_whyNotLabelled_7 l D s.heap (fA F ln) (fP F ln) (fS F ln) ea_1 gp_1 gs_1 ((st_ln S ln)) pl ho_1 hp_1 hs_1 (by first | assumption | omega) ((hok.ln hln)) (by first | assumption | omega)) rfl (lw_meth q1133) rfl rfl q80 q1132 (show (parseMethodDescriptor yX2_lambda_whyNotLabelled_7.desc).map (fun d => d.parameters.length) = some 2 by decide +kernel) q1176 (by decide +kernel) kl_ret lkd_3 lki_3 lkr_3 (Nat.zero_le _) hl.1 (Nat.le_of_ble_eq_true rfl) dX1_first_11 ⟨by first | exact Nat.le_of_ble_eq_true rfl | omega | (show _ ≤ _; omega) | (dsimp only [headSpec]; omega), by first | exact Nat.le_of_ble_eq_true rfl | omega | (show _ ≤ _; omega) | (dsimp only [headSpec]; omega)⟩ (Nat.le_of_ble_eq_true rfl) (Nat.le_of_ble_eq_true rfl)) hS_10 (fun z_18 locs_15 hz_17 hS_16 => ?_)
              subst z_18
              refine kx_ifz (tgt := 23) hx hb dX1_first_16 (by decide) (fun c_16_19 => ?_) (fun c_16_19 => ?_)
              · -- taken at 16
                refine lv_iinc (v := kI (3)) (lv' := [(1, .int (kI (3))), (0, .ref aq)]) hx hb dX1_first_23 hl (k := 0) rfl (rfl) (by decide) rfl (fun ls hl => ?_)
                refine lv_goto (tgt := 2) hx hb dX1_first_26 (by decide) ?_
                refine lv_iload_n hx hb dX1_first_2 rfl (lv_at hl 0 rfl) ?_
                refine lv_aload_n hx hb dX1_first_3 rfl (lv_at hl 1 rfl) ?_
                refine kx_alen hx hb hK hA_aq rfl dX1_first_4 ?_
                refine kx_icmp_ge (x := 3) (y := ((4 : Nat) : Int)) (tgt := 29) hx hb dX1_first_5 (by decide) (by omega) (by omega) (by omega) (by omega) (fun c_5_20 => ?_) (fun c_5_20 => ?_)
                · -- taken at 5
                  exfalso; omega
                · -- not taken at 5
                  refine lv_aload_n hx hb dX1_first_8 rfl (lv_at hl 1 rfl) ?_
                  refine lv_iload_n hx hb dX1_first_9 rfl (lv_at hl 0 rfl) ?_
                  refine kx_aald hx hb hK (t := 5) rfl hA_aq 3 (rfl) (by omega) (by omega) dX1_first_10 ?_
                  refine kx_eqq hx hb (b := r3) hg3 ?_
                  refine kx_cFb0 (kl_V0 (i := 3) (σ := ls_4) (vals := [.int (kI ((ln : Nat) : Int)), .int (kI ((pl : Nat) : Int))]) (b := st) (rest := []) ⟨hx, hb, hml, hown, hts⟩ hK hS_16 hB hlk rfl rfl lk_4 List.mem_cons_self (by decide +kernel) (by decide +kernel) (by decide +kernel) rfl (by decide +kernel) hL_r3 rfl (m_X2_lambda_whyNotLabelled_8 l D s.heap st la mc ea F S gap ln pl hO_st hO_la hP_kLs_ea hP_kLn_F (by first | assumption | omega) (by first | assumption | omega) (by first | assumption | omega)) rfl (lw_meth q1157) rfl rfl q80 q1156 qs15 (kx_rc hK hO_st (C := RX2) (T := TX2) (N := 2) rfl) (show (parseMethodDescriptor yX2_lambda_whyNotLabelled_8.desc).map (fun d => d.parameters.length) = some 2 by decide +kernel) q1176 (by decide +kernel) kl_ret lkd_4 lki_4 lkr_4 (Nat.zero_le _) hl.1 (Nat.le_of_ble_eq_true rfl) dX1_first_11 ⟨by first | exact Nat.le_of_ble_eq_true rfl | omega | (show _ ≤ _; omega) | (dsimp only [headSpec]; omega), by first | exact Nat.le_of_ble_eq_true rfl | omega | (show _ ≤ _; omega) | (dsimp only [headSpec]; omega)⟩ (Nat.le_of_ble_eq_true rfl) (Nat.le_of_ble_eq_true rfl)) hS_16 (fun z_24 locs_21 hz_23 hS_22 => ?_)
                  subst z_24
                  refine kx_ifz (tgt := 23) hx hb dX1_first_16 (by decide) (fun c_16_25 => ?_) (fun c_16_25 => ?_)
                  · -- taken at 16
                    have c_16_25 := of_decide_eq_false c_16_25
                    refine lv_iinc (v := kI (4)) (lv' := [(1, .int (kI (4))), (0, .ref aq)]) hx hb dX1_first_23 hl (k := 0) rfl (rfl) (by decide) rfl (fun ls hl => ?_)
                    refine lv_goto (tgt := 2) hx hb dX1_first_26 (by decide) ?_
                    refine lv_iload_n hx hb dX1_first_2 rfl (lv_at hl 0 rfl) ?_
                    refine lv_aload_n hx hb dX1_first_3 rfl (lv_at hl 1 rfl) ?_
                    refine kx_alen hx hb hK hA_aq rfl dX1_first_4 ?_
                    refine kx_icmp_ge (x := 4) (y := ((4 : Nat) : Int)) (tgt := 29) hx hb dX1_first_5 (by decide) (by omega) (by omega) (by omega) (by omega) (fun c_5_26 => ?_) (fun c_5_26 => ?_)
                    · -- taken at 5
                      refine kx_iconst hx hb dX1_first_29 ?_
                      exact kx_iret (z := 0) hx hb hr hlk (⟨rfl, by rw [st_whyL_b]; repeat (first | rw [if_pos (by assumption)] | rw [if_neg (by assumption)] | rw [if_neg (by rw [Bool.not_eq_true]; assumption)]); try rfl⟩) hS_22 dX1_first_30
                    · -- not taken at 5
                      exfalso; omega
                  · -- not taken at 16
                    have c_16_25 := of_decide_eq_true c_16_25
                    refine lv_iload_n hx hb dX1_first_19 rfl (lv_at hl 0 rfl) ?_
                    refine kx_iconst hx hb dX1_first_20 ?_
                    refine kx_iadd hx hb dX1_first_21 ?_
                    exact kx_iret (z := (3 + 1)) hx hb hr hlk (⟨rfl, by rw [st_whyL_b]; repeat (first | rw [if_pos (by assumption)] | rw [if_neg (by assumption)] | rw [if_neg (by rw [Bool.not_eq_true]; assumption)]); try rfl⟩) hS_22 dX1_first_22
              · -- not taken at 16
                refine lv_iload_n hx hb dX1_first_19 rfl (lv_at hl 0 rfl) ?_
                refine kx_iconst hx hb dX1_first_20 ?_
                refine kx_iadd hx hb dX1_first_21 ?_
                exact kx_iret (z := (2 + 1)) hx hb hr hlk (⟨rfl, by rw [st_whyL_b]; repeat (first | rw [if_pos (by assumption)] | rw [if_neg (by assumption)] | rw [if_neg (by rw [Bool.not_eq_true]; assumption)]); try rfl⟩) hS_16 dX1_first_22
          · -- not taken at 16
            have c_16_13 := of_decide_eq_true c_16_13
            refine lv_iload_n hx hb dX1_first_19 rfl (lv_at hl 0 rfl) ?_
            refine kx_iconst hx hb dX1_first_20 ?_
            refine kx_iadd hx hb dX1_first_21 ?_
            exact kx_iret (z := (1 + 1)) hx hb hr hlk (⟨rfl, by rw [st_whyL_b]; repeat (first | rw [if_pos (by assumption)] | rw [if_neg (by assumption)] | rw [if_neg (by rw [Bool.not_eq_true]; assumption)]); try rfl⟩) hS_10 dX1_first_22
      · -- not taken at 16
        refine lv_iload_n hx hb dX1_first_19 rfl (lv_at hl 0 rfl) ?_
        refine kx_iconst hx hb dX1_first_20 ?_
        refine kx_iadd hx hb dX1_first_21 ?_
        exact kx_iret (z := (0 + 1)) hx hb hr hlk (⟨rfl, by rw [st_whyL_b]; repeat (first | rw [if_pos (by assumption)] | rw [if_neg (by assumption)] | rw [if_neg (by rw [Bool.not_eq_true]; assumption)]); try rfl⟩) hS_4 dX1_first_22
  · -- hcl9 f
    have hcl8 : ln_cl (st_ln S ln) = false := by simpa using hcl9
    obtain ⟨ea_27, gp_27, gs_27, ho_27, hp_27, hs_27, he_27, hm_27⟩ := (hP_kLn_F ln (hln)).open_ hcl8
    refine kx_iconst hx hb dX1_first_0 ?_
    refine lv_istore_n (lv' := [(1, .int (kI (0))), (0, .ref aq)]) hx hb dX1_first_1 rfl hl (by decide) rfl (fun ls hl => ?_)
    refine lv_iload_n hx hb dX1_first_2 rfl (lv_at hl 0 rfl) ?_
    refine lv_aload_n hx hb dX1_first_3 rfl (lv_at hl 1 rfl) ?_
    refine kx_alen hx hb hK hA_aq rfl dX1_first_4 ?_
    refine kx_icmp_ge (x := 0) (y := ((4 : Nat) : Int)) (tgt := 29) hx hb dX1_first_5 (by decide) (by omega) (by omega) (by omega) (by omega) (fun c_5_28 => ?_) (fun c_5_28 => ?_)
    · -- taken at 5
      exfalso; omega
    · -- not taken at 5
      refine lv_aload_n hx hb dX1_first_8 rfl (lv_at hl 1 rfl) ?_
      refine lv_iload_n hx hb dX1_first_9 rfl (lv_at hl 0 rfl) ?_
      refine kx_aald hx hb hK (t := 5) rfl hA_aq 0 (rfl) (by omega) (by omega) dX1_first_10 ?_
      refine kx_eqq hx hb (b := r0) hg0 ?_
      refine kx_cFb0 (kl_S0 (i := 0) (σ := ls_1) (vals := [.ref (fA F ln), .int (kI ((pl : Nat) : Int))]) (rest := []) ⟨hx, hb, hml, hown, hts⟩ hK hS hB hlk rfl rfl lk_1 List.mem_cons_self (by decide +kernel) (by decide +kernel) (by decide +kernel) rfl (by decide +kernel) hL_r0 rfl (m_whl0_o l D s.heap (fA F ln) (fP F ln) (fS F ln) ea_27 gp_27 gs_27 ((st_ln S ln)) pl ho_27 hp_27 hs_27 he_27 (by first | assumption | omega) ((hok.ln hln)) (by first | assumption | omega) hcl8) rfl (lw_meth q1075) rfl rfl q80 q1074 (show (parseMethodDescriptor yX2_lambda_whyNotLabelled_5.desc).map (fun d => d.parameters.length) = some 2 by decide +kernel) q1176 (by decide +kernel) kl_ret lkd_1 lki_1 lkr_1 (Nat.zero_le _) hl.1 (Nat.le_of_ble_eq_true rfl) dX1_first_11 ⟨by first | exact Nat.le_of_ble_eq_true rfl | omega | (show _ ≤ _; omega) | (dsimp only [headSpec]; omega), by first | exact Nat.le_of_ble_eq_true rfl | omega | (show _ ≤ _; omega) | (dsimp only [headSpec]; omega)⟩ (Nat.le_of_ble_eq_true rfl) (Nat.le_of_ble_eq_true rfl)) hS (fun z_32 locs_29 hz_31 hS_30 => ?_)
      subst z_32
      refine kx_ifz (tgt := 23) hx hb dX1_first_16 (by decide) (fun c_16_33 => ?_) (fun c_16_33 => ?_)
      · -- taken at 16
        have hplc9 : pl + ln_size (st_ln S ln) ≤ ln_n (st_ln S ln) + 1 := ln_isPlace_le (by simpa using (by assumption : (!ln_isPlace (st_ln S ln) (pl : Int)) = false))
        refine lv_iinc (v := kI (1)) (lv' := [(1, .int (kI (1))), (0, .ref aq)]) hx hb dX1_first_23 hl (k := 0) rfl (rfl) (by decide) rfl (fun ls hl => ?_)
        refine lv_goto (tgt := 2) hx hb dX1_first_26 (by decide) ?_
        refine lv_iload_n hx hb dX1_first_2 rfl (lv_at hl 0 rfl) ?_
        refine lv_aload_n hx hb dX1_first_3 rfl (lv_at hl 1 rfl) ?_
        refine kx_alen hx hb hK hA_aq rfl dX1_first_4 ?_
        refine kx_icmp_ge (x := 1) (y := ((4 : Nat) : Int)) (tgt := 29) hx hb dX1_first_5 (by decide) (by omega) (by omega) (by omega) (by omega) (fun c_5_34 => ?_) (fun c_5_34 => ?_)
        · -- taken at 5
          exfalso; omega
        · -- not taken at 5
          refine lv_aload_n hx hb dX1_first_8 rfl (lv_at hl 1 rfl) ?_
          refine lv_iload_n hx hb dX1_first_9 rfl (lv_at hl 0 rfl) ?_
          refine kx_aald hx hb hK (t := 5) rfl hA_aq 1 (rfl) (by omega) (by omega) dX1_first_10 ?_
          refine kx_eqq hx hb (b := r1) hg1 ?_
          refine kx_cFb0 (kl_S0 (i := 1) (σ := ls_2) (vals := [.ref (fA F ln), .int (kI ((pl : Nat) : Int))]) (rest := []) ⟨hx, hb, hml, hown, hts⟩ hK hS_30 hB hlk rfl rfl lk_2 List.mem_cons_self (by decide +kernel) (by decide +kernel) (by decide +kernel) rfl (by decide +kernel) hL_r1 rfl (m_whl1_o l D s.heap (fA F ln) (fP F ln) (fS F ln) ea_27 gp_27 gs_27 ((st_ln S ln)) pl ho_27 hp_27 hs_27 he_27 (by first | assumption | omega) ((hok.ln hln)) (by first | assumption | omega) hcl8) rfl (lw_meth q1105) rfl rfl q80 q1104 (show (parseMethodDescriptor yX2_lambda_whyNotLabelled_6.desc).map (fun d => d.parameters.length) = some 2 by decide +kernel) q1176 (by decide +kernel) kl_ret lkd_2 lki_2 lkr_2 (Nat.zero_le _) hl.1 (Nat.le_of_ble_eq_true rfl) dX1_first_11 ⟨by first | exact Nat.le_of_ble_eq_true rfl | omega | (show _ ≤ _; omega) | (dsimp only [headSpec]; omega), by first | exact Nat.le_of_ble_eq_true rfl | omega | (show _ ≤ _; omega) | (dsimp only [headSpec]; omega)⟩ (Nat.le_of_ble_eq_true rfl) (Nat.le_of_ble_eq_true rfl)) hS_30 (fun z_38 locs_35 hz_37 hS_36 => ?_)
          subst z_38
          refine kx_ifz (tgt := 23) hx hb dX1_first_16 (by decide) (fun c_16_39 => ?_) (fun c_16_39 => ?_)
          · -- taken at 16
            have c_16_39 := of_decide_eq_false c_16_39
            refine lv_iinc (v := kI (2)) (lv' := [(1, .int (kI (2))), (0, .ref aq)]) hx hb dX1_first_23 hl (k := 0) rfl (rfl) (by decide) rfl (fun ls hl => ?_)
            refine lv_goto (tgt := 2) hx hb dX1_first_26 (by decide) ?_
            refine lv_iload_n hx hb dX1_first_2 rfl (lv_at hl 0 rfl) ?_
            refine lv_aload_n hx hb dX1_first_3 rfl (lv_at hl 1 rfl) ?_
            refine kx_alen hx hb hK hA_aq rfl dX1_first_4 ?_
            refine kx_icmp_ge (x := 2) (y := ((4 : Nat) : Int)) (tgt := 29) hx hb dX1_first_5 (by decide) (by omega) (by omega) (by omega) (by omega) (fun c_5_40 => ?_) (fun c_5_40 => ?_)
            · -- taken at 5
              exfalso; omega
            · -- not taken at 5
              refine lv_aload_n hx hb dX1_first_8 rfl (lv_at hl 1 rfl) ?_
              refine lv_iload_n hx hb dX1_first_9 rfl (lv_at hl 0 rfl) ?_
              refine kx_aald hx hb hK (t := 5) rfl hA_aq 2 (rfl) (by omega) (by omega) dX1_first_10 ?_
              refine kx_eqq hx hb (b := r2) hg2 ?_
              refine kx_cFb0 (kl_S0 (i := 2) (σ := ls_3) (vals := [.ref (fA F ln), .int (kI ((pl : Nat) : Int))]) (rest := []) ⟨hx, hb, hml, hown, hts⟩ hK hS_36 hB hlk rfl rfl lk_3 List.mem_cons_self (by decide +kernel) (by decide +kernel) (by decide +kernel) rfl (by decide +kernel) hL_r2 rfl (m_X2_lambda_whyNotLabelled_7 l D s.heap (fA F ln) (fP F ln) (fS F ln) ea_27 gp_27 gs_27 ((st_ln S ln)) pl ho_27 hp_27 hs_27 (by first | assumption | omega) ((hok.ln hln)) (by first | assumption | omega)) rfl (lw_meth q1133) rfl rfl q80 q1132 (show (parseMethodDescriptor yX2_lambda_whyNotLabelled_7.desc).map (fun d => d.parameters.length) = some 2 by decide +kernel) q1176 (by decide +kernel) kl_ret lkd_3 lki_3 lkr_3 (Nat.zero_le _) hl.1 (Nat.le_of_ble_eq_true rfl) dX1_first_11 ⟨by first | exact Nat.le_of_ble_eq_true rfl | omega | (show _ ≤ _; omega) | (dsimp only [headSpec]; omega), by first | exact Nat.le_of_ble_eq_true rfl | omega | (show _ ≤ _; omega) | (dsimp only [headSpec]; omega)⟩ (Nat.le_of_ble_eq_true rfl) (Nat.le_of_ble_eq_true rfl)) hS_36 (fun z_44 locs_41 hz_43 hS_42 => ?_)
              subst z_44
              refine kx_ifz (tgt := 23) hx hb dX1_first_16 (by decide) (fun c_16_45 => ?_) (fun c_16_45 => ?_)
              · -- taken at 16
                refine lv_iinc (v := kI (3)) (lv' := [(1, .int (kI (3))), (0, .ref aq)]) hx hb dX1_first_23 hl (k := 0) rfl (rfl) (by decide) rfl (fun ls hl => ?_)
                refine lv_goto (tgt := 2) hx hb dX1_first_26 (by decide) ?_
                refine lv_iload_n hx hb dX1_first_2 rfl (lv_at hl 0 rfl) ?_
                refine lv_aload_n hx hb dX1_first_3 rfl (lv_at hl 1 rfl) ?_
                refine kx_alen hx hb hK hA_aq rfl dX1_first_4 ?_
                refine kx_icmp_ge (x := 3) (y := ((4 : Nat) : Int)) (tgt := 29) hx hb dX1_first_5 (by decide) (by omega) (by omega) (by omega) (by omega) (fun c_5_46 => ?_) (fun c_5_46 => ?_)
                · -- taken at 5
                  exfalso; omega
                · -- not taken at 5
                  refine lv_aload_n hx hb dX1_first_8 rfl (lv_at hl 1 rfl) ?_
                  refine lv_iload_n hx hb dX1_first_9 rfl (lv_at hl 0 rfl) ?_
                  refine kx_aald hx hb hK (t := 5) rfl hA_aq 3 (rfl) (by omega) (by omega) dX1_first_10 ?_
                  refine kx_eqq hx hb (b := r3) hg3 ?_
                  refine kx_cFb0 (kl_V0 (i := 3) (σ := ls_4) (vals := [.int (kI ((ln : Nat) : Int)), .int (kI ((pl : Nat) : Int))]) (b := st) (rest := []) ⟨hx, hb, hml, hown, hts⟩ hK hS_42 hB hlk rfl rfl lk_4 List.mem_cons_self (by decide +kernel) (by decide +kernel) (by decide +kernel) rfl (by decide +kernel) hL_r3 rfl (m_X2_lambda_whyNotLabelled_8 l D s.heap st la mc ea F S gap ln pl hO_st hO_la hP_kLs_ea hP_kLn_F (by first | assumption | omega) (by first | assumption | omega) (by first | assumption | omega)) rfl (lw_meth q1157) rfl rfl q80 q1156 qs15 (kx_rc hK hO_st (C := RX2) (T := TX2) (N := 2) rfl) (show (parseMethodDescriptor yX2_lambda_whyNotLabelled_8.desc).map (fun d => d.parameters.length) = some 2 by decide +kernel) q1176 (by decide +kernel) kl_ret lkd_4 lki_4 lkr_4 (Nat.zero_le _) hl.1 (Nat.le_of_ble_eq_true rfl) dX1_first_11 ⟨by first | exact Nat.le_of_ble_eq_true rfl | omega | (show _ ≤ _; omega) | (dsimp only [headSpec]; omega), by first | exact Nat.le_of_ble_eq_true rfl | omega | (show _ ≤ _; omega) | (dsimp only [headSpec]; omega)⟩ (Nat.le_of_ble_eq_true rfl) (Nat.le_of_ble_eq_true rfl)) hS_42 (fun z_50 locs_47 hz_49 hS_48 => ?_)
                  subst z_50
                  refine kx_ifz (tgt := 23) hx hb dX1_first_16 (by decide) (fun c_16_51 => ?_) (fun c_16_51 => ?_)
                  · -- taken at 16
                    have c_16_51 := of_decide_eq_false c_16_51
                    refine lv_iinc (v := kI (4)) (lv' := [(1, .int (kI (4))), (0, .ref aq)]) hx hb dX1_first_23 hl (k := 0) rfl (rfl) (by decide) rfl (fun ls hl => ?_)
                    refine lv_goto (tgt := 2) hx hb dX1_first_26 (by decide) ?_
                    refine lv_iload_n hx hb dX1_first_2 rfl (lv_at hl 0 rfl) ?_
                    refine lv_aload_n hx hb dX1_first_3 rfl (lv_at hl 1 rfl) ?_
                    refine kx_alen hx hb hK hA_aq rfl dX1_first_4 ?_
                    refine kx_icmp_ge (x := 4) (y := ((4 : Nat) : Int)) (tgt := 29) hx hb dX1_first_5 (by decide) (by omega) (by omega) (by omega) (by omega) (fun c_5_52 => ?_) (fun c_5_52 => ?_)
                    · -- taken at 5
                      refine kx_iconst hx hb dX1_first_29 ?_
                      exact kx_iret (z := 0) hx hb hr hlk (⟨rfl, by rw [st_whyL_b]; repeat (first | rw [if_pos (by assumption)] | rw [if_neg (by assumption)] | rw [if_neg (by rw [Bool.not_eq_true]; assumption)]); try rfl⟩) hS_48 dX1_first_30
                    · -- not taken at 5
                      exfalso; omega
                  · -- not taken at 16
                    have c_16_51 := of_decide_eq_true c_16_51
                    refine lv_iload_n hx hb dX1_first_19 rfl (lv_at hl 0 rfl) ?_
                    refine kx_iconst hx hb dX1_first_20 ?_
                    refine kx_iadd hx hb dX1_first_21 ?_
                    exact kx_iret (z := (3 + 1)) hx hb hr hlk (⟨rfl, by rw [st_whyL_b]; repeat (first | rw [if_pos (by assumption)] | rw [if_neg (by assumption)] | rw [if_neg (by rw [Bool.not_eq_true]; assumption)]); try rfl⟩) hS_48 dX1_first_22
              · -- not taken at 16
                refine lv_iload_n hx hb dX1_first_19 rfl (lv_at hl 0 rfl) ?_
                refine kx_iconst hx hb dX1_first_20 ?_
                refine kx_iadd hx hb dX1_first_21 ?_
                exact kx_iret (z := (2 + 1)) hx hb hr hlk (⟨rfl, by rw [st_whyL_b]; repeat (first | rw [if_pos (by assumption)] | rw [if_neg (by assumption)] | rw [if_neg (by rw [Bool.not_eq_true]; assumption)]); try rfl⟩) hS_42 dX1_first_22
          · -- not taken at 16
            have c_16_39 := of_decide_eq_true c_16_39
            refine lv_iload_n hx hb dX1_first_19 rfl (lv_at hl 0 rfl) ?_
            refine kx_iconst hx hb dX1_first_20 ?_
            refine kx_iadd hx hb dX1_first_21 ?_
            exact kx_iret (z := (1 + 1)) hx hb hr hlk (⟨rfl, by rw [st_whyL_b]; repeat (first | rw [if_pos (by assumption)] | rw [if_neg (by assumption)] | rw [if_neg (by rw [Bool.not_eq_true]; assumption)]); try rfl⟩) hS_36 dX1_first_22
      · -- not taken at 16
        refine lv_iload_n hx hb dX1_first_19 rfl (lv_at hl 0 rfl) ?_
        refine kx_iconst hx hb dX1_first_20 ?_
        refine kx_iadd hx hb dX1_first_21 ?_
        exact kx_iret (z := (0 + 1)) hx hb hr hlk (⟨rfl, by rw [st_whyL_b]; repeat (first | rw [if_pos (by assumption)] | rw [if_neg (by assumption)] | rw [if_neg (by rw [Bool.not_eq_true]; assumption)]); try rfl⟩) hS_30 dX1_first_22

set_option maxHeartbeats 4000000 in
set_option maxRecDepth 100000 in
theorem m_X2_whyNotLabelled (l : Launch) (D : kG) (H : Heap) (st : Nat) (la : Nat) (mc : Int) (ea : Nat) (F : Fts) (S : Ls) (gap : Int) (ln : Nat) (pl : Nat) (hO_st : kO D H st 1 [.ref la, .int (kI (gap))]) (hO_la : kO D H la 9 [.int (kI (mc)), .ref ea, .int (kI ((S.length : Nat) : Int))]) (hP_kLs_ea : kLs D H ea S.length F) (hP_kLn_F : kLn D H F S) (hok : LsOK S gap) (hln : ln < S.length) (hpl : pl ≤ ln_n (st_ln S ln)) : Met l yX2_whyNotLabelled (ws_ yX2_whyNotLabelled cX2_whyNotLabelled 5 (some .int)) ({ frames := 7, cells := 5, slots := 13, locals := 3100 } : Room) (kPre D H [.ref st, .int (kI ((ln : Nat) : Int)), .int (kI ((pl : Nat) : Int))]) (kQi (fun (r : Int) H' => (r = st_whyL S gap ln pl) ∧ (True)) (kNW H)) (5) (13) ((kNW H)) := by
  refine Met.ofW (cc := cX2_whyNotLabelled) (maxL := 5) (ret := (some .int)) (by decide) rfl ?_
  intro p e s m args below meth c s₁ B hml hv
  obtain ⟨rfl, hH, hK⟩ := hv
  subst hH
  have hx := B.exec
  have hb := B.bytes
  have hr := B.returns
  have hts := atoms_spec (ws := ws_ yX2_whyNotLabelled cX2_whyNotLabelled 5 (some .int)) B.pre
  have hts : ∀ w ∈ lw_all, w.before _ s = true := fun w h => hts w (List.mem_cons_of_mem _ h)
  have hown : s.vm.findClass RX2 = some m.cls := findClass_of_methodNamed B.named
  have hlk := B.notSynchronized
  have hS : va_S (kNW s.heap) s.heap s.heap [] := va_S.rf
  have hB : ∀ q, (kNW s.heap) q → kBase D ≤ q := fun q h => Nat.le_trans hK.size h
  have hl := lv_entry ([.ref st, .int (kI ((ln : Nat) : Int)), .int (kI ((pl : Nat) : Int))]) (n := 5) (Nat.le_of_ble_eq_true rfl)
  rw [lg_entry_eq]
  generalize (lg_sl ([.ref st, .int (kI ((ln : Nat) : Int)), .int (kI ((pl : Nat) : Int))]) ++ List.replicate (5 - (lg_sl ([.ref st, .int (kI ((ln : Nat) : Int)), .int (kI ((pl : Nat) : Int))])).length) Slot.unset).toArray = ls at hl ⊢
  have hl : lv_has ls 5 [(0, .ref st), (1, .int (kI ((ln : Nat) : Int))), (2, .int (kI ((pl : Nat) : Int)))] := hl
  have hL8 := hok.1
  have hn60 := (hok.ln hln).n
  refine lv_aload_n hx hb dX2_whyNotLabelled_0 rfl (lv_at hl 0 rfl) ?_
  refine kx_get (v := .ref la) (C := RX2) (T := TX2) (N := 2) hx hb hts in_X2 hown hK hO_st rfl 0 (by decide) q167 (fun _ h9 => h9) rfl dX2_whyNotLabelled_1 ?_
  refine lv_iload_n hx hb dX2_whyNotLabelled_4 rfl (lv_at hl 1 rfl) ?_
  refine kx_cFr0 (va_runF (C := RJ2) (As := [.int (kI ((ln : Nat) : Int))]) (rest := []) (hK.at (ci := 9) rfl) ⟨hx, hb, hml, hown, hts⟩ (m_get l D s.heap la mc ea S.length F ln hO_la hP_kLs_ea (by first | assumption | omega)) (va_cwF (x := ({ cls := "java/util/List", name := "get", desc := "(I)Ljava/lang/Object;" } : Jvm.MethodName)) 1 hts (lw_F q289 q292 q294 q83 q296) rfl rfl rfl (hK.fw (by decide)) (by decide +kernel) ⟨Nat.le_of_ble_eq_true rfl, Nat.le_of_ble_eq_true rfl⟩) (kx_pv hK hS hB (kx_rc hK hO_la (C := RJ2) (T := TJ2) (N := 3) rfl)) rfl rfl hl.1 rfl (lv_room (Nat.le_of_ble_eq_true rfl)) dX2_whyNotLabelled_5 ⟨by first | exact Nat.le_of_ble_eq_true rfl | omega | (show _ ≤ _; omega) | (dsimp only [headSpec]; omega), by first | exact Nat.le_of_ble_eq_true rfl | omega | (show _ ≤ _; omega) | (dsimp only [headSpec]; omega)⟩) hS (fun z_4 locs_1 hz_3 hS_2 => ?_)
  subst z_4
  obtain ⟨ea_5, gp_5, gs_5, ho_5, hp_5, hs_5, he_5, hm_5⟩ := (hP_kLn_F ln (hln))
  refine kx_castS hx hb hts hown q307 hK ho_5 rfl dX2_whyNotLabelled_10 ?_
  refine lv_astore_n (lv' := [(3, .ref (fA F ln)), (0, .ref st), (1, .int (kI ((ln : Nat) : Int))), (2, .int (kI ((pl : Nat) : Int)))]) hx hb dX2_whyNotLabelled_13 rfl hl (by decide) rfl (fun ls hl => ?_)
  refine kx_iconst hx hb dX2_whyNotLabelled_14 ?_
  refine kx_anew (t := 5) (N' := 4) hx hb hts hown q1072 hK (by decide) rfl hS_2 (by first | rfl | omega) (by omega) (by first | exact Nat.le_of_ble_eq_true rfl | omega | (show _ ≤ _; omega) | (dsimp only [headSpec]; omega)) (by first | exact Nat.le_of_ble_eq_true rfl | omega | (show _ ≤ _; omega) | (dsimp only [headSpec]; omega)) dX2_whyNotLabelled_15 (fun arq H_6 hq_7 hz_8 hA_9 hE_10 hS_11 => ?_)
  have hge_arq : s.heap.size ≤ arq := by rw [hq_7]; exact hS_2.1
  refine W.widen (k := 1) (n := 4) (Nat.le_of_ble_eq_true rfl) (Nat.le_of_ble_eq_true rfl) ?_
  refine lv_dup hx hb dX2_whyNotLabelled_18 rfl ?_
  refine kx_iconst hx hb dX2_whyNotLabelled_19 ?_
  refine lv_aload_n hx hb dX2_whyNotLabelled_20 rfl (lv_at hl 0 rfl) ?_
  refine lv_iload_n hx hb dX2_whyNotLabelled_21 rfl (lv_at hl 3 rfl) ?_
  refine kx_lam (i := 0) (σ := ls_1) (vals := [.ref (fA F ln), .int (kI ((pl : Nat) : Int))]) (rest := [.int (kI (0)), .ref arq, .ref arq]) hx hb hml hl.1 hts hK B.named rfl (by decide) rfl lk_1 hS_11 rfl (fun z hz => by have hz : z ∈ [((.object "ContourLabels$Line" : FieldType), (.ref (fA F ln) : Value)), ((.int : FieldType), (.int (kI ((pl : Nat) : Int)) : Value))] := hz; simp only [List.mem_cons, List.not_mem_nil, or_false] at hz; rcases hz with rfl | rfl <;> exact ⟨rfl, rfl⟩) (by first | exact Nat.le_of_ble_eq_true rfl | omega | (show _ ≤ _; omega) | (dsimp only [headSpec]; omega)) (by first | exact Nat.le_of_ble_eq_true rfl | omega | (show _ ≤ _; omega) | (dsimp only [headSpec]; omega)) (by first | exact Nat.le_of_ble_eq_true rfl | omega | (show _ ≤ _; omega) | (dsimp only [headSpec]; omega)) dX2_whyNotLabelled_22 (fun rn0 H_12 hq_13 hz_14 hL_15 hE_16 hS_17 => ?_)
  have hge_rn0 : s.heap.size ≤ rn0 := by rw [hq_13]; exact hS_11.1
  refine W.widen (k := 2) (n := 6) (Nat.le_of_ble_eq_true rfl) (Nat.le_of_ble_eq_true rfl) ?_
  have h_18 := hA_9.ex hE_16
  refine kx_aastL hx hb hK (t := 5) rfl h_18 hS_17 (by have := hS.1; first | (show _ ≤ _; omega) | omega) 0 (rfl) (by omega) (by omega) hL_15 (q := _) rfl rfl dX2_whyNotLabelled_27 (fun H_21 locs_22 hA_20 hU_19 hS_23 => ?_)
  have hzu_24 := hU_19.1
  refine lv_dup hx hb dX2_whyNotLabelled_28 rfl ?_
  refine kx_iconst hx hb dX2_whyNotLabelled_29 ?_
  refine lv_aload_n hx hb dX2_whyNotLabelled_30 rfl (lv_at hl 0 rfl) ?_
  refine lv_iload_n hx hb dX2_whyNotLabelled_31 rfl (lv_at hl 3 rfl) ?_
  refine kx_lam (i := 1) (σ := ls_2) (vals := [.ref (fA F ln), .int (kI ((pl : Nat) : Int))]) (rest := [.int (kI (1)), .ref arq, .ref arq]) hx hb hml hl.1 hts hK B.named rfl (by decide) rfl lk_2 hS_23 rfl (fun z hz => by have hz : z ∈ [((.object "ContourLabels$Line" : FieldType), (.ref (fA F ln) : Value)), ((.int : FieldType), (.int (kI ((pl : Nat) : Int)) : Value))] := hz; simp only [List.mem_cons, List.not_mem_nil, or_false] at hz; rcases hz with rfl | rfl <;> exact ⟨rfl, rfl⟩) (by first | exact Nat.le_of_ble_eq_true rfl | omega | (show _ ≤ _; omega) | (dsimp only [headSpec]; omega)) (by first | exact Nat.le_of_ble_eq_true rfl | omega | (show _ ≤ _; omega) | (dsimp only [headSpec]; omega)) (by first | exact Nat.le_of_ble_eq_true rfl | omega | (show _ ≤ _; omega) | (dsimp only [headSpec]; omega)) dX2_whyNotLabelled_32 (fun rn1 H_25 hq_26 hz_27 hL_28 hE_29 hS_30 => ?_)
  have hge_rn1 : s.heap.size ≤ rn1 := by rw [hq_26]; exact hS_23.1
  refine W.widen (k := 3) (n := 8) (Nat.le_of_ble_eq_true rfl) (Nat.le_of_ble_eq_true rfl) ?_
  have h_31 := hA_20.ex hE_29
  refine kx_aastL hx hb hK (t := 5) rfl h_31 hS_30 (by first | rfl | exact Or.inl rfl | exact Or.inr rfl | exact Or.inr (Or.inl rfl) | exact Or.inr (Or.inr rfl) | exact Or.inr (Or.inr (Or.inl rfl)) | exact Or.inr (Or.inr (Or.inr rfl)) | ((try dsimp only); (try simp only [kNW]); omega)) 1 (rfl) (by omega) (by omega) hL_28 (q := _) rfl rfl dX2_whyNotLabelled_37 (fun H_34 locs_35 hA_33 hU_32 hS_36 => ?_)
  have hzu_37 := hU_32.1
  refine lv_dup hx hb dX2_whyNotLabelled_38 rfl ?_
  refine kx_iconst hx hb dX2_whyNotLabelled_39 ?_
  refine lv_aload_n hx hb dX2_whyNotLabelled_40 rfl (lv_at hl 0 rfl) ?_
  refine lv_iload_n hx hb dX2_whyNotLabelled_41 rfl (lv_at hl 3 rfl) ?_
  refine kx_lam (i := 2) (σ := ls_3) (vals := [.ref (fA F ln), .int (kI ((pl : Nat) : Int))]) (rest := [.int (kI (2)), .ref arq, .ref arq]) hx hb hml hl.1 hts hK B.named rfl (by decide) rfl lk_3 hS_36 rfl (fun z hz => by have hz : z ∈ [((.object "ContourLabels$Line" : FieldType), (.ref (fA F ln) : Value)), ((.int : FieldType), (.int (kI ((pl : Nat) : Int)) : Value))] := hz; simp only [List.mem_cons, List.not_mem_nil, or_false] at hz; rcases hz with rfl | rfl <;> exact ⟨rfl, rfl⟩) (by first | exact Nat.le_of_ble_eq_true rfl | omega | (show _ ≤ _; omega) | (dsimp only [headSpec]; omega)) (by first | exact Nat.le_of_ble_eq_true rfl | omega | (show _ ≤ _; omega) | (dsimp only [headSpec]; omega)) (by first | exact Nat.le_of_ble_eq_true rfl | omega | (show _ ≤ _; omega) | (dsimp only [headSpec]; omega)) dX2_whyNotLabelled_42 (fun rn2 H_38 hq_39 hz_40 hL_41 hE_42 hS_43 => ?_)
  have hge_rn2 : s.heap.size ≤ rn2 := by rw [hq_39]; exact hS_36.1
  refine W.widen (k := 4) (n := 10) (Nat.le_of_ble_eq_true rfl) (Nat.le_of_ble_eq_true rfl) ?_
  have h_44 := hA_33.ex hE_42
  refine kx_aastL hx hb hK (t := 5) rfl h_44 hS_43 (by first | rfl | exact Or.inl rfl | exact Or.inr rfl | exact Or.inr (Or.inl rfl) | exact Or.inr (Or.inr rfl) | exact Or.inr (Or.inr (Or.inl rfl)) | exact Or.inr (Or.inr (Or.inr rfl)) | ((try dsimp only); (try simp only [kNW]); omega)) 2 (rfl) (by omega) (by omega) hL_41 (q := _) rfl rfl dX2_whyNotLabelled_47 (fun H_47 locs_48 hA_46 hU_45 hS_49 => ?_)
  have hzu_50 := hU_45.1
  refine lv_dup hx hb dX2_whyNotLabelled_48 rfl ?_
  refine kx_iconst hx hb dX2_whyNotLabelled_49 ?_
  refine lv_aload_n hx hb dX2_whyNotLabelled_50 rfl (lv_at hl 1 rfl) ?_
  refine lv_iload_n hx hb dX2_whyNotLabelled_51 rfl (lv_at hl 2 rfl) ?_
  refine lv_iload_n hx hb dX2_whyNotLabelled_52 rfl (lv_at hl 3 rfl) ?_
  refine kx_lam (i := 3) (σ := ls_4) (vals := [.ref st, .int (kI ((ln : Nat) : Int)), .int (kI ((pl : Nat) : Int))]) (rest := [.int (kI (3)), .ref arq, .ref arq]) hx hb hml hl.1 hts hK B.named rfl (by decide) rfl lk_4 hS_49 rfl (fun z hz => by have hz : z ∈ [((.object "ContourLabels$State" : FieldType), (.ref st : Value)), ((.int : FieldType), (.int (kI ((ln : Nat) : Int)) : Value)), ((.int : FieldType), (.int (kI ((pl : Nat) : Int)) : Value))] := hz; simp only [List.mem_cons, List.not_mem_nil, or_false] at hz; rcases hz with rfl | rfl | rfl <;> exact ⟨rfl, rfl⟩) (by first | exact Nat.le_of_ble_eq_true rfl | omega | (show _ ≤ _; omega) | (dsimp only [headSpec]; omega)) (by first | exact Nat.le_of_ble_eq_true rfl | omega | (show _ ≤ _; omega) | (dsimp only [headSpec]; omega)) (by first | exact Nat.le_of_ble_eq_true rfl | omega | (show _ ≤ _; omega) | (dsimp only [headSpec]; omega)) dX2_whyNotLabelled_53 (fun rn3 H_51 hq_52 hz_53 hL_54 hE_55 hS_56 => ?_)
  have hge_rn3 : s.heap.size ≤ rn3 := by rw [hq_52]; exact hS_49.1
  refine W.widen (k := 5) (n := 13) (Nat.le_of_ble_eq_true rfl) (Nat.le_of_ble_eq_true rfl) ?_
  have h_57 := hA_46.ex hE_55
  refine kx_aastL hx hb hK (t := 5) rfl h_57 hS_56 (by first | rfl | exact Or.inl rfl | exact Or.inr rfl | exact Or.inr (Or.inl rfl) | exact Or.inr (Or.inr rfl) | exact Or.inr (Or.inr (Or.inl rfl)) | exact Or.inr (Or.inr (Or.inr rfl)) | ((try dsimp only); (try simp only [kNW]); omega)) 3 (rfl) (by omega) (by omega) hL_54 (q := _) rfl rfl dX2_whyNotLabelled_58 (fun H_60 locs_61 hA_59 hU_58 hS_62 => ?_)
  have hzu_63 := hU_58.1
  refine lv_astore (lv' := [(4, .ref arq), (3, .ref (fA F ln)), (0, .ref st), (1, .int (kI ((ln : Nat) : Int))), (2, .int (kI ((pl : Nat) : Int)))]) hx hb dX2_whyNotLabelled_59 hl (by decide) rfl (fun ls hl => ?_)
  refine lv_aload hx hb dX2_whyNotLabelled_61 (lv_at hl 0 rfl) ?_
  have h_64 := hL_15.up hU_19 (by first | assumption | exact Ne.symm (by assumption) | omega | (have h9 := hL_15.lt; omega))
  have h_65 := h_64.ex hE_29
  have h_66 := h_65.up hU_32 (by first | assumption | exact Ne.symm (by assumption) | omega | (have h9 := h_65.lt; omega))
  have h_67 := h_66.ex hE_42
  have h_68 := h_67.up hU_45 (by first | assumption | exact Ne.symm (by assumption) | omega | (have h9 := h_67.lt; omega))
  have h_69 := h_68.ex hE_55
  have h_70 := h_69.up hU_58 (by first | assumption | exact Ne.symm (by assumption) | omega | (have h9 := h_69.lt; omega))
  have h_71 := hL_28.up hU_32 (by first | assumption | exact Ne.symm (by assumption) | omega | (have h9 := hL_28.lt; omega))
  have h_72 := h_71.ex hE_42
  have h_73 := h_72.up hU_45 (by first | assumption | exact Ne.symm (by assumption) | omega | (have h9 := h_72.lt; omega))
  have h_74 := h_73.ex hE_55
  have h_75 := h_74.up hU_58 (by first | assumption | exact Ne.symm (by assumption) | omega | (have h9 := h_74.lt; omega))
  have h_76 := hL_41.up hU_45 (by first | assumption | exact Ne.symm (by assumption) | omega | (have h9 := hL_41.lt; omega))
  have h_77 := h_76.ex hE_55
  have h_78 := h_77.up hU_58 (by first | assumption | exact Ne.symm (by assumption) | omega | (have h9 := h_77.lt; omega))
  have h_79 := hL_54.up hU_58 (by first | assumption | exact Ne.symm (by assumption) | omega | (have h9 := hL_54.lt; omega))
  have h_80 := hO_st.ex (va_S.ex hS_62)
  have h_81 := hO_la.ex (va_S.ex hS_62)
  have h_82 := hP_kLs_ea.ex (va_S.ex hS_62)
  have h_83 := hP_kLn_F.ex (va_S.ex hS_62)
  refine kx_ci0 (va_runSN (As := [.ref arq]) (rest := []) ⟨hx, hb, hml, hown, hts⟩ (m_first_l l D H_60 arq (kupq (kupq (kupq (kupq ((fun _ => none)) 0 (some rn0)) 1 (some rn1)) 2 (some rn2)) 3 (some rn3)) rn0 rn1 rn2 rn3 st la mc ea F S gap ln pl hA_59 h_70 h_75 h_78 h_79 h_80 h_81 h_82 h_83 (by first | assumption | omega) (by first | assumption | omega) (by first | assumption | omega) (by simp [kupq]) (by simp [kupq]) (by simp [kupq]) (by simp [kupq])) ⟨va_cnB 1 hts (lw_meth q1174) rfl rfl rfl (hK.w q1172 rfl) (hts _ q79) (by decide +kernel) ⟨Nat.le_of_ble_eq_true rfl, Nat.le_of_ble_eq_true rfl⟩, hts _ q1173, trivial⟩ (kx_ps hK hS_62 hB) rfl rfl hl.1 rfl (lv_room (Nat.le_of_ble_eq_true rfl)) dX2_whyNotLabelled_63 ⟨by first | exact Nat.le_of_ble_eq_true rfl | omega | (show _ ≤ _; omega) | (dsimp only [headSpec]; omega), by first | exact Nat.le_of_ble_eq_true rfl | omega | (show _ ≤ _; omega) | (dsimp only [headSpec]; omega)⟩) hS_62 (fun z_87 locs_84 hz_86 hS_85 => ?_)
  subst z_87
  exact kx_iret (z := st_whyL S gap ln pl) hx hb hr hlk (⟨by rfl, by first | assumption | rfl | omega | grind⟩) hS_85 dX2_whyNotLabelled_66

