set_option maxHeartbeats 4000000 in
set_option maxRecDepth 100000 in
theorem m_X1_line (l : Launch) (D : kG) (H : Heap) (x1 : Nat) (snp : Option Nat) (hi : Nat) (bu : Nat) (st : Nat) (la : Nat) (mc : Int) (ea : Nat) (F : Fts) (S : Ls) (gap : Int) (ln : Nat) (hO_x1 : kO D H x1 0 [.ref st, va_rf (snp), .ref hi, .ref bu]) (hO_st : kO D H st 1 [.ref la, .int (kI (gap))]) (hO_la : kO D H la 9 [.int (kI (mc)), .ref ea, .int (kI ((S.length : Nat) : Int))]) (hP_kLs_ea : kLs D H ea S.length F) (hP_kLn_F : kLn D H F S) (hok : LsOK S gap) (hln : ln < S.length) : Met l yX1_line (ws_ yX1_line cX1_line 2 (some (.object "ContourLabels$Line"))) ({ frames := 3, cells := 0, slots := 0, locals := 64 } : Room) (kPre D H [.ref x1, .int (kI ((ln : Nat) : Int))]) (kQr (fun (r : Nat) H' => H' = H ∧ r = fA F ln) kNO) (0) (0) (kNO) := by
  refine Met.ofW (cc := cX1_line) (maxL := 2) (ret := (some (.object "ContourLabels$Line"))) (by decide) rfl ?_
  intro p e s m args below meth c s₁ B hml hv
  obtain ⟨rfl, hH, hK⟩ := hv
  subst hH
  have hx := B.exec
  have hb := B.bytes
  have hr := B.returns
  have hts := atoms_spec (ws := ws_ yX1_line cX1_line 2 (some (.object "ContourLabels$Line"))) B.pre
  have hts : ∀ w ∈ lw_all, w.before _ s = true := fun w h => hts w (List.mem_cons_of_mem _ h)
  have hown : s.vm.findClass RX1 = some m.cls := findClass_of_methodNamed B.named
  have hlk := B.notSynchronized
  have hS : va_S kNO s.heap s.heap [] := va_S.rf
  have hB : ∀ q, kNO q → kBase D ≤ q := fun _ h => h.elim
  have hl := lv_entry ([.ref x1, .int (kI ((ln : Nat) : Int))]) (n := 2) (Nat.le_of_ble_eq_true rfl)
  rw [lg_entry_eq]
  generalize (lg_sl ([.ref x1, .int (kI ((ln : Nat) : Int))]) ++ List.replicate (2 - (lg_sl ([.ref x1, .int (kI ((ln : Nat) : Int))])).length) Slot.unset).toArray = ls at hl ⊢
  have hl : lv_has ls 2 [(0, .ref x1), (1, .int (kI ((ln : Nat) : Int)))] := hl
  have hL8 := hok.1
  refine lv_iload_n hx hb dX1_line_0 rfl (lv_at hl 1 rfl) ?_
  refine lv_aload_n hx hb dX1_line_1 rfl (lv_at hl 0 rfl) ?_
  refine kx_get (v := .ref st) (C := RX1) (T := TX1) (N := 4) hx hb hts in_X1 hown hK hO_x1 rfl 0 (by decide) q229 (fun _ h9 => h9) rfl dX1_line_2 ?_
  refine kx_get (v := .ref la) (C := RX2) (T := TX2) (N := 2) hx hb hts in_X2 hown hK hO_st rfl 0 (by decide) q168 (fun _ h9 => h9) rfl dX1_line_5 ?_
  refine kx_cFi0 (va_runF (C := RJ2) (As := []) (rest := [.int (kI ((ln : Nat) : Int))]) (hK.at (ci := 9) rfl) ⟨hx, hb, hml, hown, hts⟩ (m_J2_size l D s.heap la mc ea S.length hO_la ) (va_cwF (x := ({ cls := "java/util/List", name := "size", desc := "()I" } : Jvm.MethodName)) 0 hts (lw_F q1267 q283 q285 q83 q287) rfl rfl rfl (hK.fw (by decide)) (by decide +kernel) ⟨Nat.le_of_ble_eq_true rfl, Nat.le_of_ble_eq_true rfl⟩) (kx_pv hK hS hB (kx_rc hK hO_la (C := RJ2) (T := TJ2) (N := 3) rfl)) rfl rfl hl.1 rfl (lv_room (Nat.le_of_ble_eq_true rfl)) dX1_line_8 ⟨by first | exact Nat.le_of_ble_eq_true rfl | omega | (show _ ≤ _; omega) | (dsimp only [headSpec]; omega), by first | exact Nat.le_of_ble_eq_true rfl | omega | (show _ ≤ _; omega) | (dsimp only [headSpec]; omega)⟩) hS (fun z_4 locs_1 hz_3 hS_2 => ?_)
  subst z_4
  refine kx_cv0 (va_runS (As := [.int (kI ((ln : Nat) : Int)), .int (kI ((S.length : Nat) : Int))]) (rest := []) ⟨hx, hb, hml, hown, hts⟩ (m_X1_checkNumber l D s.heap (((ln : Nat) : Int)) (((S.length : Nat) : Int))  (by first | assumption | omega) (by first | assumption | omega) (by first | assumption | omega)) (va_cwS 2 hts (lw_S q1820 q1821 q79 q1822) rfl rfl rfl (by decide +kernel) ⟨Nat.le_of_ble_eq_true rfl, Nat.le_of_ble_eq_true rfl⟩) (kx_ps hK hS_2 hB) rfl rfl hl.1 rfl (lv_room (Nat.le_of_ble_eq_true rfl)) dX1_line_13 ⟨by first | exact Nat.le_of_ble_eq_true rfl | omega | (show _ ≤ _; omega) | (dsimp only [headSpec]; omega), by first | exact Nat.le_of_ble_eq_true rfl | omega | (show _ ≤ _; omega) | (dsimp only [headSpec]; omega)⟩) hS_2 (fun locs_5 hz_7 hS_6 => ?_)
  refine lv_aload_n hx hb dX1_line_16 rfl (lv_at hl 0 rfl) ?_
  refine kx_get (v := .ref st) (C := RX1) (T := TX1) (N := 4) hx hb hts in_X1 hown hK hO_x1 rfl 0 (by decide) q229 (fun _ h9 => h9) rfl dX1_line_17 ?_
  refine kx_get (v := .ref la) (C := RX2) (T := TX2) (N := 2) hx hb hts in_X2 hown hK hO_st rfl 0 (by decide) q168 (fun _ h9 => h9) rfl dX1_line_20 ?_
  refine lv_iload_n hx hb dX1_line_23 rfl (lv_at hl 1 rfl) ?_
  refine kx_cFr0 (va_runF (C := RJ2) (As := [.int (kI ((ln : Nat) : Int))]) (rest := []) (hK.at (ci := 9) rfl) ⟨hx, hb, hml, hown, hts⟩ (m_get l D s.heap la mc ea S.length F ln hO_la hP_kLs_ea (by first | assumption | omega)) (va_cwF (x := ({ cls := "java/util/List", name := "get", desc := "(I)Ljava/lang/Object;" } : Jvm.MethodName)) 1 hts (lw_F q1869 q292 q294 q83 q296) rfl rfl rfl (hK.fw (by decide)) (by decide +kernel) ⟨Nat.le_of_ble_eq_true rfl, Nat.le_of_ble_eq_true rfl⟩) (kx_pv hK hS_6 hB (kx_rc hK hO_la (C := RJ2) (T := TJ2) (N := 3) rfl)) rfl rfl hl.1 rfl (lv_room (Nat.le_of_ble_eq_true rfl)) dX1_line_24 ⟨by first | exact Nat.le_of_ble_eq_true rfl | omega | (show _ ≤ _; omega) | (dsimp only [headSpec]; omega), by first | exact Nat.le_of_ble_eq_true rfl | omega | (show _ ≤ _; omega) | (dsimp only [headSpec]; omega)⟩) hS_6 (fun z_12 locs_9 hz_11 hS_10 => ?_)
  subst z_12
  obtain ⟨ea_13, gp_13, gs_13, ho_13, hp_13, hs_13, he_13, hm_13⟩ := (hP_kLn_F ln (hln))
  refine kx_castS hx hb hts hown q1870 hK ho_13 rfl dX1_line_29 ?_
  exact kx_aret (z := fA F ln) hx hb hr (by first | exact Or.inl ⟨_, rfl⟩ | exact Or.inr ⟨_, rfl⟩) hlk (⟨rfl, by rfl⟩) hS_10 dX1_line_32

set_option maxHeartbeats 4000000 in
set_option maxRecDepth 100000 in
theorem m_X1_lines (l : Launch) (D : kG) (H : Heap) (x1 : Nat) (snp : Option Nat) (hi : Nat) (bu : Nat) (st : Nat) (la : Nat) (mc : Int) (ea : Nat) (F : Fts) (S : Ls) (gap : Int) (hO_x1 : kO D H x1 0 [.ref st, va_rf (snp), .ref hi, .ref bu]) (hO_st : kO D H st 1 [.ref la, .int (kI (gap))]) (hO_la : kO D H la 9 [.int (kI (mc)), .ref ea, .int (kI ((S.length : Nat) : Int))]) (hP_kLs_ea : kLs D H ea S.length F) (hP_kLn_F : kLn D H F S) (hok : LsOK S gap) : Met l yX1_lines (ws_ yX1_lines cX1_lines 1 (some .int)) ({ frames := 1, cells := 0, slots := 0, locals := 20 } : Room) (kPre D H [.ref x1]) (kQi (fun (r : Int) H' => H' = H ∧ r = ((S.length : Nat) : Int)) kNO) (0) (0) (kNO) := by
  refine Met.ofW (cc := cX1_lines) (maxL := 1) (ret := (some .int)) (by decide) rfl ?_
  intro p e s m args below meth c s₁ B hml hv
  obtain ⟨rfl, hH, hK⟩ := hv
  subst hH
  have hx := B.exec
  have hb := B.bytes
  have hr := B.returns
  have hts := atoms_spec (ws := ws_ yX1_lines cX1_lines 1 (some .int)) B.pre
  have hts : ∀ w ∈ lw_all, w.before _ s = true := fun w h => hts w (List.mem_cons_of_mem _ h)
  have hown : s.vm.findClass RX1 = some m.cls := findClass_of_methodNamed B.named
  have hlk := B.notSynchronized
  have hS : va_S kNO s.heap s.heap [] := va_S.rf
  have hB : ∀ q, kNO q → kBase D ≤ q := fun _ h => h.elim
  have hl := lv_entry ([.ref x1]) (n := 1) (Nat.le_of_ble_eq_true rfl)
  rw [lg_entry_eq]
  generalize (lg_sl ([.ref x1]) ++ List.replicate (1 - (lg_sl ([.ref x1])).length) Slot.unset).toArray = ls at hl ⊢
  have hl : lv_has ls 1 [(0, .ref x1)] := hl
  have hL8 := hok.1
  refine lv_aload_n hx hb dX1_lines_0 rfl (lv_at hl 0 rfl) ?_
  refine kx_get (v := .ref st) (C := RX1) (T := TX1) (N := 4) hx hb hts in_X1 hown hK hO_x1 rfl 0 (by decide) q229 (fun _ h9 => h9) rfl dX1_lines_1 ?_
  refine kx_get (v := .ref la) (C := RX2) (T := TX2) (N := 2) hx hb hts in_X2 hown hK hO_st rfl 0 (by decide) q168 (fun _ h9 => h9) rfl dX1_lines_4 ?_
  refine kx_cFi0 (va_runF (C := RJ2) (As := []) (rest := []) (hK.at (ci := 9) rfl) ⟨hx, hb, hml, hown, hts⟩ (m_J2_size l D s.heap la mc ea S.length hO_la ) (va_cwF (x := ({ cls := "java/util/List", name := "size", desc := "()I" } : Jvm.MethodName)) 0 hts (lw_F q1267 q283 q285 q83 q287) rfl rfl rfl (hK.fw (by decide)) (by decide +kernel) ⟨Nat.le_of_ble_eq_true rfl, Nat.le_of_ble_eq_true rfl⟩) (kx_pv hK hS hB (kx_rc hK hO_la (C := RJ2) (T := TJ2) (N := 3) rfl)) rfl rfl hl.1 rfl (lv_room (Nat.le_of_ble_eq_true rfl)) dX1_lines_7 ⟨by first | exact Nat.le_of_ble_eq_true rfl | omega | (show _ ≤ _; omega) | (dsimp only [headSpec]; omega), by first | exact Nat.le_of_ble_eq_true rfl | omega | (show _ ≤ _; omega) | (dsimp only [headSpec]; omega)⟩) hS (fun z_4 locs_1 hz_3 hS_2 => ?_)
  subst z_4
  exact kx_iret (z := ((S.length : Nat) : Int)) hx hb hr hlk (⟨rfl, by rfl⟩) hS_2 dX1_lines_12

set_option maxHeartbeats 4000000 in
set_option maxRecDepth 100000 in
theorem m_X1_gap (l : Launch) (D : kG) (H : Heap) (x1 : Nat) (snp : Option Nat) (hi : Nat) (bu : Nat) (st : Nat) (la : Nat) (mc : Int) (ea : Nat) (F : Fts) (S : Ls) (gap : Int) (hO_x1 : kO D H x1 0 [.ref st, va_rf (snp), .ref hi, .ref bu]) (hO_st : kO D H st 1 [.ref la, .int (kI (gap))]) (hO_la : kO D H la 9 [.int (kI (mc)), .ref ea, .int (kI ((S.length : Nat) : Int))]) (hP_kLs_ea : kLs D H ea S.length F) (hP_kLn_F : kLn D H F S) (hok : LsOK S gap) : Met l yX1_gap (ws_ yX1_gap cX1_gap 1 (some .int)) ({ frames := 0, cells := 0, slots := 0, locals := 0 } : Room) (kPre D H [.ref x1]) (kQi (fun (r : Int) H' => H' = H ∧ r = gap) kNO) (0) (0) (kNO) := by
  refine Met.ofW (cc := cX1_gap) (maxL := 1) (ret := (some .int)) (by decide) rfl ?_
  intro p e s m args below meth c s₁ B hml hv
  obtain ⟨rfl, hH, hK⟩ := hv
  subst hH
  have hx := B.exec
  have hb := B.bytes
  have hr := B.returns
  have hts := atoms_spec (ws := ws_ yX1_gap cX1_gap 1 (some .int)) B.pre
  have hts : ∀ w ∈ lw_all, w.before _ s = true := fun w h => hts w (List.mem_cons_of_mem _ h)
  have hown : s.vm.findClass RX1 = some m.cls := findClass_of_methodNamed B.named
  have hlk := B.notSynchronized
  have hS : va_S kNO s.heap s.heap [] := va_S.rf
  have hB : ∀ q, kNO q → kBase D ≤ q := fun _ h => h.elim
  have hl := lv_entry ([.ref x1]) (n := 1) (Nat.le_of_ble_eq_true rfl)
  rw [lg_entry_eq]
  generalize (lg_sl ([.ref x1]) ++ List.replicate (1 - (lg_sl ([.ref x1])).length) Slot.unset).toArray = ls at hl ⊢
  have hl : lv_has ls 1 [(0, .ref x1)] := hl
  have hL8 := hok.1
  refine lv_aload_n hx hb dX1_gap_0 rfl (lv_at hl 0 rfl) ?_
  refine kx_get (v := .ref st) (C := RX1) (T := TX1) (N := 4) hx hb hts in_X1 hown hK hO_x1 rfl 0 (by decide) q229 (fun _ h9 => h9) rfl dX1_gap_1 ?_
  refine kx_get (v := .int (kI (gap))) (C := RX2) (T := TX2) (N := 2) hx hb hts in_X2 hown hK hO_st rfl 1 (by decide) q172 (fun _ h9 => h9) rfl dX1_gap_4 ?_
  exact kx_iret (z := gap) hx hb hr hlk (⟨rfl, by rfl⟩) hS dX1_gap_7

set_option maxHeartbeats 4000000 in
set_option maxRecDepth 100000 in
theorem m_X1_labels (l : Launch) (D : kG) (H : Heap) (x1 : Nat) (snp : Option Nat) (hi : Nat) (bu : Nat) (st : Nat) (la : Nat) (mc : Int) (ea : Nat) (F : Fts) (S : Ls) (gap : Int) (hO_x1 : kO D H x1 0 [.ref st, va_rf (snp), .ref hi, .ref bu]) (hO_st : kO D H st 1 [.ref la, .int (kI (gap))]) (hO_la : kO D H la 9 [.int (kI (mc)), .ref ea, .int (kI ((S.length : Nat) : Int))]) (hP_kLs_ea : kLs D H ea S.length F) (hP_kLn_F : kLn D H F S) (hok : LsOK S gap) : Met l yX1_labels (ws_ yX1_labels cX1_labels 1 (some .int)) ({ frames := 4, cells := 0, slots := 0, locals := 86 } : Room) (kPre D H [.ref x1]) (kQi (fun (r : Int) H' => H' = H ∧ r = st_lab S) kNO) (0) (0) (kNO) := by
  refine Met.ofW (cc := cX1_labels) (maxL := 1) (ret := (some .int)) (by decide) rfl ?_
  intro p e s m args below meth c s₁ B hml hv
  obtain ⟨rfl, hH, hK⟩ := hv
  subst hH
  have hx := B.exec
  have hb := B.bytes
  have hr := B.returns
  have hts := atoms_spec (ws := ws_ yX1_labels cX1_labels 1 (some .int)) B.pre
  have hts : ∀ w ∈ lw_all, w.before _ s = true := fun w h => hts w (List.mem_cons_of_mem _ h)
  have hown : s.vm.findClass RX1 = some m.cls := findClass_of_methodNamed B.named
  have hlk := B.notSynchronized
  have hS : va_S kNO s.heap s.heap [] := va_S.rf
  have hB : ∀ q, kNO q → kBase D ≤ q := fun _ h => h.elim
  have hl := lv_entry ([.ref x1]) (n := 1) (Nat.le_of_ble_eq_true rfl)
  rw [lg_entry_eq]
  generalize (lg_sl ([.ref x1]) ++ List.replicate (1 - (lg_sl ([.ref x1])).length) Slot.unset).toArray = ls at hl ⊢
  have hl : lv_has ls 1 [(0, .ref x1)] := hl
  have hL8 := hok.1
  refine lv_aload_n hx hb dX1_labels_0 rfl (lv_at hl 0 rfl) ?_
  refine kx_get (v := .ref st) (C := RX1) (T := TX1) (N := 4) hx hb hts in_X1 hown hK hO_x1 rfl 0 (by decide) q229 (fun _ h9 => h9) rfl dX1_labels_1 ?_
  refine kx_ci0 (va_runV (As := []) (rest := []) ⟨hx, hb, hml, hown, hts⟩ (m_X2_labels l D s.heap st la mc ea F S gap hO_st hO_la hP_kLs_ea hP_kLn_F (by first | assumption | omega)) (cwV 0 hts (lw_V q1276 q1277 q1278 q80 q1279) rfl rfl rfl (by decide +kernel) ⟨Nat.le_of_ble_eq_true rfl, Nat.le_of_ble_eq_true rfl⟩) (kx_pv hK hS hB (kx_rc hK hO_st (C := RX2) (T := TX2) (N := 2) rfl)) rfl rfl hl.1 rfl (lv_room (Nat.le_of_ble_eq_true rfl)) dX1_labels_4 ⟨by first | exact Nat.le_of_ble_eq_true rfl | omega | (show _ ≤ _; omega) | (dsimp only [headSpec]; omega), by first | exact Nat.le_of_ble_eq_true rfl | omega | (show _ ≤ _; omega) | (dsimp only [headSpec]; omega)⟩) hS (fun z_4 locs_1 hz_3 hS_2 => ?_)
  subst z_4
  exact kx_iret (z := st_lab S) hx hb hr hlk (⟨rfl, by rfl⟩) hS_2 dX1_labels_7

set_option maxHeartbeats 4000000 in
set_option maxRecDepth 100000 in
theorem m_X1_levelOf (l : Launch) (D : kG) (H : Heap) (x1 : Nat) (snp : Option Nat) (hi : Nat) (bu : Nat) (st : Nat) (la : Nat) (mc : Int) (ea : Nat) (F : Fts) (S : Ls) (gap : Int) (ln : Nat) (hO_x1 : kO D H x1 0 [.ref st, va_rf (snp), .ref hi, .ref bu]) (hO_st : kO D H st 1 [.ref la, .int (kI (gap))]) (hO_la : kO D H la 9 [.int (kI (mc)), .ref ea, .int (kI ((S.length : Nat) : Int))]) (hP_kLs_ea : kLs D H ea S.length F) (hP_kLn_F : kLn D H F S) (hok : LsOK S gap) (hln : ln < S.length) : Met l yX1_levelOf (ws_ yX1_levelOf cX1_levelOf 2 (some .int)) ({ frames := 4, cells := 0, slots := 0, locals := 85 } : Room) (kPre D H [.ref x1, .int (kI ((ln : Nat) : Int))]) (kQi (fun (r : Int) H' => H' = H ∧ r = ln_lv (st_ln S ln)) kNO) (0) (0) (kNO) := by
  refine Met.ofW (cc := cX1_levelOf) (maxL := 2) (ret := (some .int)) (by decide) rfl ?_
  intro p e s m args below meth c s₁ B hml hv
  obtain ⟨rfl, hH, hK⟩ := hv
  subst hH
  have hx := B.exec
  have hb := B.bytes
  have hr := B.returns
  have hts := atoms_spec (ws := ws_ yX1_levelOf cX1_levelOf 2 (some .int)) B.pre
  have hts : ∀ w ∈ lw_all, w.before _ s = true := fun w h => hts w (List.mem_cons_of_mem _ h)
  have hown : s.vm.findClass RX1 = some m.cls := findClass_of_methodNamed B.named
  have hlk := B.notSynchronized
  have hS : va_S kNO s.heap s.heap [] := va_S.rf
  have hB : ∀ q, kNO q → kBase D ≤ q := fun _ h => h.elim
  have hl := lv_entry ([.ref x1, .int (kI ((ln : Nat) : Int))]) (n := 2) (Nat.le_of_ble_eq_true rfl)
  rw [lg_entry_eq]
  generalize (lg_sl ([.ref x1, .int (kI ((ln : Nat) : Int))]) ++ List.replicate (2 - (lg_sl ([.ref x1, .int (kI ((ln : Nat) : Int))])).length) Slot.unset).toArray = ls at hl ⊢
  have hl : lv_has ls 2 [(0, .ref x1), (1, .int (kI ((ln : Nat) : Int)))] := hl
  have hL8 := hok.1
  refine lv_aload_n hx hb dX1_levelOf_0 rfl (lv_at hl 0 rfl) ?_
  refine lv_iload_n hx hb dX1_levelOf_1 rfl (lv_at hl 1 rfl) ?_
  refine kx_cr0 (va_runV (As := [.int (kI ((ln : Nat) : Int))]) (rest := []) ⟨hx, hb, hml, hown, hts⟩ (m_X1_line l D s.heap x1 snp hi bu st la mc ea F S gap ln hO_x1 hO_st hO_la hP_kLs_ea hP_kLn_F (by first | assumption | omega) (by first | assumption | omega)) (cwV 1 hts (lw_V q1864 q1866 qs35 q79 q1867) rfl rfl rfl (by decide +kernel) ⟨Nat.le_of_ble_eq_true rfl, Nat.le_of_ble_eq_true rfl⟩) (kx_pv hK hS hB (kx_rc hK hO_x1 (C := RX1) (T := TX1) (N := 4) rfl)) rfl rfl hl.1 rfl (lv_room (Nat.le_of_ble_eq_true rfl)) dX1_levelOf_2 ⟨by first | exact Nat.le_of_ble_eq_true rfl | omega | (show _ ≤ _; omega) | (dsimp only [headSpec]; omega), by first | exact Nat.le_of_ble_eq_true rfl | omega | (show _ ≤ _; omega) | (dsimp only [headSpec]; omega)⟩) hS (fun z_4 locs_1 hz_3 hS_2 => ?_)
  subst z_4
  obtain ⟨ea_5, gp_5, gs_5, ho_5, hp_5, hs_5, he_5, hm_5⟩ := (hP_kLn_F ln (hln))
  refine kx_get (v := .int (kI (ln_lv (st_ln S ln)))) (C := RX4) (T := TX4) (N := 6) hx hb hts in_X4 hown hK ho_5 rfl 0 (by decide) q335 (fun _ h9 => h9) rfl dX1_levelOf_5 ?_
  exact kx_iret (z := ln_lv (st_ln S ln)) hx hb hr hlk (⟨rfl, by rfl⟩) hS_2 dX1_levelOf_8

set_option maxHeartbeats 4000000 in
set_option maxRecDepth 100000 in
theorem m_X1_stepsOf (l : Launch) (D : kG) (H : Heap) (x1 : Nat) (snp : Option Nat) (hi : Nat) (bu : Nat) (st : Nat) (la : Nat) (mc : Int) (ea : Nat) (F : Fts) (S : Ls) (gap : Int) (ln : Nat) (hO_x1 : kO D H x1 0 [.ref st, va_rf (snp), .ref hi, .ref bu]) (hO_st : kO D H st 1 [.ref la, .int (kI (gap))]) (hO_la : kO D H la 9 [.int (kI (mc)), .ref ea, .int (kI ((S.length : Nat) : Int))]) (hP_kLs_ea : kLs D H ea S.length F) (hP_kLn_F : kLn D H F S) (hok : LsOK S gap) (hln : ln < S.length) : Met l yX1_stepsOf (ws_ yX1_stepsOf cX1_stepsOf 2 (some .int)) ({ frames := 4, cells := 0, slots := 0, locals := 85 } : Room) (kPre D H [.ref x1, .int (kI ((ln : Nat) : Int))]) (kQi (fun (r : Int) H' => H' = H ∧ r = ((ln_n (st_ln S ln) : Nat) : Int)) kNO) (0) (0) (kNO) := by
  refine Met.ofW (cc := cX1_stepsOf) (maxL := 2) (ret := (some .int)) (by decide) rfl ?_
  intro p e s m args below meth c s₁ B hml hv
  obtain ⟨rfl, hH, hK⟩ := hv
  subst hH
  have hx := B.exec
  have hb := B.bytes
  have hr := B.returns
  have hts := atoms_spec (ws := ws_ yX1_stepsOf cX1_stepsOf 2 (some .int)) B.pre
  have hts : ∀ w ∈ lw_all, w.before _ s = true := fun w h => hts w (List.mem_cons_of_mem _ h)
  have hown : s.vm.findClass RX1 = some m.cls := findClass_of_methodNamed B.named
  have hlk := B.notSynchronized
  have hS : va_S kNO s.heap s.heap [] := va_S.rf
  have hB : ∀ q, kNO q → kBase D ≤ q := fun _ h => h.elim
  have hl := lv_entry ([.ref x1, .int (kI ((ln : Nat) : Int))]) (n := 2) (Nat.le_of_ble_eq_true rfl)
  rw [lg_entry_eq]
  generalize (lg_sl ([.ref x1, .int (kI ((ln : Nat) : Int))]) ++ List.replicate (2 - (lg_sl ([.ref x1, .int (kI ((ln : Nat) : Int))])).length) Slot.unset).toArray = ls at hl ⊢
  have hl : lv_has ls 2 [(0, .ref x1), (1, .int (kI ((ln : Nat) : Int)))] := hl
  have hL8 := hok.1
  refine lv_aload_n hx hb dX1_stepsOf_0 rfl (lv_at hl 0 rfl) ?_
  refine lv_iload_n hx hb dX1_stepsOf_1 rfl (lv_at hl 1 rfl) ?_
  refine kx_cr0 (va_runV (As := [.int (kI ((ln : Nat) : Int))]) (rest := []) ⟨hx, hb, hml, hown, hts⟩ (m_X1_line l D s.heap x1 snp hi bu st la mc ea F S gap ln hO_x1 hO_st hO_la hP_kLs_ea hP_kLn_F (by first | assumption | omega) (by first | assumption | omega)) (cwV 1 hts (lw_V q1864 q1866 qs35 q79 q1867) rfl rfl rfl (by decide +kernel) ⟨Nat.le_of_ble_eq_true rfl, Nat.le_of_ble_eq_true rfl⟩) (kx_pv hK hS hB (kx_rc hK hO_x1 (C := RX1) (T := TX1) (N := 4) rfl)) rfl rfl hl.1 rfl (lv_room (Nat.le_of_ble_eq_true rfl)) dX1_stepsOf_2 ⟨by first | exact Nat.le_of_ble_eq_true rfl | omega | (show _ ≤ _; omega) | (dsimp only [headSpec]; omega), by first | exact Nat.le_of_ble_eq_true rfl | omega | (show _ ≤ _; omega) | (dsimp only [headSpec]; omega)⟩) hS (fun z_4 locs_1 hz_3 hS_2 => ?_)
  subst z_4
  obtain ⟨ea_5, gp_5, gs_5, ho_5, hp_5, hs_5, he_5, hm_5⟩ := (hP_kLn_F ln (hln))
  refine kx_getN (v := .int (kI ((ln_n (st_ln S ln) : Nat) : Int))) (C := RX4) (T := TX4) (N := 6) hx hb hts in_X4 hown hK ho_5 rfl 3 (by decide) (hK.w q346 rfl) (fun _ h9 => h9) rfl dX1_stepsOf_5 ?_
  exact kx_iret (z := ((ln_n (st_ln S ln) : Nat) : Int)) hx hb hr hlk (⟨rfl, by rfl⟩) hS_2 dX1_stepsOf_8

set_option maxHeartbeats 4000000 in
set_option maxRecDepth 100000 in
theorem m_X1_labelOf (l : Launch) (D : kG) (H : Heap) (x1 : Nat) (snp : Option Nat) (hi : Nat) (bu : Nat) (st : Nat) (la : Nat) (mc : Int) (ea : Nat) (F : Fts) (S : Ls) (gap : Int) (ln : Nat) (hO_x1 : kO D H x1 0 [.ref st, va_rf (snp), .ref hi, .ref bu]) (hO_st : kO D H st 1 [.ref la, .int (kI (gap))]) (hO_la : kO D H la 9 [.int (kI (mc)), .ref ea, .int (kI ((S.length : Nat) : Int))]) (hP_kLs_ea : kLs D H ea S.length F) (hP_kLn_F : kLn D H F S) (hok : LsOK S gap) (hln : ln < S.length) : Met l yX1_labelOf (ws_ yX1_labelOf cX1_labelOf 2 (some .int)) ({ frames := 4, cells := 0, slots := 0, locals := 85 } : Room) (kPre D H [.ref x1, .int (kI ((ln : Nat) : Int))]) (kQi (fun (r : Int) H' => H' = H ∧ r = ln_lb (st_ln S ln)) kNO) (0) (0) (kNO) := by
  refine Met.ofW (cc := cX1_labelOf) (maxL := 2) (ret := (some .int)) (by decide) rfl ?_
  intro p e s m args below meth c s₁ B hml hv
  obtain ⟨rfl, hH, hK⟩ := hv
  subst hH
  have hx := B.exec
  have hb := B.bytes
  have hr := B.returns
  have hts := atoms_spec (ws := ws_ yX1_labelOf cX1_labelOf 2 (some .int)) B.pre
  have hts : ∀ w ∈ lw_all, w.before _ s = true := fun w h => hts w (List.mem_cons_of_mem _ h)
  have hown : s.vm.findClass RX1 = some m.cls := findClass_of_methodNamed B.named
  have hlk := B.notSynchronized
  have hS : va_S kNO s.heap s.heap [] := va_S.rf
  have hB : ∀ q, kNO q → kBase D ≤ q := fun _ h => h.elim
  have hl := lv_entry ([.ref x1, .int (kI ((ln : Nat) : Int))]) (n := 2) (Nat.le_of_ble_eq_true rfl)
  rw [lg_entry_eq]
  generalize (lg_sl ([.ref x1, .int (kI ((ln : Nat) : Int))]) ++ List.replicate (2 - (lg_sl ([.ref x1, .int (kI ((ln : Nat) : Int))])).length) Slot.unset).toArray = ls at hl ⊢
  have hl : lv_has ls 2 [(0, .ref x1), (1, .int (kI ((ln : Nat) : Int)))] := hl
  have hL8 := hok.1
  refine lv_aload_n hx hb dX1_labelOf_0 rfl (lv_at hl 0 rfl) ?_
  refine lv_iload_n hx hb dX1_labelOf_1 rfl (lv_at hl 1 rfl) ?_
  refine kx_cr0 (va_runV (As := [.int (kI ((ln : Nat) : Int))]) (rest := []) ⟨hx, hb, hml, hown, hts⟩ (m_X1_line l D s.heap x1 snp hi bu st la mc ea F S gap ln hO_x1 hO_st hO_la hP_kLs_ea hP_kLn_F (by first | assumption | omega) (by first | assumption | omega)) (cwV 1 hts (lw_V q1864 q1866 qs35 q79 q1867) rfl rfl rfl (by decide +kernel) ⟨Nat.le_of_ble_eq_true rfl, Nat.le_of_ble_eq_true rfl⟩) (kx_pv hK hS hB (kx_rc hK hO_x1 (C := RX1) (T := TX1) (N := 4) rfl)) rfl rfl hl.1 rfl (lv_room (Nat.le_of_ble_eq_true rfl)) dX1_labelOf_2 ⟨by first | exact Nat.le_of_ble_eq_true rfl | omega | (show _ ≤ _; omega) | (dsimp only [headSpec]; omega), by first | exact Nat.le_of_ble_eq_true rfl | omega | (show _ ≤ _; omega) | (dsimp only [headSpec]; omega)⟩) hS (fun z_4 locs_1 hz_3 hS_2 => ?_)
  subst z_4
  obtain ⟨ea_5, gp_5, gs_5, ho_5, hp_5, hs_5, he_5, hm_5⟩ := (hP_kLn_F ln (hln))
  refine kx_get (v := .int (kI (ln_lb (st_ln S ln)))) (C := RX4) (T := TX4) (N := 6) hx hb hts in_X4 hown hK ho_5 rfl 5 (by decide) q350 (fun _ h9 => h9) rfl dX1_labelOf_5 ?_
  exact kx_iret (z := ln_lb (st_ln S ln)) hx hb hr hlk (⟨rfl, by rfl⟩) hS_2 dX1_labelOf_8

