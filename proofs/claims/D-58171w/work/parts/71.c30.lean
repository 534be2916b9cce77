set_option maxHeartbeats 4000000 in
set_option maxRecDepth 100000 in
theorem m_X1_whyNotStepped (l : Launch) (D : kG) (H : Heap) (x1 : Nat) (snp : Option Nat) (hi : Nat) (bu : Nat) (st : Nat) (la : Nat) (mc : Int) (ea : Nat) (F : Fts) (S : Ls) (gap : Int) (ln : Nat) (d : Int) (hO_x1 : kO D H x1 0 [.ref st, va_rf (snp), .ref hi, .ref bu]) (hO_st : kO D H st 1 [.ref la, .int (kI (gap))]) (hO_la : kO D H la 9 [.int (kI (mc)), .ref ea, .int (kI ((S.length : Nat) : Int))]) (hP_kLs_ea : kLs D H ea S.length F) (hP_kLn_F : kLn D H F S) (hok : LsOK S gap) (hln : ln < S.length) (hd : 0 ≤ d ∧ d ≤ 7) : Met l yX1_whyNotStepped (ws_ yX1_whyNotStepped cX1_whyNotStepped 3 (some .int)) ({ frames := 8, cells := 6, slots := 14, locals := 3125 } : Room) (kPre D H [.ref x1, .int (kI ((ln : Nat) : Int)), .int (kI (d))]) (kQi (fun (r : Int) H' => (r = st_whyNot S ln d) ∧ (True)) (kNW H)) (6) (14) ((kNW H)) := by
  refine Met.ofW (cc := cX1_whyNotStepped) (maxL := 3) (ret := (some .int)) (by decide) rfl ?_
  intro p e s m args below meth c s₁ B hml hv
  obtain ⟨rfl, hH, hK⟩ := hv
  subst hH
  have hx := B.exec
  have hb := B.bytes
  have hr := B.returns
  have hts := atoms_spec (ws := ws_ yX1_whyNotStepped cX1_whyNotStepped 3 (some .int)) B.pre
  have hts : ∀ w ∈ lw_all, w.before _ s = true := fun w h => hts w (List.mem_cons_of_mem _ h)
  have hown : s.vm.findClass RX1 = some m.cls := findClass_of_methodNamed B.named
  have hlk := B.notSynchronized
  have hS : va_S (kNW s.heap) s.heap s.heap [] := va_S.rf
  have hB : ∀ q, (kNW s.heap) q → kBase D ≤ q := fun q h => Nat.le_trans hK.size h
  have hl := lv_entry ([.ref x1, .int (kI ((ln : Nat) : Int)), .int (kI (d))]) (n := 3) (Nat.le_of_ble_eq_true rfl)
  rw [lg_entry_eq]
  generalize (lg_sl ([.ref x1, .int (kI ((ln : Nat) : Int)), .int (kI (d))]) ++ List.replicate (3 - (lg_sl ([.ref x1, .int (kI ((ln : Nat) : Int)), .int (kI (d))])).length) Slot.unset).toArray = ls at hl ⊢
  have hl : lv_has ls 3 [(0, .ref x1), (1, .int (kI ((ln : Nat) : Int))), (2, .int (kI (d)))] := hl
  have hL8 := hok.1
  refine lv_aload_n hx hb dX1_whyNotStepped_0 rfl (lv_at hl 0 rfl) ?_
  refine lv_iload_n hx hb dX1_whyNotStepped_1 rfl (lv_at hl 1 rfl) ?_
  refine kx_cr0 (va_runV (As := [.int (kI ((ln : Nat) : Int))]) (rest := []) ⟨hx, hb, hml, hown, hts⟩ (m_X1_line l D s.heap x1 snp hi bu st la mc ea F S gap ln hO_x1 hO_st hO_la hP_kLs_ea hP_kLn_F (by first | assumption | omega) (by first | assumption | omega)) (cwV 1 hts (lw_V q1864 q1866 qs35 q79 q1867) rfl rfl rfl (by decide +kernel) ⟨Nat.le_of_ble_eq_true rfl, Nat.le_of_ble_eq_true rfl⟩) (kx_pv hK hS hB (kx_rc hK hO_x1 (C := RX1) (T := TX1) (N := 4) rfl)) rfl rfl hl.1 rfl (lv_room (Nat.le_of_ble_eq_true rfl)) dX1_whyNotStepped_2 ⟨by first | exact Nat.le_of_ble_eq_true rfl | omega | (show _ ≤ _; omega) | (dsimp only [headSpec]; omega), by first | exact Nat.le_of_ble_eq_true rfl | omega | (show _ ≤ _; omega) | (dsimp only [headSpec]; omega)⟩) hS (fun z_4 locs_1 hz_3 hS_2 => ?_)
  subst z_4
  refine lv_pop hx hb dX1_whyNotStepped_5 rfl ?_
  refine lv_iload_n hx hb dX1_whyNotStepped_6 rfl (lv_at hl 2 rfl) ?_
  refine kx_iconst hx hb dX1_whyNotStepped_7 ?_
  refine kx_bipush hx hb (by decide) dX1_whyNotStepped_8 ?_
  refine kx_cv0 (va_runS (As := [.int (kI (d)), .int (kI (0)), .int (kI (7))]) (rest := []) ⟨hx, hb, hml, hown, hts⟩ (m_X1_checkRange l D s.heap d 0 7  (by first | assumption | omega) (by first | assumption | omega) (by first | assumption | omega) (by first | assumption | omega)) (va_cwS 3 hts (lw_S q1838 q1839 q79 q1840) rfl rfl rfl (by decide +kernel) ⟨Nat.le_of_ble_eq_true rfl, Nat.le_of_ble_eq_true rfl⟩) (kx_ps hK hS_2 hB) rfl rfl hl.1 rfl (lv_room (Nat.le_of_ble_eq_true rfl)) dX1_whyNotStepped_10 ⟨by first | exact Nat.le_of_ble_eq_true rfl | omega | (show _ ≤ _; omega) | (dsimp only [headSpec]; omega), by first | exact Nat.le_of_ble_eq_true rfl | omega | (show _ ≤ _; omega) | (dsimp only [headSpec]; omega)⟩) hS_2 (fun locs_5 hz_7 hS_6 => ?_)
  refine lv_aload_n hx hb dX1_whyNotStepped_13 rfl (lv_at hl 0 rfl) ?_
  refine kx_get (v := .ref st) (C := RX1) (T := TX1) (N := 4) hx hb hts in_X1 hown hK hO_x1 rfl 0 (by decide) q229 (fun _ h9 => h9) rfl dX1_whyNotStepped_14 ?_
  refine lv_iload_n hx hb dX1_whyNotStepped_17 rfl (lv_at hl 1 rfl) ?_
  refine lv_iload_n hx hb dX1_whyNotStepped_18 rfl (lv_at hl 2 rfl) ?_
  refine kx_ci (va_runV (As := [.int (kI ((ln : Nat) : Int)), .int (kI (d))]) (rest := []) ⟨hx, hb, hml, hown, hts⟩ (m_X2_whyNotStepped l D s.heap st la mc ea F S gap ln d hO_st hO_la hP_kLs_ea hP_kLn_F (by first | assumption | omega) (by first | assumption | omega) (by first | assumption | omega)) (cwV 2 hts (lw_V q1871 q1679 q1680 q80 q1681) rfl rfl rfl (by decide +kernel) ⟨Nat.le_of_ble_eq_true rfl, Nat.le_of_ble_eq_true rfl⟩) (kx_pv hK hS_6 hB (kx_rc hK hO_st (C := RX2) (T := TX2) (N := 2) rfl)) rfl rfl hl.1 rfl (lv_room (Nat.le_of_ble_eq_true rfl)) dX1_whyNotStepped_19 ⟨by first | exact Nat.le_of_ble_eq_true rfl | omega | (show _ ≤ _; omega) | (dsimp only [headSpec]; omega), by first | exact Nat.le_of_ble_eq_true rfl | omega | (show _ ≤ _; omega) | (dsimp only [headSpec]; omega)⟩) hS_6 (fun q _ h => Nat.le_trans hS_6.1 h) (fun q h => Nat.le_trans hS_6.1 h) (fun z_14 H_12 locs_9 hz_11 hF_13 hS_10 => ?_)
  have hzf_15 := hF_13.1
  have hF_13 := hF_13.nw
  refine W.widen (k := 6) (n := 14) (Nat.le_of_ble_eq_true rfl) (Nat.le_of_ble_eq_true rfl) ?_
  obtain ⟨hv_16, hnw_17⟩ := hz_11
  subst z_14
  exact kx_iret (z := st_whyNot S ln d) hx hb hr hlk (⟨by rfl, by first | assumption | rfl | omega | grind⟩) hS_10 dX1_whyNotStepped_22

set_option maxHeartbeats 4000000 in
set_option maxRecDepth 100000 in
theorem m_X1_whyNotLabelled (l : Launch) (D : kG) (H : Heap) (x1 : Nat) (snp : Option Nat) (hi : Nat) (bu : Nat) (st : Nat) (la : Nat) (mc : Int) (ea : Nat) (F : Fts) (S : Ls) (gap : Int) (ln : Nat) (pl : Nat) (hO_x1 : kO D H x1 0 [.ref st, va_rf (snp), .ref hi, .ref bu]) (hO_st : kO D H st 1 [.ref la, .int (kI (gap))]) (hO_la : kO D H la 9 [.int (kI (mc)), .ref ea, .int (kI ((S.length : Nat) : Int))]) (hP_kLs_ea : kLs D H ea S.length F) (hP_kLn_F : kLn D H F S) (hok : LsOK S gap) (hln : ln < S.length) (hpl : pl ≤ ln_n (st_ln S ln)) : Met l yX1_whyNotLabelled (ws_ yX1_whyNotLabelled cX1_whyNotLabelled 3 (some .int)) ({ frames := 8, cells := 5, slots := 13, locals := 3124 } : Room) (kPre D H [.ref x1, .int (kI ((ln : Nat) : Int)), .int (kI ((pl : Nat) : Int))]) (kQi (fun (r : Int) H' => (r = st_whyL S gap ln pl) ∧ (True)) (kNW H)) (5) (13) ((kNW H)) := by
  refine Met.ofW (cc := cX1_whyNotLabelled) (maxL := 3) (ret := (some .int)) (by decide) rfl ?_
  intro p e s m args below meth c s₁ B hml hv
  obtain ⟨rfl, hH, hK⟩ := hv
  subst hH
  have hx := B.exec
  have hb := B.bytes
  have hr := B.returns
  have hts := atoms_spec (ws := ws_ yX1_whyNotLabelled cX1_whyNotLabelled 3 (some .int)) B.pre
  have hts : ∀ w ∈ lw_all, w.before _ s = true := fun w h => hts w (List.mem_cons_of_mem _ h)
  have hown : s.vm.findClass RX1 = some m.cls := findClass_of_methodNamed B.named
  have hlk := B.notSynchronized
  have hS : va_S (kNW s.heap) s.heap s.heap [] := va_S.rf
  have hB : ∀ q, (kNW s.heap) q → kBase D ≤ q := fun q h => Nat.le_trans hK.size h
  have hl := lv_entry ([.ref x1, .int (kI ((ln : Nat) : Int)), .int (kI ((pl : Nat) : Int))]) (n := 3) (Nat.le_of_ble_eq_true rfl)
  rw [lg_entry_eq]
  generalize (lg_sl ([.ref x1, .int (kI ((ln : Nat) : Int)), .int (kI ((pl : Nat) : Int))]) ++ List.replicate (3 - (lg_sl ([.ref x1, .int (kI ((ln : Nat) : Int)), .int (kI ((pl : Nat) : Int))])).length) Slot.unset).toArray = ls at hl ⊢
  have hl : lv_has ls 3 [(0, .ref x1), (1, .int (kI ((ln : Nat) : Int))), (2, .int (kI ((pl : Nat) : Int)))] := hl
  have hL8 := hok.1
  refine lv_aload_n hx hb dX1_whyNotLabelled_0 rfl (lv_at hl 0 rfl) ?_
  refine lv_iload_n hx hb dX1_whyNotLabelled_1 rfl (lv_at hl 1 rfl) ?_
  refine lv_iload_n hx hb dX1_whyNotLabelled_2 rfl (lv_at hl 2 rfl) ?_
  refine kx_cr0 (va_runV (As := [.int (kI ((ln : Nat) : Int)), .int (kI ((pl : Nat) : Int))]) (rest := []) ⟨hx, hb, hml, hown, hts⟩ (m_X1_lineWith l D s.heap x1 snp hi bu st la mc ea F S gap ln pl hO_x1 hO_st hO_la hP_kLs_ea hP_kLn_F (by first | assumption | omega) (by first | assumption | omega) (by first | assumption | omega)) (cwV 2 hts (lw_V q1900 q1902 qs36 q79 q1903) rfl rfl rfl (by decide +kernel) ⟨Nat.le_of_ble_eq_true rfl, Nat.le_of_ble_eq_true rfl⟩) (kx_pv hK hS hB (kx_rc hK hO_x1 (C := RX1) (T := TX1) (N := 4) rfl)) rfl rfl hl.1 rfl (lv_room (Nat.le_of_ble_eq_true rfl)) dX1_whyNotLabelled_3 ⟨by first | exact Nat.le_of_ble_eq_true rfl | omega | (show _ ≤ _; omega) | (dsimp only [headSpec]; omega), by first | exact Nat.le_of_ble_eq_true rfl | omega | (show _ ≤ _; omega) | (dsimp only [headSpec]; omega)⟩) hS (fun z_4 locs_1 hz_3 hS_2 => ?_)
  subst z_4
  refine lv_pop hx hb dX1_whyNotLabelled_6 rfl ?_
  refine lv_aload_n hx hb dX1_whyNotLabelled_7 rfl (lv_at hl 0 rfl) ?_
  refine kx_get (v := .ref st) (C := RX1) (T := TX1) (N := 4) hx hb hts in_X1 hown hK hO_x1 rfl 0 (by decide) q229 (fun _ h9 => h9) rfl dX1_whyNotLabelled_8 ?_
  refine lv_iload_n hx hb dX1_whyNotLabelled_11 rfl (lv_at hl 1 rfl) ?_
  refine lv_iload_n hx hb dX1_whyNotLabelled_12 rfl (lv_at hl 2 rfl) ?_
  refine kx_ci (va_runV (As := [.int (kI ((ln : Nat) : Int)), .int (kI ((pl : Nat) : Int))]) (rest := []) ⟨hx, hb, hml, hown, hts⟩ (m_X2_whyNotLabelled l D s.heap st la mc ea F S gap ln pl hO_st hO_la hP_kLs_ea hP_kLn_F (by first | assumption | omega) (by first | assumption | omega) (by first | assumption | omega)) (cwV 2 hts (lw_V q1904 q1069 q1070 q80 q1071) rfl rfl rfl (by decide +kernel) ⟨Nat.le_of_ble_eq_true rfl, Nat.le_of_ble_eq_true rfl⟩) (kx_pv hK hS_2 hB (kx_rc hK hO_st (C := RX2) (T := TX2) (N := 2) rfl)) rfl rfl hl.1 rfl (lv_room (Nat.le_of_ble_eq_true rfl)) dX1_whyNotLabelled_13 ⟨by first | exact Nat.le_of_ble_eq_true rfl | omega | (show _ ≤ _; omega) | (dsimp only [headSpec]; omega), by first | exact Nat.le_of_ble_eq_true rfl | omega | (show _ ≤ _; omega) | (dsimp only [headSpec]; omega)⟩) hS_2 (fun q _ h => Nat.le_trans hS_2.1 h) (fun q h => Nat.le_trans hS_2.1 h) (fun z_10 H_8 locs_5 hz_7 hF_9 hS_6 => ?_)
  have hzf_11 := hF_9.1
  have hF_9 := hF_9.nw
  refine W.widen (k := 5) (n := 13) (Nat.le_of_ble_eq_true rfl) (Nat.le_of_ble_eq_true rfl) ?_
  obtain ⟨hv_12, hnw_13⟩ := hz_7
  subst z_10
  exact kx_iret (z := st_whyL S gap ln pl) hx hb hr hlk (⟨by rfl, by first | assumption | rfl | omega | grind⟩) hS_6 dX1_whyNotLabelled_16

set_option maxHeartbeats 4000000 in
set_option maxRecDepth 100000 in
theorem m_X1_placesOf (l : Launch) (D : kG) (H : Heap) (x1 : Nat) (snp : Option Nat) (hi : Nat) (bu : Nat) (st : Nat) (la : Nat) (mc : Int) (ea : Nat) (F : Fts) (S : Ls) (gap : Int) (ln : Nat) (hO_x1 : kO D H x1 0 [.ref st, va_rf (snp), .ref hi, .ref bu]) (hO_st : kO D H st 1 [.ref la, .int (kI (gap))]) (hO_la : kO D H la 9 [.int (kI (mc)), .ref ea, .int (kI ((S.length : Nat) : Int))]) (hP_kLs_ea : kLs D H ea S.length F) (hP_kLn_F : kLn D H F S) (hok : LsOK S gap) (hln : ln < S.length) : Met l yX1_placesOf (ws_ yX1_placesOf cX1_placesOf 2 (some .int)) ({ frames := 9, cells := 305, slots := 793, locals := 3147 } : Room) (kPre D H [.ref x1, .int (kI ((ln : Nat) : Int))]) (kQi (fun (r : Int) H' => (r = st_places S gap ln) ∧ (True)) (kNW H)) (305) (793) ((kNW H)) := by
  refine Met.ofW (cc := cX1_placesOf) (maxL := 2) (ret := (some .int)) (by decide) rfl ?_
  intro p e s m args below meth c s₁ B hml hv
  obtain ⟨rfl, hH, hK⟩ := hv
  subst hH
  have hx := B.exec
  have hb := B.bytes
  have hr := B.returns
  have hts := atoms_spec (ws := ws_ yX1_placesOf cX1_placesOf 2 (some .int)) B.pre
  have hts : ∀ w ∈ lw_all, w.before _ s = true := fun w h => hts w (List.mem_cons_of_mem _ h)
  have hown : s.vm.findClass RX1 = some m.cls := findClass_of_methodNamed B.named
  have hlk := B.notSynchronized
  have hS : va_S (kNW s.heap) s.heap s.heap [] := va_S.rf
  have hB : ∀ q, (kNW s.heap) q → kBase D ≤ q := fun q h => Nat.le_trans hK.size h
  have hl := lv_entry ([.ref x1, .int (kI ((ln : Nat) : Int))]) (n := 2) (Nat.le_of_ble_eq_true rfl)
  rw [lg_entry_eq]
  generalize (lg_sl ([.ref x1, .int (kI ((ln : Nat) : Int))]) ++ List.replicate (2 - (lg_sl ([.ref x1, .int (kI ((ln : Nat) : Int))])).length) Slot.unset).toArray = ls at hl ⊢
  have hl : lv_has ls 2 [(0, .ref x1), (1, .int (kI ((ln : Nat) : Int)))] := hl
  have hL8 := hok.1
  refine lv_aload_n hx hb dX1_placesOf_0 rfl (lv_at hl 0 rfl) ?_
  refine lv_iload_n hx hb dX1_placesOf_1 rfl (lv_at hl 1 rfl) ?_
  refine kx_cr0 (va_runV (As := [.int (kI ((ln : Nat) : Int))]) (rest := []) ⟨hx, hb, hml, hown, hts⟩ (m_X1_line l D s.heap x1 snp hi bu st la mc ea F S gap ln hO_x1 hO_st hO_la hP_kLs_ea hP_kLn_F (by first | assumption | omega) (by first | assumption | omega)) (cwV 1 hts (lw_V q1864 q1866 qs35 q79 q1867) rfl rfl rfl (by decide +kernel) ⟨Nat.le_of_ble_eq_true rfl, Nat.le_of_ble_eq_true rfl⟩) (kx_pv hK hS hB (kx_rc hK hO_x1 (C := RX1) (T := TX1) (N := 4) rfl)) rfl rfl hl.1 rfl (lv_room (Nat.le_of_ble_eq_true rfl)) dX1_placesOf_2 ⟨by first | exact Nat.le_of_ble_eq_true rfl | omega | (show _ ≤ _; omega) | (dsimp only [headSpec]; omega), by first | exact Nat.le_of_ble_eq_true rfl | omega | (show _ ≤ _; omega) | (dsimp only [headSpec]; omega)⟩) hS (fun z_4 locs_1 hz_3 hS_2 => ?_)
  subst z_4
  refine lv_pop hx hb dX1_placesOf_5 rfl ?_
  refine lv_aload_n hx hb dX1_placesOf_6 rfl (lv_at hl 0 rfl) ?_
  refine kx_get (v := .ref st) (C := RX1) (T := TX1) (N := 4) hx hb hts in_X1 hown hK hO_x1 rfl 0 (by decide) q229 (fun _ h9 => h9) rfl dX1_placesOf_7 ?_
  refine lv_iload_n hx hb dX1_placesOf_10 rfl (lv_at hl 1 rfl) ?_
  refine kx_ci (va_runV (As := [.int (kI ((ln : Nat) : Int))]) (rest := []) ⟨hx, hb, hml, hown, hts⟩ (m_X2_placesOf l D s.heap st la mc ea F S gap ln hO_st hO_la hP_kLs_ea hP_kLn_F (by first | assumption | omega) (by first | assumption | omega)) (cwV 1 hts (lw_V q2060 q2061 q2062 q80 q2063) rfl rfl rfl (by decide +kernel) ⟨Nat.le_of_ble_eq_true rfl, Nat.le_of_ble_eq_true rfl⟩) (kx_pv hK hS_2 hB (kx_rc hK hO_st (C := RX2) (T := TX2) (N := 2) rfl)) rfl rfl hl.1 rfl (lv_room (Nat.le_of_ble_eq_true rfl)) dX1_placesOf_11 ⟨by first | exact Nat.le_of_ble_eq_true rfl | omega | (show _ ≤ _; omega) | (dsimp only [headSpec]; omega), by first | exact Nat.le_of_ble_eq_true rfl | omega | (show _ ≤ _; omega) | (dsimp only [headSpec]; omega)⟩) hS_2 (fun q _ h => Nat.le_trans hS_2.1 h) (fun q h => Nat.le_trans hS_2.1 h) (fun z_10 H_8 locs_5 hz_7 hF_9 hS_6 => ?_)
  have hzf_11 := hF_9.1
  have hF_9 := hF_9.nw
  refine W.widen (k := 305) (n := 793) (Nat.le_of_ble_eq_true rfl) (Nat.le_of_ble_eq_true rfl) ?_
  obtain ⟨hv_12, hnw_13⟩ := hz_7
  subst z_10
  exact kx_iret (z := st_places S gap ln) hx hb hr hlk (⟨by rfl, by first | assumption | rfl | omega | grind⟩) hS_6 dX1_placesOf_14

set_option maxHeartbeats 4000000 in
set_option maxRecDepth 100000 in
theorem m_X1_bestPlace (l : Launch) (D : kG) (H : Heap) (x1 : Nat) (snp : Option Nat) (hi : Nat) (bu : Nat) (st : Nat) (la : Nat) (mc : Int) (ea : Nat) (F : Fts) (S : Ls) (gap : Int) (ln : Nat) (hO_x1 : kO D H x1 0 [.ref st, va_rf (snp), .ref hi, .ref bu]) (hO_st : kO D H st 1 [.ref la, .int (kI (gap))]) (hO_la : kO D H la 9 [.int (kI (mc)), .ref ea, .int (kI ((S.length : Nat) : Int))]) (hP_kLs_ea : kLs D H ea S.length F) (hP_kLn_F : kLn D H F S) (hok : LsOK S gap) (hln : ln < S.length) : Met l yX1_bestPlace (ws_ yX1_bestPlace cX1_bestPlace 2 (some .int)) ({ frames := 9, cells := 369, slots := 1040, locals := 3147 } : Room) (kPre D H [.ref x1, .int (kI ((ln : Nat) : Int))]) (kQi (fun (r : Int) H' => (r = st_best S gap ln) ∧ (True)) (kNW H)) (369) (1040) ((kNW H)) := by
  refine Met.ofW (cc := cX1_bestPlace) (maxL := 2) (ret := (some .int)) (by decide) rfl ?_
  intro p e s m args below meth c s₁ B hml hv
  obtain ⟨rfl, hH, hK⟩ := hv
  subst hH
  have hx := B.exec
  have hb := B.bytes
  have hr := B.returns
  have hts := atoms_spec (ws := ws_ yX1_bestPlace cX1_bestPlace 2 (some .int)) B.pre
  have hts : ∀ w ∈ lw_all, w.before _ s = true := fun w h => hts w (List.mem_cons_of_mem _ h)
  have hown : s.vm.findClass RX1 = some m.cls := findClass_of_methodNamed B.named
  have hlk := B.notSynchronized
  have hS : va_S (kNW s.heap) s.heap s.heap [] := va_S.rf
  have hB : ∀ q, (kNW s.heap) q → kBase D ≤ q := fun q h => Nat.le_trans hK.size h
  have hl := lv_entry ([.ref x1, .int (kI ((ln : Nat) : Int))]) (n := 2) (Nat.le_of_ble_eq_true rfl)
  rw [lg_entry_eq]
  generalize (lg_sl ([.ref x1, .int (kI ((ln : Nat) : Int))]) ++ List.replicate (2 - (lg_sl ([.ref x1, .int (kI ((ln : Nat) : Int))])).length) Slot.unset).toArray = ls at hl ⊢
  have hl : lv_has ls 2 [(0, .ref x1), (1, .int (kI ((ln : Nat) : Int)))] := hl
  have hL8 := hok.1
  refine lv_aload_n hx hb dX1_bestPlace_0 rfl (lv_at hl 0 rfl) ?_
  refine lv_iload_n hx hb dX1_bestPlace_1 rfl (lv_at hl 1 rfl) ?_
  refine kx_cr0 (va_runV (As := [.int (kI ((ln : Nat) : Int))]) (rest := []) ⟨hx, hb, hml, hown, hts⟩ (m_X1_line l D s.heap x1 snp hi bu st la mc ea F S gap ln hO_x1 hO_st hO_la hP_kLs_ea hP_kLn_F (by first | assumption | omega) (by first | assumption | omega)) (cwV 1 hts (lw_V q1864 q1866 qs35 q79 q1867) rfl rfl rfl (by decide +kernel) ⟨Nat.le_of_ble_eq_true rfl, Nat.le_of_ble_eq_true rfl⟩) (kx_pv hK hS hB (kx_rc hK hO_x1 (C := RX1) (T := TX1) (N := 4) rfl)) rfl rfl hl.1 rfl (lv_room (Nat.le_of_ble_eq_true rfl)) dX1_bestPlace_2 ⟨by first | exact Nat.le_of_ble_eq_true rfl | omega | (show _ ≤ _; omega) | (dsimp only [headSpec]; omega), by first | exact Nat.le_of_ble_eq_true rfl | omega | (show _ ≤ _; omega) | (dsimp only [headSpec]; omega)⟩) hS (fun z_4 locs_1 hz_3 hS_2 => ?_)
  subst z_4
  refine lv_pop hx hb dX1_bestPlace_5 rfl ?_
  refine lv_aload_n hx hb dX1_bestPlace_6 rfl (lv_at hl 0 rfl) ?_
  refine kx_get (v := .ref st) (C := RX1) (T := TX1) (N := 4) hx hb hts in_X1 hown hK hO_x1 rfl 0 (by decide) q229 (fun _ h9 => h9) rfl dX1_bestPlace_7 ?_
  refine lv_iload_n hx hb dX1_bestPlace_10 rfl (lv_at hl 1 rfl) ?_
  refine kx_ci (va_runV (As := [.int (kI ((ln : Nat) : Int))]) (rest := []) ⟨hx, hb, hml, hown, hts⟩ (m_X2_bestPlace l D s.heap st la mc ea F S gap ln hO_st hO_la hP_kLs_ea hP_kLn_F (by first | assumption | omega) (by first | assumption | omega)) (cwV 1 hts (lw_V q1922 q1014 q1015 q80 q1016) rfl rfl rfl (by decide +kernel) ⟨Nat.le_of_ble_eq_true rfl, Nat.le_of_ble_eq_true rfl⟩) (kx_pv hK hS_2 hB (kx_rc hK hO_st (C := RX2) (T := TX2) (N := 2) rfl)) rfl rfl hl.1 rfl (lv_room (Nat.le_of_ble_eq_true rfl)) dX1_bestPlace_11 ⟨by first | exact Nat.le_of_ble_eq_true rfl | omega | (show _ ≤ _; omega) | (dsimp only [headSpec]; omega), by first | exact Nat.le_of_ble_eq_true rfl | omega | (show _ ≤ _; omega) | (dsimp only [headSpec]; omega)⟩) hS_2 (fun q _ h => Nat.le_trans hS_2.1 h) (fun q h => Nat.le_trans hS_2.1 h) (fun z_10 H_8 locs_5 hz_7 hF_9 hS_6 => ?_)
  have hzf_11 := hF_9.1
  have hF_9 := hF_9.nw
  refine W.widen (k := 369) (n := 1040) (Nat.le_of_ble_eq_true rfl) (Nat.le_of_ble_eq_true rfl) ?_
  obtain ⟨hv_12, hnw_13⟩ := hz_7
  subst z_10
  exact kx_iret (z := st_best S gap ln) hx hb hr hlk (⟨by rfl, by first | assumption | rfl | omega | grind⟩) hS_6 dX1_bestPlace_14

set_option maxHeartbeats 4000000 in
set_option maxRecDepth 100000 in
theorem x_lineWith_l (l : Launch) (hl9 : l.stackTraces = false) (D : kG) (H : Heap) (x1 : Nat) (snp : Option Nat) (hi : Nat) (bu : Nat) (st : Nat) (la : Nat) (mc : Int) (ea : Nat) (F : Fts) (S : Ls) (gap : Int) (li : Int) (nu : Int) (hO_x1 : kO D H x1 0 [.ref st, va_rf (snp), .ref hi, .ref bu]) (hO_st : kO D H st 1 [.ref la, .int (kI (gap))]) (hO_la : kO D H la 9 [.int (kI (mc)), .ref ea, .int (kI ((S.length : Nat) : Int))]) (hP_kLs_ea : kLs D H ea S.length F) (hP_kLn_F : kLn D H F S) (hok : LsOK S gap) (hr_li : -2147483648 ≤ li ∧ li ≤ 2147483647) (hnl : li < 0 ∨ (S.length : Int) ≤ li) (hr_nu : -2147483648 ≤ nu ∧ nu ≤ 2147483647) : vx_Met l yX1_lineWith (ws_ yX1_lineWith cX1_lineWith 4 (Option.some (Jvm.ClassFile.FieldType.object "ContourLabels$Line"))) ({ frames := 8, cells := 1, slots := 6, locals := 162 } : Room) (kPre D H [.ref x1, .int (kI (li)), .int (kI (nu))]) kFl (kXC "java/lang/IndexOutOfBoundsException" (kNW H)) (1) (6) (kNW H) := by
  refine vx_ofW (cc := cX1_lineWith) (maxL := 4) (ret := (Option.some (Jvm.ClassFile.FieldType.object "ContourLabels$Line"))) (by decide) rfl ?_
  intro p e s m args below meth c s₁ B hml hxt hv
  obtain ⟨rfl, hH, hK⟩ := hv
  subst hH
  have hx := B.exec
  have hb := B.bytes
  have hr := B.returns
  have hts := atoms_spec (ws := ws_ yX1_lineWith cX1_lineWith 4 (Option.some (Jvm.ClassFile.FieldType.object "ContourLabels$Line"))) B.pre
  have hts : ∀ w ∈ lw_all, w.before _ s = true := fun w h => hts w (List.mem_cons_of_mem _ h)
  have hown : s.vm.findClass RX1 = some m.cls := findClass_of_methodNamed B.named
  have hlk := B.notSynchronized
  have hS : va_S (kNW s.heap) s.heap s.heap [] := va_S.rf
  have hB : ∀ q, (kNW s.heap) q → kBase D ≤ q := fun q h => Nat.le_trans hK.size h
  have hl := lv_entry ([.ref x1, .int (kI (li)), .int (kI (nu))]) (n := 4) (Nat.le_of_ble_eq_true rfl)
  rw [lg_entry_eq]
  generalize (lg_sl ([.ref x1, .int (kI (li)), .int (kI (nu))]) ++ List.replicate (4 - (lg_sl ([.ref x1, .int (kI (li)), .int (kI (nu))])).length) Slot.unset).toArray = ls at hl ⊢
  have hl : lv_has ls 4 [(0, .ref x1), (1, .int (kI (li))), (2, .int (kI (nu)))] := hl
  have hL8 := hok.1
  refine lv_aload_n hx hb dX1_lineWith_0 rfl (lv_at hl 0 rfl) ?_
  refine lv_iload_n hx hb dX1_lineWith_1 rfl (lv_at hl 1 rfl) ?_
  exact kx_thr (vx_runV (As := [.int (kI (li))]) (rest := []) ⟨hx, hb, hml, hown, hts⟩ (x_line l hl9 D s.heap x1 snp hi bu st la mc ea F S gap li hO_x1 hO_st hO_la hP_kLs_ea hP_kLn_F (by first | assumption | omega) (by first | assumption | omega) (by first | assumption | omega)) (cwV 1 hts (lw_V q1864 q1866 qs35 q79 q1867) rfl rfl rfl (by decide +kernel) ⟨Nat.le_of_ble_eq_true rfl, Nat.le_of_ble_eq_true rfl⟩) (kx_pv hK hS hB (kx_rc hK hO_x1 (C := RX1) (T := TX1) (N := 4) rfl)) rfl rfl hl.1 rfl (lv_room (Nat.le_of_ble_eq_true rfl)) dX1_lineWith_2 ⟨by first | exact Nat.le_of_ble_eq_true rfl | omega | (show _ ≤ _; omega) | (dsimp only [headSpec]; omega), by first | exact Nat.le_of_ble_eq_true rfl | omega | (show _ ≤ _; omega) | (dsimp only [headSpec]; omega)⟩) hS (fun q _ h => by have h9 := hS.1; (try dsimp only at h); (try dsimp only); (try simp only [kNW] at h); (try simp only [kNW]); omega) (fun q h => by have h9 := hS.1; (try dsimp only at h); (try dsimp only); (try simp only [kNW] at h); (try simp only [kNW]); omega) hxt hlk (by first | exact Nat.le_of_ble_eq_true rfl | omega | (show _ ≤ _; omega) | (dsimp only [headSpec]; omega)) (by first | exact Nat.le_of_ble_eq_true rfl | omega | (show _ ≤ _; omega) | (dsimp only [headSpec]; omega))

set_option maxHeartbeats 4000000 in
set_option maxRecDepth 100000 in
theorem x_lineWith_n (l : Launch) (hl9 : l.stackTraces = false) (D : kG) (H : Heap) (x1 : Nat) (snp : Option Nat) (hi : Nat) (bu : Nat) (st : Nat) (la : Nat) (mc : Int) (ea : Nat) (F : Fts) (S : Ls) (gap : Int) (ln : Nat) (nu : Int) (hO_x1 : kO D H x1 0 [.ref st, va_rf (snp), .ref hi, .ref bu]) (hO_st : kO D H st 1 [.ref la, .int (kI (gap))]) (hO_la : kO D H la 9 [.int (kI (mc)), .ref ea, .int (kI ((S.length : Nat) : Int))]) (hP_kLs_ea : kLs D H ea S.length F) (hP_kLn_F : kLn D H F S) (hok : LsOK S gap) (hln : ln < S.length) (hr_nu : -2147483648 ≤ nu ∧ nu ≤ 2147483647) (hnn : nu < 0 ∨ (ln_n (st_ln S ln) : Int) < nu) : vx_Met l yX1_lineWith (ws_ yX1_lineWith cX1_lineWith 4 (Option.some (Jvm.ClassFile.FieldType.object "ContourLabels$Line"))) ({ frames := 7, cells := 1, slots := 6, locals := 141 } : Room) (kPre D H [.ref x1, .int (kI ((ln : Nat) : Int)), .int (kI (nu))]) kFl (kXC "java/lang/IndexOutOfBoundsException" (kNW H)) (1) (6) (kNW H) := by
  refine vx_ofW (cc := cX1_lineWith) (maxL := 4) (ret := (Option.some (Jvm.ClassFile.FieldType.object "ContourLabels$Line"))) (by decide) rfl ?_
  intro p e s m args below meth c s₁ B hml hxt hv
  obtain ⟨rfl, hH, hK⟩ := hv
  subst hH
  have hx := B.exec
  have hb := B.bytes
  have hr := B.returns
  have hts := atoms_spec (ws := ws_ yX1_lineWith cX1_lineWith 4 (Option.some (Jvm.ClassFile.FieldType.object "ContourLabels$Line"))) B.pre
  have hts : ∀ w ∈ lw_all, w.before _ s = true := fun w h => hts w (List.mem_cons_of_mem _ h)
  have hown : s.vm.findClass RX1 = some m.cls := findClass_of_methodNamed B.named
  have hlk := B.notSynchronized
  have hS : va_S (kNW s.heap) s.heap s.heap [] := va_S.rf
  have hB : ∀ q, (kNW s.heap) q → kBase D ≤ q := fun q h => Nat.le_trans hK.size h
  have hl := lv_entry ([.ref x1, .int (kI ((ln : Nat) : Int)), .int (kI (nu))]) (n := 4) (Nat.le_of_ble_eq_true rfl)
  rw [lg_entry_eq]
  generalize (lg_sl ([.ref x1, .int (kI ((ln : Nat) : Int)), .int (kI (nu))]) ++ List.replicate (4 - (lg_sl ([.ref x1, .int (kI ((ln : Nat) : Int)), .int (kI (nu))])).length) Slot.unset).toArray = ls at hl ⊢
  have hl : lv_has ls 4 [(0, .ref x1), (1, .int (kI ((ln : Nat) : Int))), (2, .int (kI (nu)))] := hl
  have hL8 := hok.1
  have hLn9 := hok.ln hln
  have hn60 := hLn9.n
  refine lv_aload_n hx hb dX1_lineWith_0 rfl (lv_at hl 0 rfl) ?_
  refine lv_iload_n hx hb dX1_lineWith_1 rfl (lv_at hl 1 rfl) ?_
  refine kx_cr0 (va_runV (As := [.int (kI ((ln : Nat) : Int))]) (rest := []) ⟨hx, hb, hml, hown, hts⟩ (m_X1_line l D s.heap x1 snp hi bu st la mc ea F S gap ln hO_x1 hO_st hO_la hP_kLs_ea hP_kLn_F (by first | assumption | omega) (by first | assumption | omega)) (cwV 1 hts (lw_V q1864 q1866 qs35 q79 q1867) rfl rfl rfl (by decide +kernel) ⟨Nat.le_of_ble_eq_true rfl, Nat.le_of_ble_eq_true rfl⟩) (kx_pv hK hS hB (kx_rc hK hO_x1 (C := RX1) (T := TX1) (N := 4) rfl)) rfl rfl hl.1 rfl (lv_room (Nat.le_of_ble_eq_true rfl)) dX1_lineWith_2 ⟨by first | exact Nat.le_of_ble_eq_true rfl | omega | (show _ ≤ _; omega) | (dsimp only [headSpec]; omega), by first | exact Nat.le_of_ble_eq_true rfl | omega | (show _ ≤ _; omega) | (dsimp only [headSpec]; omega)⟩) hS (fun z_4 locs_1 hz_3 hS_2 => ?_)
  subst z_4
  obtain ⟨ea_5, gp_5, gs_5, ho_5, hp_5, hs_5, he_5, hm_5⟩ := (hP_kLn_F ln (hln))
  refine lv_astore_n (lv' := [(3, .ref (fA F ln)), (0, .ref x1), (1, .int (kI ((ln : Nat) : Int))), (2, .int (kI (nu)))]) hx hb dX1_lineWith_5 rfl hl (by decide) rfl (fun ls hl => ?_)
  refine lv_iload_n hx hb dX1_lineWith_6 rfl (lv_at hl 3 rfl) ?_
  refine lv_aload_n hx hb dX1_lineWith_7 rfl (lv_at hl 0 rfl) ?_
  refine kx_getN (v := .int (kI ((ln_n (st_ln S ln) : Nat) : Int))) (C := RX4) (T := TX4) (N := 6) hx hb hts in_X4 hown hK ho_5 rfl 3 (by decide) (hK.w q346 rfl) (fun _ h9 => h9) rfl dX1_lineWith_8 ?_
  refine kx_iconst hx hb dX1_lineWith_11 ?_
  refine kx_iadd hx hb dX1_lineWith_12 ?_
  exact kx_thr (vx_runS (As := [.int (kI (nu)), .int (kI ((((ln_n (st_ln S ln) : Nat) : Int) + 1)))]) (rest := []) ⟨hx, hb, hml, hown, hts⟩ (x_checkNumber l hl9 D s.heap nu ((((ln_n (st_ln S ln) : Nat) : Int) + 1))  (by first | assumption | omega) (by first | assumption | omega) (by first | assumption | omega)) (va_cwS 2 hts (lw_S q1820 q1821 q79 q1822) rfl rfl rfl (by decide +kernel) ⟨Nat.le_of_ble_eq_true rfl, Nat.le_of_ble_eq_true rfl⟩) (kx_ps hK hS_2 hB) rfl rfl hl.1 rfl (lv_room (Nat.le_of_ble_eq_true rfl)) dX1_lineWith_13 ⟨by first | exact Nat.le_of_ble_eq_true rfl | omega | (show _ ≤ _; omega) | (dsimp only [headSpec]; omega), by first | exact Nat.le_of_ble_eq_true rfl | omega | (show _ ≤ _; omega) | (dsimp only [headSpec]; omega)⟩) hS_2 (fun q _ h => by have h9 := hS_2.1; (try dsimp only at h); (try dsimp only); (try simp only [kNW] at h); (try simp only [kNW]); omega) (fun q h => by have h9 := hS_2.1; (try dsimp only at h); (try dsimp only); (try simp only [kNW] at h); (try simp only [kNW]); omega) hxt hlk (by first | exact Nat.le_of_ble_eq_true rfl | omega | (show _ ≤ _; omega) | (dsimp only [headSpec]; omega)) (by first | exact Nat.le_of_ble_eq_true rfl | omega | (show _ ≤ _; omega) | (dsimp only [headSpec]; omega))

set_option maxHeartbeats 4000000 in
set_option maxRecDepth 100000 in
theorem x_pointOf_l (l : Launch) (hl9 : l.stackTraces = false) (D : kG) (H : Heap) (x1 : Nat) (snp : Option Nat) (hi : Nat) (bu : Nat) (st : Nat) (la : Nat) (mc : Int) (ea : Nat) (F : Fts) (S : Ls) (gap : Int) (li : Int) (nu : Int) (hO_x1 : kO D H x1 0 [.ref st, va_rf (snp), .ref hi, .ref bu]) (hO_st : kO D H st 1 [.ref la, .int (kI (gap))]) (hO_la : kO D H la 9 [.int (kI (mc)), .ref ea, .int (kI ((S.length : Nat) : Int))]) (hP_kLs_ea : kLs D H ea S.length F) (hP_kLn_F : kLn D H F S) (hok : LsOK S gap) (hr_li : -2147483648 ≤ li ∧ li ≤ 2147483647) (hnl : li < 0 ∨ (S.length : Int) ≤ li) (hr_nu : -2147483648 ≤ nu ∧ nu ≤ 2147483647) : vx_Met l yX1_pointOf (ws_ yX1_pointOf cX1_pointOf 3 (Option.some Jvm.ClassFile.FieldType.int)) ({ frames := 9, cells := 1, slots := 6, locals := 185 } : Room) (kPre D H [.ref x1, .int (kI (li)), .int (kI (nu))]) kFl (kXC "java/lang/IndexOutOfBoundsException" (kNW H)) (1) (6) (kNW H) := by
  refine vx_ofW (cc := cX1_pointOf) (maxL := 3) (ret := (Option.some Jvm.ClassFile.FieldType.int)) (by decide) rfl ?_
  intro p e s m args below meth c s₁ B hml hxt hv
  obtain ⟨rfl, hH, hK⟩ := hv
  subst hH
  have hx := B.exec
  have hb := B.bytes
  have hr := B.returns
  have hts := atoms_spec (ws := ws_ yX1_pointOf cX1_pointOf 3 (Option.some Jvm.ClassFile.FieldType.int)) B.pre
  have hts : ∀ w ∈ lw_all, w.before _ s = true := fun w h => hts w (List.mem_cons_of_mem _ h)
  have hown : s.vm.findClass RX1 = some m.cls := findClass_of_methodNamed B.named
  have hlk := B.notSynchronized
  have hS : va_S (kNW s.heap) s.heap s.heap [] := va_S.rf
  have hB : ∀ q, (kNW s.heap) q → kBase D ≤ q := fun q h => Nat.le_trans hK.size h
  have hl := lv_entry ([.ref x1, .int (kI (li)), .int (kI (nu))]) (n := 3) (Nat.le_of_ble_eq_true rfl)
  rw [lg_entry_eq]
  generalize (lg_sl ([.ref x1, .int (kI (li)), .int (kI (nu))]) ++ List.replicate (3 - (lg_sl ([.ref x1, .int (kI (li)), .int (kI (nu))])).length) Slot.unset).toArray = ls at hl ⊢
  have hl : lv_has ls 3 [(0, .ref x1), (1, .int (kI (li))), (2, .int (kI (nu)))] := hl
  have hL8 := hok.1
  refine lv_aload_n hx hb dX1_pointOf_0 rfl (lv_at hl 0 rfl) ?_
  refine lv_iload_n hx hb dX1_pointOf_1 rfl (lv_at hl 1 rfl) ?_
  refine lv_iload_n hx hb dX1_pointOf_2 rfl (lv_at hl 2 rfl) ?_
  exact kx_thr (vx_runV (As := [.int (kI (li)), .int (kI (nu))]) (rest := []) ⟨hx, hb, hml, hown, hts⟩ (x_lineWith_l l hl9 D s.heap x1 snp hi bu st la mc ea F S gap li nu hO_x1 hO_st hO_la hP_kLs_ea hP_kLn_F (by first | assumption | omega) (by first | assumption | omega) (by first | assumption | omega) (by first | assumption | omega)) (cwV 2 hts (lw_V q1900 q1902 qs36 q79 q1903) rfl rfl rfl (by decide +kernel) ⟨Nat.le_of_ble_eq_true rfl, Nat.le_of_ble_eq_true rfl⟩) (kx_pv hK hS hB (kx_rc hK hO_x1 (C := RX1) (T := TX1) (N := 4) rfl)) rfl rfl hl.1 rfl (lv_room (Nat.le_of_ble_eq_true rfl)) dX1_pointOf_3 ⟨by first | exact Nat.le_of_ble_eq_true rfl | omega | (show _ ≤ _; omega) | (dsimp only [headSpec]; omega), by first | exact Nat.le_of_ble_eq_true rfl | omega | (show _ ≤ _; omega) | (dsimp only [headSpec]; omega)⟩) hS (fun q _ h => by have h9 := hS.1; (try dsimp only at h); (try dsimp only); (try simp only [kNW] at h); (try simp only [kNW]); omega) (fun q h => by have h9 := hS.1; (try dsimp only at h); (try dsimp only); (try simp only [kNW] at h); (try simp only [kNW]); omega) hxt hlk (by first | exact Nat.le_of_ble_eq_true rfl | omega | (show _ ≤ _; omega) | (dsimp only [headSpec]; omega)) (by first | exact Nat.le_of_ble_eq_true rfl | omega | (show _ ≤ _; omega) | (dsimp only [headSpec]; omega))

set_option maxHeartbeats 4000000 in
set_option maxRecDepth 100000 in
theorem x_pointOf_n (l : Launch) (hl9 : l.stackTraces = false) (D : kG) (H : Heap) (x1 : Nat) (snp : Option Nat) (hi : Nat) (bu : Nat) (st : Nat) (la : Nat) (mc : Int) (ea : Nat) (F : Fts) (S : Ls) (gap : Int) (ln : Nat) (nu : Int) (hO_x1 : kO D H x1 0 [.ref st, va_rf (snp), .ref hi, .ref bu]) (hO_st : kO D H st 1 [.ref la, .int (kI (gap))]) (hO_la : kO D H la 9 [.int (kI (mc)), .ref ea, .int (kI ((S.length : Nat) : Int))]) (hP_kLs_ea : kLs D H ea S.length F) (hP_kLn_F : kLn D H F S) (hok : LsOK S gap) (hln : ln < S.length) (hr_nu : -2147483648 ≤ nu ∧ nu ≤ 2147483647) (hnn : nu < 0 ∨ (ln_n (st_ln S ln) : Int) < nu) : vx_Met l yX1_pointOf (ws_ yX1_pointOf cX1_pointOf 3 (Option.some Jvm.ClassFile.FieldType.int)) ({ frames := 8, cells := 1, slots := 6, locals := 164 } : Room) (kPre D H [.ref x1, .int (kI ((ln : Nat) : Int)), .int (kI (nu))]) kFl (kXC "java/lang/IndexOutOfBoundsException" (kNW H)) (1) (6) (kNW H) := by
  refine vx_ofW (cc := cX1_pointOf) (maxL := 3) (ret := (Option.some Jvm.ClassFile.FieldType.int)) (by decide) rfl ?_
  intro p e s m args below meth c s₁ B hml hxt hv
  obtain ⟨rfl, hH, hK⟩ := hv
  subst hH
  have hx := B.exec
  have hb := B.bytes
  have hr := B.returns
  have hts := atoms_spec (ws := ws_ yX1_pointOf cX1_pointOf 3 (Option.some Jvm.ClassFile.FieldType.int)) B.pre
  have hts : ∀ w ∈ lw_all, w.before _ s = true := fun w h => hts w (List.mem_cons_of_mem _ h)
  have hown : s.vm.findClass RX1 = some m.cls := findClass_of_methodNamed B.named
  have hlk := B.notSynchronized
  have hS : va_S (kNW s.heap) s.heap s.heap [] := va_S.rf
  have hB : ∀ q, (kNW s.heap) q → kBase D ≤ q := fun q h => Nat.le_trans hK.size h
  have hl := lv_entry ([.ref x1, .int (kI ((ln : Nat) : Int)), .int (kI (nu))]) (n := 3) (Nat.le_of_ble_eq_true rfl)
  rw [lg_entry_eq]
  generalize (lg_sl ([.ref x1, .int (kI ((ln : Nat) : Int)), .int (kI (nu))]) ++ List.replicate (3 - (lg_sl ([.ref x1, .int (kI ((ln : Nat) : Int)), .int (kI (nu))])).length) Slot.unset).toArray = ls at hl ⊢
  have hl : lv_has ls 3 [(0, .ref x1), (1, .int (kI ((ln : Nat) : Int))), (2, .int (kI (nu)))] := hl
  have hL8 := hok.1
  refine lv_aload_n hx hb dX1_pointOf_0 rfl (lv_at hl 0 rfl) ?_
  refine lv_iload_n hx hb dX1_pointOf_1 rfl (lv_at hl 1 rfl) ?_
  refine lv_iload_n hx hb dX1_pointOf_2 rfl (lv_at hl 2 rfl) ?_
  exact kx_thr (vx_runV (As := [.int (kI ((ln : Nat) : Int)), .int (kI (nu))]) (rest := []) ⟨hx, hb, hml, hown, hts⟩ (x_lineWith_n l hl9 D s.heap x1 snp hi bu st la mc ea F S gap ln nu hO_x1 hO_st hO_la hP_kLs_ea hP_kLn_F (by first | assumption | omega) (by first | assumption | omega) (by first | assumption | omega) (by first | assumption | omega)) (cwV 2 hts (lw_V q1900 q1902 qs36 q79 q1903) rfl rfl rfl (by decide +kernel) ⟨Nat.le_of_ble_eq_true rfl, Nat.le_of_ble_eq_true rfl⟩) (kx_pv hK hS hB (kx_rc hK hO_x1 (C := RX1) (T := TX1) (N := 4) rfl)) rfl rfl hl.1 rfl (lv_room (Nat.le_of_ble_eq_true rfl)) dX1_pointOf_3 ⟨by first | exact Nat.le_of_ble_eq_true rfl | omega | (show _ ≤ _; omega) | (dsimp only [headSpec]; omega), by first | exact Nat.le_of_ble_eq_true rfl | omega | (show _ ≤ _; omega) | (dsimp only [headSpec]; omega)⟩) hS (fun q _ h => by have h9 := hS.1; (try dsimp only at h); (try dsimp only); (try simp only [kNW] at h); (try simp only [kNW]); omega) (fun q h => by have h9 := hS.1; (try dsimp only at h); (try dsimp only); (try simp only [kNW] at h); (try simp only [kNW]); omega) hxt hlk (by first | exact Nat.le_of_ble_eq_true rfl | omega | (show _ ≤ _; omega) | (dsimp only [headSpec]; omega)) (by first | exact Nat.le_of_ble_eq_true rfl | omega | (show _ ≤ _; omega) | (dsimp only [headSpec]; omega))

set_option maxHeartbeats 4000000 in
set_option maxRecDepth 100000 in
theorem x_bendAt_l (l : Launch) (hl9 : l.stackTraces = false) (D : kG) (H : Heap) (x1 : Nat) (snp : Option Nat) (hi : Nat) (bu : Nat) (st : Nat) (la : Nat) (mc : Int) (ea : Nat) (F : Fts) (S : Ls) (gap : Int) (li : Int) (nu : Int) (hO_x1 : kO D H x1 0 [.ref st, va_rf (snp), .ref hi, .ref bu]) (hO_st : kO D H st 1 [.ref la, .int (kI (gap))]) (hO_la : kO D H la 9 [.int (kI (mc)), .ref ea, .int (kI ((S.length : Nat) : Int))]) (hP_kLs_ea : kLs D H ea S.length F) (hP_kLn_F : kLn D H F S) (hok : LsOK S gap) (hr_li : -2147483648 ≤ li ∧ li ≤ 2147483647) (hnl : li < 0 ∨ (S.length : Int) ≤ li) (hr_nu : -2147483648 ≤ nu ∧ nu ≤ 2147483647) : vx_Met l yX1_bendAt (ws_ yX1_bendAt cX1_bendAt 3 (Option.some Jvm.ClassFile.FieldType.int)) ({ frames := 9, cells := 1, slots := 6, locals := 185 } : Room) (kPre D H [.ref x1, .int (kI (li)), .int (kI (nu))]) kFl (kXC "java/lang/IndexOutOfBoundsException" (kNW H)) (1) (6) (kNW H) := by
  refine vx_ofW (cc := cX1_bendAt) (maxL := 3) (ret := (Option.some Jvm.ClassFile.FieldType.int)) (by decide) rfl ?_
  intro p e s m args below meth c s₁ B hml hxt hv
  obtain ⟨rfl, hH, hK⟩ := hv
  subst hH
  have hx := B.exec
  have hb := B.bytes
  have hr := B.returns
  have hts := atoms_spec (ws := ws_ yX1_bendAt cX1_bendAt 3 (Option.some Jvm.ClassFile.FieldType.int)) B.pre
  have hts : ∀ w ∈ lw_all, w.before _ s = true := fun w h => hts w (List.mem_cons_of_mem _ h)
  have hown : s.vm.findClass RX1 = some m.cls := findClass_of_methodNamed B.named
  have hlk := B.notSynchronized
  have hS : va_S (kNW s.heap) s.heap s.heap [] := va_S.rf
  have hB : ∀ q, (kNW s.heap) q → kBase D ≤ q := fun q h => Nat.le_trans hK.size h
  have hl := lv_entry ([.ref x1, .int (kI (li)), .int (kI (nu))]) (n := 3) (Nat.le_of_ble_eq_true rfl)
  rw [lg_entry_eq]
  generalize (lg_sl ([.ref x1, .int (kI (li)), .int (kI (nu))]) ++ List.replicate (3 - (lg_sl ([.ref x1, .int (kI (li)), .int (kI (nu))])).length) Slot.unset).toArray = ls at hl ⊢
  have hl : lv_has ls 3 [(0, .ref x1), (1, .int (kI (li))), (2, .int (kI (nu)))] := hl
  have hL8 := hok.1
  refine lv_aload_n hx hb dX1_bendAt_0 rfl (lv_at hl 0 rfl) ?_
  refine lv_iload_n hx hb dX1_bendAt_1 rfl (lv_at hl 1 rfl) ?_
  refine lv_iload_n hx hb dX1_bendAt_2 rfl (lv_at hl 2 rfl) ?_
  exact kx_thr (vx_runV (As := [.int (kI (li)), .int (kI (nu))]) (rest := []) ⟨hx, hb, hml, hown, hts⟩ (x_lineWith_l l hl9 D s.heap x1 snp hi bu st la mc ea F S gap li nu hO_x1 hO_st hO_la hP_kLs_ea hP_kLn_F (by first | assumption | omega) (by first | assumption | omega) (by first | assumption | omega) (by first | assumption | omega)) (cwV 2 hts (lw_V q1900 q1902 qs36 q79 q1903) rfl rfl rfl (by decide +kernel) ⟨Nat.le_of_ble_eq_true rfl, Nat.le_of_ble_eq_true rfl⟩) (kx_pv hK hS hB (kx_rc hK hO_x1 (C := RX1) (T := TX1) (N := 4) rfl)) rfl rfl hl.1 rfl (lv_room (Nat.le_of_ble_eq_true rfl)) dX1_bendAt_3 ⟨by first | exact Nat.le_of_ble_eq_true rfl | omega | (show _ ≤ _; omega) | (dsimp only [headSpec]; omega), by first | exact Nat.le_of_ble_eq_true rfl | omega | (show _ ≤ _; omega) | (dsimp only [headSpec]; omega)⟩) hS (fun q _ h => by have h9 := hS.1; (try dsimp only at h); (try dsimp only); (try simp only [kNW] at h); (try simp only [kNW]); omega) (fun q h => by have h9 := hS.1; (try dsimp only at h); (try dsimp only); (try simp only [kNW] at h); (try simp only [kNW]); omega) hxt hlk (by first | exact Nat.le_of_ble_eq_true rfl | omega | (show _ ≤ _; omega) | (dsimp only [headSpec]; omega)) (by first | exact Nat.le_of_ble_eq_true rfl | omega | (show _ ≤ _; omega) | (dsimp only [headSpec]; omega))

set_option maxHeartbeats 4000000 in
set_option maxRecDepth 100000 in
theorem x_bendAt_n (l : Launch) (hl9 : l.stackTraces = false) (D : kG) (H : Heap) (x1 : Nat) (snp : Option Nat) (hi : Nat) (bu : Nat) (st : Nat) (la : Nat) (mc : Int) (ea : Nat) (F : Fts) (S : Ls) (gap : Int) (ln : Nat) (nu : Int) (hO_x1 : kO D H x1 0 [.ref st, va_rf (snp), .ref hi, .ref bu]) (hO_st : kO D H st 1 [.ref la, .int (kI (gap))]) (hO_la : kO D H la 9 [.int (kI (mc)), .ref ea, .int (kI ((S.length : Nat) : Int))]) (hP_kLs_ea : kLs D H ea S.length F) (hP_kLn_F : kLn D H F S) (hok : LsOK S gap) (hln : ln < S.length) (hr_nu : -2147483648 ≤ nu ∧ nu ≤ 2147483647) (hnn : nu < 0 ∨ (ln_n (st_ln S ln) : Int) < nu) : vx_Met l yX1_bendAt (ws_ yX1_bendAt cX1_bendAt 3 (Option.some Jvm.ClassFile.FieldType.int)) ({ frames := 8, cells := 1, slots := 6, locals := 164 } : Room) (kPre D H [.ref x1, .int (kI ((ln : Nat) : Int)), .int (kI (nu))]) kFl (kXC "java/lang/IndexOutOfBoundsException" (kNW H)) (1) (6) (kNW H) := by
  refine vx_ofW (cc := cX1_bendAt) (maxL := 3) (ret := (Option.some Jvm.ClassFile.FieldType.int)) (by decide) rfl ?_
  intro p e s m args below meth c s₁ B hml hxt hv
  obtain ⟨rfl, hH, hK⟩ := hv
  subst hH
  have hx := B.exec
  have hb := B.bytes
  have hr := B.returns
  have hts := atoms_spec (ws := ws_ yX1_bendAt cX1_bendAt 3 (Option.some Jvm.ClassFile.FieldType.int)) B.pre
  have hts : ∀ w ∈ lw_all, w.before _ s = true := fun w h => hts w (List.mem_cons_of_mem _ h)
  have hown : s.vm.findClass RX1 = some m.cls := findClass_of_methodNamed B.named
  have hlk := B.notSynchronized
  have hS : va_S (kNW s.heap) s.heap s.heap [] := va_S.rf
  have hB : ∀ q, (kNW s.heap) q → kBase D ≤ q := fun q h => Nat.le_trans hK.size h
  have hl := lv_entry ([.ref x1, .int (kI ((ln : Nat) : Int)), .int (kI (nu))]) (n := 3) (Nat.le_of_ble_eq_true rfl)
  rw [lg_entry_eq]
  generalize (lg_sl ([.ref x1, .int (kI ((ln : Nat) : Int)), .int (kI (nu))]) ++ List.replicate (3 - (lg_sl ([.ref x1, .int (kI ((ln : Nat) : Int)), .int (kI (nu))])).length) Slot.unset).toArray = ls at hl ⊢
  have hl : lv_has ls 3 [(0, .ref x1), (1, .int (kI ((ln : Nat) : Int))), (2, .int (kI (nu)))] := hl
  have hL8 := hok.1
  refine lv_aload_n hx hb dX1_bendAt_0 rfl (lv_at hl 0 rfl) ?_
  refine lv_iload_n hx hb dX1_bendAt_1 rfl (lv_at hl 1 rfl) ?_
  refine lv_iload_n hx hb dX1_bendAt_2 rfl (lv_at hl 2 rfl) ?_
  exact kx_thr (vx_runV (As := [.int (kI ((ln : Nat) : Int)), .int (kI (nu))]) (rest := []) ⟨hx, hb, hml, hown, hts⟩ (x_lineWith_n l hl9 D s.heap x1 snp hi bu st la mc ea F S gap ln nu hO_x1 hO_st hO_la hP_kLs_ea hP_kLn_F (by first | assumption | omega) (by first | assumption | omega) (by first | assumption | omega) (by first | assumption | omega)) (cwV 2 hts (lw_V q1900 q1902 qs36 q79 q1903) rfl rfl rfl (by decide +kernel) ⟨Nat.le_of_ble_eq_true rfl, Nat.le_of_ble_eq_true rfl⟩) (kx_pv hK hS hB (kx_rc hK hO_x1 (C := RX1) (T := TX1) (N := 4) rfl)) rfl rfl hl.1 rfl (lv_room (Nat.le_of_ble_eq_true rfl)) dX1_bendAt_3 ⟨by first | exact Nat.le_of_ble_eq_true rfl | omega | (show _ ≤ _; omega) | (dsimp only [headSpec]; omega), by first | exact Nat.le_of_ble_eq_true rfl | omega | (show _ ≤ _; omega) | (dsimp only [headSpec]; omega)⟩) hS (fun q _ h => by have h9 := hS.1; (try dsimp only at h); (try dsimp only); (try simp only [kNW] at h); (try simp only [kNW]); omega) (fun q h => by have h9 := hS.1; (try dsimp only at h); (try dsimp only); (try simp only [kNW] at h); (try simp only [kNW]); omega) hxt hlk (by first | exact Nat.le_of_ble_eq_true rfl | omega | (show _ ≤ _; omega) | (dsimp only [headSpec]; omega)) (by first | exact Nat.le_of_ble_eq_true rfl | omega | (show _ ≤ _; omega) | (dsimp only [headSpec]; omega))

set_option maxHeartbeats 4000000 in
set_option maxRecDepth 100000 in
theorem x_bendOf_l (l : Launch) (hl9 : l.stackTraces = false) (D : kG) (H : Heap) (x1 : Nat) (snp : Option Nat) (hi : Nat) (bu : Nat) (st : Nat) (la : Nat) (mc : Int) (ea : Nat) (F : Fts) (S : Ls) (gap : Int) (li : Int) (nu : Int) (hO_x1 : kO D H x1 0 [.ref st, va_rf (snp), .ref hi, .ref bu]) (hO_st : kO D H st 1 [.ref la, .int (kI (gap))]) (hO_la : kO D H la 9 [.int (kI (mc)), .ref ea, .int (kI ((S.length : Nat) : Int))]) (hP_kLs_ea : kLs D H ea S.length F) (hP_kLn_F : kLn D H F S) (hok : LsOK S gap) (hr_li : -2147483648 ≤ li ∧ li ≤ 2147483647) (hnl : li < 0 ∨ (S.length : Int) ≤ li) (hr_nu : -2147483648 ≤ nu ∧ nu ≤ 2147483647) : vx_Met l yX1_bendOf (ws_ yX1_bendOf cX1_bendOf 4 (Option.some Jvm.ClassFile.FieldType.int)) ({ frames := 9, cells := 1, slots := 6, locals := 185 } : Room) (kPre D H [.ref x1, .int (kI (li)), .int (kI (nu))]) kFl (kXC "java/lang/IndexOutOfBoundsException" (kNW H)) (1) (6) (kNW H) := by
  refine vx_ofW (cc := cX1_bendOf) (maxL := 4) (ret := (Option.some Jvm.ClassFile.FieldType.int)) (by decide) rfl ?_
  intro p e s m args below meth c s₁ B hml hxt hv
  obtain ⟨rfl, hH, hK⟩ := hv
  subst hH
  have hx := B.exec
  have hb := B.bytes
  have hr := B.returns
  have hts := atoms_spec (ws := ws_ yX1_bendOf cX1_bendOf 4 (Option.some Jvm.ClassFile.FieldType.int)) B.pre
  have hts : ∀ w ∈ lw_all, w.before _ s = true := fun w h => hts w (List.mem_cons_of_mem _ h)
  have hown : s.vm.findClass RX1 = some m.cls := findClass_of_methodNamed B.named
  have hlk := B.notSynchronized
  have hS : va_S (kNW s.heap) s.heap s.heap [] := va_S.rf
  have hB : ∀ q, (kNW s.heap) q → kBase D ≤ q := fun q h => Nat.le_trans hK.size h
  have hl := lv_entry ([.ref x1, .int (kI (li)), .int (kI (nu))]) (n := 4) (Nat.le_of_ble_eq_true rfl)
  rw [lg_entry_eq]
  generalize (lg_sl ([.ref x1, .int (kI (li)), .int (kI (nu))]) ++ List.replicate (4 - (lg_sl ([.ref x1, .int (kI (li)), .int (kI (nu))])).length) Slot.unset).toArray = ls at hl ⊢
  have hl : lv_has ls 4 [(0, .ref x1), (1, .int (kI (li))), (2, .int (kI (nu)))] := hl
  have hL8 := hok.1
  refine lv_aload_n hx hb dX1_bendOf_0 rfl (lv_at hl 0 rfl) ?_
  refine lv_iload_n hx hb dX1_bendOf_1 rfl (lv_at hl 1 rfl) ?_
  refine lv_iload_n hx hb dX1_bendOf_2 rfl (lv_at hl 2 rfl) ?_
  exact kx_thr (vx_runV (As := [.int (kI (li)), .int (kI (nu))]) (rest := []) ⟨hx, hb, hml, hown, hts⟩ (x_lineWith_l l hl9 D s.heap x1 snp hi bu st la mc ea F S gap li nu hO_x1 hO_st hO_la hP_kLs_ea hP_kLn_F (by first | assumption | omega) (by first | assumption | omega) (by first | assumption | omega) (by first | assumption | omega)) (cwV 2 hts (lw_V q1900 q1902 qs36 q79 q1903) rfl rfl rfl (by decide +kernel) ⟨Nat.le_of_ble_eq_true rfl, Nat.le_of_ble_eq_true rfl⟩) (kx_pv hK hS hB (kx_rc hK hO_x1 (C := RX1) (T := TX1) (N := 4) rfl)) rfl rfl hl.1 rfl (lv_room (Nat.le_of_ble_eq_true rfl)) dX1_bendOf_3 ⟨by first | exact Nat.le_of_ble_eq_true rfl | omega | (show _ ≤ _; omega) | (dsimp only [headSpec]; omega), by first | exact Nat.le_of_ble_eq_true rfl | omega | (show _ ≤ _; omega) | (dsimp only [headSpec]; omega)⟩) hS (fun q _ h => by have h9 := hS.1; (try dsimp only at h); (try dsimp only); (try simp only [kNW] at h); (try simp only [kNW]); omega) (fun q h => by have h9 := hS.1; (try dsimp only at h); (try dsimp only); (try simp only [kNW] at h); (try simp only [kNW]); omega) hxt hlk (by first | exact Nat.le_of_ble_eq_true rfl | omega | (show _ ≤ _; omega) | (dsimp only [headSpec]; omega)) (by first | exact Nat.le_of_ble_eq_true rfl | omega | (show _ ≤ _; omega) | (dsimp only [headSpec]; omega))

set_option maxHeartbeats 4000000 in
set_option maxRecDepth 100000 in
theorem x_bendOf_n (l : Launch) (hl9 : l.stackTraces = false) (D : kG) (H : Heap) (x1 : Nat) (snp : Option Nat) (hi : Nat) (bu : Nat) (st : Nat) (la : Nat) (mc : Int) (ea : Nat) (F : Fts) (S : Ls) (gap : Int) (ln : Nat) (nu : Int) (hO_x1 : kO D H x1 0 [.ref st, va_rf (snp), .ref hi, .ref bu]) (hO_st : kO D H st 1 [.ref la, .int (kI (gap))]) (hO_la : kO D H la 9 [.int (kI (mc)), .ref ea, .int (kI ((S.length : Nat) : Int))]) (hP_kLs_ea : kLs D H ea S.length F) (hP_kLn_F : kLn D H F S) (hok : LsOK S gap) (hln : ln < S.length) (hr_nu : -2147483648 ≤ nu ∧ nu ≤ 2147483647) (hnn : nu < 0 ∨ (ln_n (st_ln S ln) : Int) < nu) : vx_Met l yX1_bendOf (ws_ yX1_bendOf cX1_bendOf 4 (Option.some Jvm.ClassFile.FieldType.int)) ({ frames := 8, cells := 1, slots := 6, locals := 164 } : Room) (kPre D H [.ref x1, .int (kI ((ln : Nat) : Int)), .int (kI (nu))]) kFl (kXC "java/lang/IndexOutOfBoundsException" (kNW H)) (1) (6) (kNW H) := by
  refine vx_ofW (cc := cX1_bendOf) (maxL := 4) (ret := (Option.some Jvm.ClassFile.FieldType.int)) (by decide) rfl ?_
  intro p e s m args below meth c s₁ B hml hxt hv
  obtain ⟨rfl, hH, hK⟩ := hv
  subst hH
  have hx := B.exec
  have hb := B.bytes
  have hr := B.returns
  have hts := atoms_spec (ws := ws_ yX1_bendOf cX1_bendOf 4 (Option.some Jvm.ClassFile.FieldType.int)) B.pre
  have hts : ∀ w ∈ lw_all, w.before _ s = true := fun w h => hts w (List.mem_cons_of_mem _ h)
  have hown : s.vm.findClass RX1 = some m.cls := findClass_of_methodNamed B.named
  have hlk := B.notSynchronized
  have hS : va_S (kNW s.heap) s.heap s.heap [] := va_S.rf
  have hB : ∀ q, (kNW s.heap) q → kBase D ≤ q := fun q h => Nat.le_trans hK.size h
  have hl := lv_entry ([.ref x1, .int (kI ((ln : Nat) : Int)), .int (kI (nu))]) (n := 4) (Nat.le_of_ble_eq_true rfl)
  rw [lg_entry_eq]
  generalize (lg_sl ([.ref x1, .int (kI ((ln : Nat) : Int)), .int (kI (nu))]) ++ List.replicate (4 - (lg_sl ([.ref x1, .int (kI ((ln : Nat) : Int)), .int (kI (nu))])).length) Slot.unset).toArray = ls at hl ⊢
  have hl : lv_has ls 4 [(0, .ref x1), (1, .int (kI ((ln : Nat) : Int))), (2, .int (kI (nu)))] := hl
  have hL8 := hok.1
  refine lv_aload_n hx hb dX1_bendOf_0 rfl (lv_at hl 0 rfl) ?_
  refine lv_iload_n hx hb dX1_bendOf_1 rfl (lv_at hl 1 rfl) ?_
  refine lv_iload_n hx hb dX1_bendOf_2 rfl (lv_at hl 2 rfl) ?_
  exact kx_thr (vx_runV (As := [.int (kI ((ln : Nat) : Int)), .int (kI (nu))]) (rest := []) ⟨hx, hb, hml, hown, hts⟩ (x_lineWith_n l hl9 D s.heap x1 snp hi bu st la mc ea F S gap ln nu hO_x1 hO_st hO_la hP_kLs_ea hP_kLn_F (by first | assumption | omega) (by first | assumption | omega) (by first | assumption | omega) (by first | assumption | omega)) (cwV 2 hts (lw_V q1900 q1902 qs36 q79 q1903) rfl rfl rfl (by decide +kernel) ⟨Nat.le_of_ble_eq_true rfl, Nat.le_of_ble_eq_true rfl⟩) (kx_pv hK hS hB (kx_rc hK hO_x1 (C := RX1) (T := TX1) (N := 4) rfl)) rfl rfl hl.1 rfl (lv_room (Nat.le_of_ble_eq_true rfl)) dX1_bendOf_3 ⟨by first | exact Nat.le_of_ble_eq_true rfl | omega | (show _ ≤ _; omega) | (dsimp only [headSpec]; omega), by first | exact Nat.le_of_ble_eq_true rfl | omega | (show _ ≤ _; omega) | (dsimp only [headSpec]; omega)⟩) hS (fun q _ h => by have h9 := hS.1; (try dsimp only at h); (try dsimp only); (try simp only [kNW] at h); (try simp only [kNW]); omega) (fun q h => by have h9 := hS.1; (try dsimp only at h); (try dsimp only); (try simp only [kNW] at h); (try simp only [kNW]); omega) hxt hlk (by first | exact Nat.le_of_ble_eq_true rfl | omega | (show _ ≤ _; omega) | (dsimp only [headSpec]; omega)) (by first | exact Nat.le_of_ble_eq_true rfl | omega | (show _ ≤ _; omega) | (dsimp only [headSpec]; omega))

set_option maxHeartbeats 4000000 in
set_option maxRecDepth 100000 in
theorem x_whyNotLabelled_l (l : Launch) (hl9 : l.stackTraces = false) (D : kG) (H : Heap) (x1 : Nat) (snp : Option Nat) (hi : Nat) (bu : Nat) (st : Nat) (la : Nat) (mc : Int) (ea : Nat) (F : Fts) (S : Ls) (gap : Int) (li : Int) (nu : Int) (hO_x1 : kO D H x1 0 [.ref st, va_rf (snp), .ref hi, .ref bu]) (hO_st : kO D H st 1 [.ref la, .int (kI (gap))]) (hO_la : kO D H la 9 [.int (kI (mc)), .ref ea, .int (kI ((S.length : Nat) : Int))]) (hP_kLs_ea : kLs D H ea S.length F) (hP_kLn_F : kLn D H F S) (hok : LsOK S gap) (hr_li : -2147483648 ≤ li ∧ li ≤ 2147483647) (hnl : li < 0 ∨ (S.length : Int) ≤ li) (hr_nu : -2147483648 ≤ nu ∧ nu ≤ 2147483647) : vx_Met l yX1_whyNotLabelled (ws_ yX1_whyNotLabelled cX1_whyNotLabelled 3 (Option.some Jvm.ClassFile.FieldType.int)) ({ frames := 9, cells := 1, slots := 6, locals := 185 } : Room) (kPre D H [.ref x1, .int (kI (li)), .int (kI (nu))]) kFl (kXC "java/lang/IndexOutOfBoundsException" (kNW H)) (1) (6) (kNW H) := by
  refine vx_ofW (cc := cX1_whyNotLabelled) (maxL := 3) (ret := (Option.some Jvm.ClassFile.FieldType.int)) (by decide) rfl ?_
  intro p e s m args below meth c s₁ B hml hxt hv
  obtain ⟨rfl, hH, hK⟩ := hv
  subst hH
  have hx := B.exec
  have hb := B.bytes
  have hr := B.returns
  have hts := atoms_spec (ws := ws_ yX1_whyNotLabelled cX1_whyNotLabelled 3 (Option.some Jvm.ClassFile.FieldType.int)) B.pre
  have hts : ∀ w ∈ lw_all, w.before _ s = true := fun w h => hts w (List.mem_cons_of_mem _ h)
  have hown : s.vm.findClass RX1 = some m.cls := findClass_of_methodNamed B.named
  have hlk := B.notSynchronized
  have hS : va_S (kNW s.heap) s.heap s.heap [] := va_S.rf
  have hB : ∀ q, (kNW s.heap) q → kBase D ≤ q := fun q h => Nat.le_trans hK.size h
  have hl := lv_entry ([.ref x1, .int (kI (li)), .int (kI (nu))]) (n := 3) (Nat.le_of_ble_eq_true rfl)
  rw [lg_entry_eq]
  generalize (lg_sl ([.ref x1, .int (kI (li)), .int (kI (nu))]) ++ List.replicate (3 - (lg_sl ([.ref x1, .int (kI (li)), .int (kI (nu))])).length) Slot.unset).toArray = ls at hl ⊢
  have hl : lv_has ls 3 [(0, .ref x1), (1, .int (kI (li))), (2, .int (kI (nu)))] := hl
  have hL8 := hok.1
  refine lv_aload_n hx hb dX1_whyNotLabelled_0 rfl (lv_at hl 0 rfl) ?_
  refine lv_iload_n hx hb dX1_whyNotLabelled_1 rfl (lv_at hl 1 rfl) ?_
  refine lv_iload_n hx hb dX1_whyNotLabelled_2 rfl (lv_at hl 2 rfl) ?_
  exact kx_thr (vx_runV (As := [.int (kI (li)), .int (kI (nu))]) (rest := []) ⟨hx, hb, hml, hown, hts⟩ (x_lineWith_l l hl9 D s.heap x1 snp hi bu st la mc ea F S gap li nu hO_x1 hO_st hO_la hP_kLs_ea hP_kLn_F (by first | assumption | omega) (by first | assumption | omega) (by first | assumption | omega) (by first | assumption | omega)) (cwV 2 hts (lw_V q1900 q1902 qs36 q79 q1903) rfl rfl rfl (by decide +kernel) ⟨Nat.le_of_ble_eq_true rfl, Nat.le_of_ble_eq_true rfl⟩) (kx_pv hK hS hB (kx_rc hK hO_x1 (C := RX1) (T := TX1) (N := 4) rfl)) rfl rfl hl.1 rfl (lv_room (Nat.le_of_ble_eq_true rfl)) dX1_whyNotLabelled_3 ⟨by first | exact Nat.le_of_ble_eq_true rfl | omega | (show _ ≤ _; omega) | (dsimp only [headSpec]; omega), by first | exact Nat.le_of_ble_eq_true rfl | omega | (show _ ≤ _; omega) | (dsimp only [headSpec]; omega)⟩) hS (fun q _ h => by have h9 := hS.1; (try dsimp only at h); (try dsimp only); (try simp only [kNW] at h); (try simp only [kNW]); omega) (fun q h => by have h9 := hS.1; (try dsimp only at h); (try dsimp only); (try simp only [kNW] at h); (try simp only [kNW]); omega) hxt hlk (by first | exact Nat.le_of_ble_eq_true rfl | omega | (show _ ≤ _; omega) | (dsimp only [headSpec]; omega)) (by first | exact Nat.le_of_ble_eq_true rfl | omega | (show _ ≤ _; omega) | (dsimp only [headSpec]; omega))

set_option maxHeartbeats 4000000 in
set_option maxRecDepth 100000 in
theorem x_whyNotLabelled_n (l : Launch) (hl9 : l.stackTraces = false) (D : kG) (H : Heap) (x1 : Nat) (snp : Option Nat) (hi : Nat) (bu : Nat) (st : Nat) (la : Nat) (mc : Int) (ea : Nat) (F : Fts) (S : Ls) (gap : Int) (ln : Nat) (nu : Int) (hO_x1 : kO D H x1 0 [.ref st, va_rf (snp), .ref hi, .ref bu]) (hO_st : kO D H st 1 [.ref la, .int (kI (gap))]) (hO_la : kO D H la 9 [.int (kI (mc)), .ref ea, .int (kI ((S.length : Nat) : Int))]) (hP_kLs_ea : kLs D H ea S.length F) (hP_kLn_F : kLn D H F S) (hok : LsOK S gap) (hln : ln < S.length) (hr_nu : -2147483648 ≤ nu ∧ nu ≤ 2147483647) (hnn : nu < 0 ∨ (ln_n (st_ln S ln) : Int) < nu) : vx_Met l yX1_whyNotLabelled (ws_ yX1_whyNotLabelled cX1_whyNotLabelled 3 (Option.some Jvm.ClassFile.FieldType.int)) ({ frames := 8, cells := 1, slots := 6, locals := 164 } : Room) (kPre D H [.ref x1, .int (kI ((ln : Nat) : Int)), .int (kI (nu))]) kFl (kXC "java/lang/IndexOutOfBoundsException" (kNW H)) (1) (6) (kNW H) := by
  refine vx_ofW (cc := cX1_whyNotLabelled) (maxL := 3) (ret := (Option.some Jvm.ClassFile.FieldType.int)) (by decide) rfl ?_
  intro p e s m args below meth c s₁ B hml hxt hv
  obtain ⟨rfl, hH, hK⟩ := hv
  subst hH
  have hx := B.exec
  have hb := B.bytes
  have hr := B.returns
  have hts := atoms_spec (ws := ws_ yX1_whyNotLabelled cX1_whyNotLabelled 3 (Option.some Jvm.ClassFile.FieldType.int)) B.pre
  have hts : ∀ w ∈ lw_all, w.before _ s = true := fun w h => hts w (List.mem_cons_of_mem _ h)
  have hown : s.vm.findClass RX1 = some m.cls := findClass_of_methodNamed B.named
  have hlk := B.notSynchronized
  have hS : va_S (kNW s.heap) s.heap s.heap [] := va_S.rf
  have hB : ∀ q, (kNW s.heap) q → kBase D ≤ q := fun q h => Nat.le_trans hK.size h
  have hl := lv_entry ([.ref x1, .int (kI ((ln : Nat) : Int)), .int (kI (nu))]) (n := 3) (Nat.le_of_ble_eq_true rfl)
  rw [lg_entry_eq]
  generalize (lg_sl ([.ref x1, .int (kI ((ln : Nat) : Int)), .int (kI (nu))]) ++ List.replicate (3 - (lg_sl ([.ref x1, .int (kI ((ln : Nat) : Int)), .int (kI (nu))])).length) Slot.unset).toArray = ls at hl ⊢
  have hl : lv_has ls 3 [(0, .ref x1), (1, .int (kI ((ln : Nat) : Int))), (2, .int (kI (nu)))] := hl
  have hL8 := hok.1
  refine lv_aload_n hx hb dX1_whyNotLabelled_0 rfl (lv_at hl 0 rfl) ?_
  refine lv_iload_n hx hb dX1_whyNotLabelled_1 rfl (lv_at hl 1 rfl) ?_
  refine lv_iload_n hx hb dX1_whyNotLabelled_2 rfl (lv_at hl 2 rfl) ?_
  exact kx_thr (vx_runV (As := [.int (kI ((ln : Nat) : Int)), .int (kI (nu))]) (rest := []) ⟨hx, hb, hml, hown, hts⟩ (x_lineWith_n l hl9 D s.heap x1 snp hi bu st la mc ea F S gap ln nu hO_x1 hO_st hO_la hP_kLs_ea hP_kLn_F (by first | assumption | omega) (by first | assumption | omega) (by first | assumption | omega) (by first | assumption | omega)) (cwV 2 hts (lw_V q1900 q1902 qs36 q79 q1903) rfl rfl rfl (by decide +kernel) ⟨Nat.le_of_ble_eq_true rfl, Nat.le_of_ble_eq_true rfl⟩) (kx_pv hK hS hB (kx_rc hK hO_x1 (C := RX1) (T := TX1) (N := 4) rfl)) rfl rfl hl.1 rfl (lv_room (Nat.le_of_ble_eq_true rfl)) dX1_whyNotLabelled_3 ⟨by first | exact Nat.le_of_ble_eq_true rfl | omega | (show _ ≤ _; omega) | (dsimp only [headSpec]; omega), by first | exact Nat.le_of_ble_eq_true rfl | omega | (show _ ≤ _; omega) | (dsimp only [headSpec]; omega)⟩) hS (fun q _ h => by have h9 := hS.1; (try dsimp only at h); (try dsimp only); (try simp only [kNW] at h); (try simp only [kNW]); omega) (fun q h => by have h9 := hS.1; (try dsimp only at h); (try dsimp only); (try simp only [kNW] at h); (try simp only [kNW]); omega) hxt hlk (by first | exact Nat.le_of_ble_eq_true rfl | omega | (show _ ≤ _; omega) | (dsimp only [headSpec]; omega)) (by first | exact Nat.le_of_ble_eq_true rfl | omega | (show _ ≤ _; omega) | (dsimp only [headSpec]; omega))

set_option maxHeartbeats 4000000 in
set_option maxRecDepth 100000 in
theorem x_lineAt (l : Launch) (hl9 : l.stackTraces = false) (D : kG) (H : Heap) (x1 : Nat) (snp : Option Nat) (hi : Nat) (bu : Nat) (st : Nat) (la : Nat) (mc : Int) (ea : Nat) (F : Fts) (S : Ls) (gap : Int) (x : Int) (hO_x1 : kO D H x1 0 [.ref st, va_rf (snp), .ref hi, .ref bu]) (hO_st : kO D H st 1 [.ref la, .int (kI (gap))]) (hO_la : kO D H la 9 [.int (kI (mc)), .ref ea, .int (kI ((S.length : Nat) : Int))]) (hP_kLs_ea : kLs D H ea S.length F) (hP_kLn_F : kLn D H F S) (hok : LsOK S gap) (hr_x : -2147483648 ≤ x ∧ x ≤ 2147483647) (hpt : x < 0 ∨ 384 ≤ x) : vx_Met l yX1_lineAt (ws_ yX1_lineAt cX1_lineAt 2 (Option.some Jvm.ClassFile.FieldType.int)) ({ frames := 8, cells := 1, slots := 6, locals := 161 } : Room) (kPre D H [.ref x1, .int (kI (x))]) kFl (kXC "java/lang/IndexOutOfBoundsException" (kNW H)) (1) (6) (kNW H) := by
  refine vx_ofW (cc := cX1_lineAt) (maxL := 2) (ret := (Option.some Jvm.ClassFile.FieldType.int)) (by decide) rfl ?_
  intro p e s m args below meth c s₁ B hml hxt hv
  obtain ⟨rfl, hH, hK⟩ := hv
  subst hH
  have hx := B.exec
  have hb := B.bytes
  have hr := B.returns
  have hts := atoms_spec (ws := ws_ yX1_lineAt cX1_lineAt 2 (Option.some Jvm.ClassFile.FieldType.int)) B.pre
  have hts : ∀ w ∈ lw_all, w.before _ s = true := fun w h => hts w (List.mem_cons_of_mem _ h)
  have hown : s.vm.findClass RX1 = some m.cls := findClass_of_methodNamed B.named
  have hlk := B.notSynchronized
  have hS : va_S (kNW s.heap) s.heap s.heap [] := va_S.rf
  have hB : ∀ q, (kNW s.heap) q → kBase D ≤ q := fun q h => Nat.le_trans hK.size h
  have hl := lv_entry ([.ref x1, .int (kI (x))]) (n := 2) (Nat.le_of_ble_eq_true rfl)
  rw [lg_entry_eq]
  generalize (lg_sl ([.ref x1, .int (kI (x))]) ++ List.replicate (2 - (lg_sl ([.ref x1, .int (kI (x))])).length) Slot.unset).toArray = ls at hl ⊢
  have hl : lv_has ls 2 [(0, .ref x1), (1, .int (kI (x)))] := hl
  have hL8 := hok.1
  refine lv_iload_n hx hb dX1_lineAt_0 rfl (lv_at hl 1 rfl) ?_
  exact kx_thr (vx_runS (As := [.int (kI (x))]) (rest := []) ⟨hx, hb, hml, hown, hts⟩ (x_checkPoint l hl9 D s.heap x  (by first | assumption | omega) (by first | assumption | omega)) (va_cwS 1 hts (lw_S q1817 q1818 q79 q1819) rfl rfl rfl (by decide +kernel) ⟨Nat.le_of_ble_eq_true rfl, Nat.le_of_ble_eq_true rfl⟩) (kx_ps hK hS hB) rfl rfl hl.1 rfl (lv_room (Nat.le_of_ble_eq_true rfl)) dX1_lineAt_1 ⟨by first | exact Nat.le_of_ble_eq_true rfl | omega | (show _ ≤ _; omega) | (dsimp only [headSpec]; omega), by first | exact Nat.le_of_ble_eq_true rfl | omega | (show _ ≤ _; omega) | (dsimp only [headSpec]; omega)⟩) hS (fun q _ h => by have h9 := hS.1; (try dsimp only at h); (try dsimp only); (try simp only [kNW] at h); (try simp only [kNW]); omega) (fun q h => by have h9 := hS.1; (try dsimp only at h); (try dsimp only); (try simp only [kNW] at h); (try simp only [kNW]); omega) hxt hlk (by first | exact Nat.le_of_ble_eq_true rfl | omega | (show _ ≤ _; omega) | (dsimp only [headSpec]; omega)) (by first | exact Nat.le_of_ble_eq_true rfl | omega | (show _ ≤ _; omega) | (dsimp only [headSpec]; omega))

set_option maxHeartbeats 4000000 in
set_option maxRecDepth 100000 in
theorem x_isWithinByRays_p (l : Launch) (hl9 : l.stackTraces = false) (D : kG) (H : Heap) (x1 : Nat) (snp : Option Nat) (hi : Nat) (bu : Nat) (st : Nat) (la : Nat) (mc : Int) (ea : Nat) (F : Fts) (S : Ls) (gap : Int) (ln : Nat) (x : Int) (hO_x1 : kO D H x1 0 [.ref st, va_rf (snp), .ref hi, .ref bu]) (hO_st : kO D H st 1 [.ref la, .int (kI (gap))]) (hO_la : kO D H la 9 [.int (kI (mc)), .ref ea, .int (kI ((S.length : Nat) : Int))]) (hP_kLs_ea : kLs D H ea S.length F) (hP_kLn_F : kLn D H F S) (hok : LsOK S gap) (hln : ln < S.length) (hr_x : -2147483648 ≤ x ∧ x ≤ 2147483647) (hpt : x < 0 ∨ 384 ≤ x) : vx_Met l yX1_isWithinByRays (ws_ yX1_isWithinByRays cX1_isWithinByRays 3 (Option.some Jvm.ClassFile.FieldType.boolean)) ({ frames := 8, cells := 1, slots := 6, locals := 161 } : Room) (kPre D H [.ref x1, .int (kI ((ln : Nat) : Int)), .int (kI (x))]) kFl (kXC "java/lang/IndexOutOfBoundsException" (kNW H)) (1) (6) (kNW H) := by
  refine vx_ofW (cc := cX1_isWithinByRays) (maxL := 3) (ret := (Option.some Jvm.ClassFile.FieldType.boolean)) (by decide) rfl ?_
  intro p e s m args below meth c s₁ B hml hxt hv
  obtain ⟨rfl, hH, hK⟩ := hv
  subst hH
  have hx := B.exec
  have hb := B.bytes
  have hr := B.returns
  have hts := atoms_spec (ws := ws_ yX1_isWithinByRays cX1_isWithinByRays 3 (Option.some Jvm.ClassFile.FieldType.boolean)) B.pre
  have hts : ∀ w ∈ lw_all, w.before _ s = true := fun w h => hts w (List.mem_cons_of_mem _ h)
  have hown : s.vm.findClass RX1 = some m.cls := findClass_of_methodNamed B.named
  have hlk := B.notSynchronized
  have hS : va_S (kNW s.heap) s.heap s.heap [] := va_S.rf
  have hB : ∀ q, (kNW s.heap) q → kBase D ≤ q := fun q h => Nat.le_trans hK.size h
  have hl := lv_entry ([.ref x1, .int (kI ((ln : Nat) : Int)), .int (kI (x))]) (n := 3) (Nat.le_of_ble_eq_true rfl)
  rw [lg_entry_eq]
  generalize (lg_sl ([.ref x1, .int (kI ((ln : Nat) : Int)), .int (kI (x))]) ++ List.replicate (3 - (lg_sl ([.ref x1, .int (kI ((ln : Nat) : Int)), .int (kI (x))])).length) Slot.unset).toArray = ls at hl ⊢
  have hl : lv_has ls 3 [(0, .ref x1), (1, .int (kI ((ln : Nat) : Int))), (2, .int (kI (x)))] := hl
  have hL8 := hok.1
  refine lv_aload_n hx hb dX1_isWithinByRays_0 rfl (lv_at hl 0 rfl) ?_
  refine lv_iload_n hx hb dX1_isWithinByRays_1 rfl (lv_at hl 1 rfl) ?_
  refine kx_cr0 (va_runV (As := [.int (kI ((ln : Nat) : Int))]) (rest := []) ⟨hx, hb, hml, hown, hts⟩ (m_X1_line l D s.heap x1 snp hi bu st la mc ea F S gap ln hO_x1 hO_st hO_la hP_kLs_ea hP_kLn_F (by first | assumption | omega) (by first | assumption | omega)) (cwV 1 hts (lw_V q1864 q1866 qs35 q79 q1867) rfl rfl rfl (by decide +kernel) ⟨Nat.le_of_ble_eq_true rfl, Nat.le_of_ble_eq_true rfl⟩) (kx_pv hK hS hB (kx_rc hK hO_x1 (C := RX1) (T := TX1) (N := 4) rfl)) rfl rfl hl.1 rfl (lv_room (Nat.le_of_ble_eq_true rfl)) dX1_isWithinByRays_2 ⟨by first | exact Nat.le_of_ble_eq_true rfl | omega | (show _ ≤ _; omega) | (dsimp only [headSpec]; omega), by first | exact Nat.le_of_ble_eq_true rfl | omega | (show _ ≤ _; omega) | (dsimp only [headSpec]; omega)⟩) hS (fun z_4 locs_1 hz_3 hS_2 => ?_)
  subst z_4
  refine lv_pop hx hb dX1_isWithinByRays_5 rfl ?_
  refine lv_iload_n hx hb dX1_isWithinByRays_6 rfl (lv_at hl 2 rfl) ?_
  exact kx_thr (vx_runS (As := [.int (kI (x))]) (rest := []) ⟨hx, hb, hml, hown, hts⟩ (x_checkPoint l hl9 D s.heap x  (by first | assumption | omega) (by first | assumption | omega)) (va_cwS 1 hts (lw_S q1817 q1818 q79 q1819) rfl rfl rfl (by decide +kernel) ⟨Nat.le_of_ble_eq_true rfl, Nat.le_of_ble_eq_true rfl⟩) (kx_ps hK hS_2 hB) rfl rfl hl.1 rfl (lv_room (Nat.le_of_ble_eq_true rfl)) dX1_isWithinByRays_7 ⟨by first | exact Nat.le_of_ble_eq_true rfl | omega | (show _ ≤ _; omega) | (dsimp only [headSpec]; omega), by first | exact Nat.le_of_ble_eq_true rfl | omega | (show _ ≤ _; omega) | (dsimp only [headSpec]; omega)⟩) hS_2 (fun q _ h => by have h9 := hS_2.1; (try dsimp only at h); (try dsimp only); (try simp only [kNW] at h); (try simp only [kNW]); omega) (fun q h => by have h9 := hS_2.1; (try dsimp only at h); (try dsimp only); (try simp only [kNW] at h); (try simp only [kNW]); omega) hxt hlk (by first | exact Nat.le_of_ble_eq_true rfl | omega | (show _ ≤ _; omega) | (dsimp only [headSpec]; omega)) (by first | exact Nat.le_of_ble_eq_true rfl | omega | (show _ ≤ _; omega) | (dsimp only [headSpec]; omega))

set_option maxHeartbeats 4000000 in
set_option maxRecDepth 100000 in
theorem x_isWithinBySpreading_p (l : Launch) (hl9 : l.stackTraces = false) (D : kG) (H : Heap) (x1 : Nat) (snp : Option Nat) (hi : Nat) (bu : Nat) (st : Nat) (la : Nat) (mc : Int) (ea : Nat) (F : Fts) (S : Ls) (gap : Int) (ln : Nat) (x : Int) (hO_x1 : kO D H x1 0 [.ref st, va_rf (snp), .ref hi, .ref bu]) (hO_st : kO D H st 1 [.ref la, .int (kI (gap))]) (hO_la : kO D H la 9 [.int (kI (mc)), .ref ea, .int (kI ((S.length : Nat) : Int))]) (hP_kLs_ea : kLs D H ea S.length F) (hP_kLn_F : kLn D H F S) (hok : LsOK S gap) (hln : ln < S.length) (hr_x : -2147483648 ≤ x ∧ x ≤ 2147483647) (hpt : x < 0 ∨ 384 ≤ x) : vx_Met l yX1_isWithinBySpreading (ws_ yX1_isWithinBySpreading cX1_isWithinBySpreading 3 (Option.some Jvm.ClassFile.FieldType.boolean)) ({ frames := 8, cells := 1, slots := 6, locals := 161 } : Room) (kPre D H [.ref x1, .int (kI ((ln : Nat) : Int)), .int (kI (x))]) kFl (kXC "java/lang/IndexOutOfBoundsException" (kNW H)) (1) (6) (kNW H) := by
  refine vx_ofW (cc := cX1_isWithinBySpreading) (maxL := 3) (ret := (Option.some Jvm.ClassFile.FieldType.boolean)) (by decide) rfl ?_
  intro p e s m args below meth c s₁ B hml hxt hv
  obtain ⟨rfl, hH, hK⟩ := hv
  subst hH
  have hx := B.exec
  have hb := B.bytes
  have hr := B.returns
  have hts := atoms_spec (ws := ws_ yX1_isWithinBySpreading cX1_isWithinBySpreading 3 (Option.some Jvm.ClassFile.FieldType.boolean)) B.pre
  have hts : ∀ w ∈ lw_all, w.before _ s = true := fun w h => hts w (List.mem_cons_of_mem _ h)
  have hown : s.vm.findClass RX1 = some m.cls := findClass_of_methodNamed B.named
  have hlk := B.notSynchronized
  have hS : va_S (kNW s.heap) s.heap s.heap [] := va_S.rf
  have hB : ∀ q, (kNW s.heap) q → kBase D ≤ q := fun q h => Nat.le_trans hK.size h
  have hl := lv_entry ([.ref x1, .int (kI ((ln : Nat) : Int)), .int (kI (x))]) (n := 3) (Nat.le_of_ble_eq_true rfl)
  rw [lg_entry_eq]
  generalize (lg_sl ([.ref x1, .int (kI ((ln : Nat) : Int)), .int (kI (x))]) ++ List.replicate (3 - (lg_sl ([.ref x1, .int (kI ((ln : Nat) : Int)), .int (kI (x))])).length) Slot.unset).toArray = ls at hl ⊢
  have hl : lv_has ls 3 [(0, .ref x1), (1, .int (kI ((ln : Nat) : Int))), (2, .int (kI (x)))] := hl
  have hL8 := hok.1
  refine lv_aload_n hx hb dX1_isWithinBySpreading_0 rfl (lv_at hl 0 rfl) ?_
  refine lv_iload_n hx hb dX1_isWithinBySpreading_1 rfl (lv_at hl 1 rfl) ?_
  refine kx_cr0 (va_runV (As := [.int (kI ((ln : Nat) : Int))]) (rest := []) ⟨hx, hb, hml, hown, hts⟩ (m_X1_line l D s.heap x1 snp hi bu st la mc ea F S gap ln hO_x1 hO_st hO_la hP_kLs_ea hP_kLn_F (by first | assumption | omega) (by first | assumption | omega)) (cwV 1 hts (lw_V q1864 q1866 qs35 q79 q1867) rfl rfl rfl (by decide +kernel) ⟨Nat.le_of_ble_eq_true rfl, Nat.le_of_ble_eq_true rfl⟩) (kx_pv hK hS hB (kx_rc hK hO_x1 (C := RX1) (T := TX1) (N := 4) rfl)) rfl rfl hl.1 rfl (lv_room (Nat.le_of_ble_eq_true rfl)) dX1_isWithinBySpreading_2 ⟨by first | exact Nat.le_of_ble_eq_true rfl | omega | (show _ ≤ _; omega) | (dsimp only [headSpec]; omega), by first | exact Nat.le_of_ble_eq_true rfl | omega | (show _ ≤ _; omega) | (dsimp only [headSpec]; omega)⟩) hS (fun z_4 locs_1 hz_3 hS_2 => ?_)
  subst z_4
  refine lv_pop hx hb dX1_isWithinBySpreading_5 rfl ?_
  refine lv_iload_n hx hb dX1_isWithinBySpreading_6 rfl (lv_at hl 2 rfl) ?_
  exact kx_thr (vx_runS (As := [.int (kI (x))]) (rest := []) ⟨hx, hb, hml, hown, hts⟩ (x_checkPoint l hl9 D s.heap x  (by first | assumption | omega) (by first | assumption | omega)) (va_cwS 1 hts (lw_S q1817 q1818 q79 q1819) rfl rfl rfl (by decide +kernel) ⟨Nat.le_of_ble_eq_true rfl, Nat.le_of_ble_eq_true rfl⟩) (kx_ps hK hS_2 hB) rfl rfl hl.1 rfl (lv_room (Nat.le_of_ble_eq_true rfl)) dX1_isWithinBySpreading_7 ⟨by first | exact Nat.le_of_ble_eq_true rfl | omega | (show _ ≤ _; omega) | (dsimp only [headSpec]; omega), by first | exact Nat.le_of_ble_eq_true rfl | omega | (show _ ≤ _; omega) | (dsimp only [headSpec]; omega)⟩) hS_2 (fun q _ h => by have h9 := hS_2.1; (try dsimp only at h); (try dsimp only); (try simp only [kNW] at h); (try simp only [kNW]); omega) (fun q h => by have h9 := hS_2.1; (try dsimp only at h); (try dsimp only); (try simp only [kNW] at h); (try simp only [kNW]); omega) hxt hlk (by first | exact Nat.le_of_ble_eq_true rfl | omega | (show _ ≤ _; omega) | (dsimp only [headSpec]; omega)) (by first | exact Nat.le_of_ble_eq_true rfl | omega | (show _ ≤ _; omega) | (dsimp only [headSpec]; omega))

set_option maxHeartbeats 4000000 in
set_option maxRecDepth 100000 in
theorem x_whyNotStepped_d (l : Launch) (hl9 : l.stackTraces = false) (D : kG) (H : Heap) (x1 : Nat) (snp : Option Nat) (hi : Nat) (bu : Nat) (st : Nat) (la : Nat) (mc : Int) (ea : Nat) (F : Fts) (S : Ls) (gap : Int) (ln : Nat) (d : Int) (hO_x1 : kO D H x1 0 [.ref st, va_rf (snp), .ref hi, .ref bu]) (hO_st : kO D H st 1 [.ref la, .int (kI (gap))]) (hO_la : kO D H la 9 [.int (kI (mc)), .ref ea, .int (kI ((S.length : Nat) : Int))]) (hP_kLs_ea : kLs D H ea S.length F) (hP_kLn_F : kLn D H F S) (hok : LsOK S gap) (hln : ln < S.length) (hr_d : -2147483648 ≤ d ∧ d ≤ 2147483647) (hd : d < 0 ∨ 7 < d) : vx_Met l yX1_whyNotStepped (ws_ yX1_whyNotStepped cX1_whyNotStepped 3 (Option.some Jvm.ClassFile.FieldType.int)) ({ frames := 7, cells := 1, slots := 6, locals := 142 } : Room) (kPre D H [.ref x1, .int (kI ((ln : Nat) : Int)), .int (kI (d))]) kFl (kXC "java/lang/IllegalArgumentException" (kNW H)) (1) (6) (kNW H) := by
  refine vx_ofW (cc := cX1_whyNotStepped) (maxL := 3) (ret := (Option.some Jvm.ClassFile.FieldType.int)) (by decide) rfl ?_
  intro p e s m args below meth c s₁ B hml hxt hv
  obtain ⟨rfl, hH, hK⟩ := hv
  subst hH
  have hx := B.exec
  have hb := B.bytes
  have hr := B.returns
  have hts := atoms_spec (ws := ws_ yX1_whyNotStepped cX1_whyNotStepped 3 (Option.some Jvm.ClassFile.FieldType.int)) B.pre
  have hts : ∀ w ∈ lw_all, w.before _ s = true := fun w h => hts w (List.mem_cons_of_mem _ h)
  have hown : s.vm.findClass RX1 = some m.cls := findClass_of_methodNamed B.named
  have hlk := B.notSynchronized
  have hS : va_S (kNW s.heap) s.heap s.heap [] := va_S.rf
  have hB : ∀ q, (kNW s.heap) q → kBase D ≤ q := fun q h => Nat.le_trans hK.size h
  have hl := lv_entry ([.ref x1, .int (kI ((ln : Nat) : Int)), .int (kI (d))]) (n := 3) (Nat.le_of_ble_eq_true rfl)
  rw [lg_entry_eq]
  generalize (lg_sl ([.ref x1, .int (kI ((ln : Nat) : Int)), .int (kI (d))]) ++ List.replicate (3 - (lg_sl ([.ref x1, .int (kI ((ln : Nat) : Int)), .int (kI (d))])).length) Slot.unset).toArray = ls at hl ⊢
  have hl : lv_has ls 3 [(0, .ref x1), (1, .int (kI ((ln : Nat) : Int))), (2, .int (kI (d)))] := hl
  have hL8 := hok.1
  refine lv_aload_n hx hb dX1_whyNotStepped_0 rfl (lv_at hl 0 rfl) ?_
  refine lv_iload_n hx hb dX1_whyNotStepped_1 rfl (lv_at hl 1 rfl) ?_
  refine kx_cr0 (va_runV (As := [.int (kI ((ln : Nat) : Int))]) (rest := []) ⟨hx, hb, hml, hown, hts⟩ (m_X1_line l D s.heap x1 snp hi bu st la mc ea F S gap ln hO_x1 hO_st hO_la hP_kLs_ea hP_kLn_F (by first | assumption | omega) (by first | assumption | omega)) (cwV 1 hts (lw_V q1864 q1866 qs35 q79 q1867) rfl rfl rfl (by decide +kernel) ⟨Nat.le_of_ble_eq_true rfl, Nat.le_of_ble_eq_true rfl⟩) (kx_pv hK hS hB (kx_rc hK hO_x1 (C := RX1) (T := TX1) (N := 4) rfl)) rfl rfl hl.1 rfl (lv_room (Nat.le_of_ble_eq_true rfl)) dX1_whyNotStepped_2 ⟨by first | exact Nat.le_of_ble_eq_true rfl | omega | (show _ ≤ _; omega) | (dsimp only [headSpec]; omega), by first | exact Nat.le_of_ble_eq_true rfl | omega | (show _ ≤ _; omega) | (dsimp only [headSpec]; omega)⟩) hS (fun z_4 locs_1 hz_3 hS_2 => ?_)
  subst z_4
  refine lv_pop hx hb dX1_whyNotStepped_5 rfl ?_
  refine lv_iload_n hx hb dX1_whyNotStepped_6 rfl (lv_at hl 2 rfl) ?_
  refine kx_iconst hx hb dX1_whyNotStepped_7 ?_
  refine kx_bipush hx hb (by decide) dX1_whyNotStepped_8 ?_
  exact kx_thr (vx_runS (As := [.int (kI (d)), .int (kI (0)), .int (kI (7))]) (rest := []) ⟨hx, hb, hml, hown, hts⟩ (x_checkRange l hl9 D s.heap d 0 7  (by first | assumption | omega) (by first | assumption | omega) (by first | assumption | omega) (by first | assumption | omega)) (va_cwS 3 hts (lw_S q1838 q1839 q79 q1840) rfl rfl rfl (by decide +kernel) ⟨Nat.le_of_ble_eq_true rfl, Nat.le_of_ble_eq_true rfl⟩) (kx_ps hK hS_2 hB) rfl rfl hl.1 rfl (lv_room (Nat.le_of_ble_eq_true rfl)) dX1_whyNotStepped_10 ⟨by first | exact Nat.le_of_ble_eq_true rfl | omega | (show _ ≤ _; omega) | (dsimp only [headSpec]; omega), by first | exact Nat.le_of_ble_eq_true rfl | omega | (show _ ≤ _; omega) | (dsimp only [headSpec]; omega)⟩) hS_2 (fun q _ h => by have h9 := hS_2.1; (try dsimp only at h); (try dsimp only); (try simp only [kNW] at h); (try simp only [kNW]); omega) (fun q h => by have h9 := hS_2.1; (try dsimp only at h); (try dsimp only); (try simp only [kNW] at h); (try simp only [kNW]); omega) hxt hlk (by first | exact Nat.le_of_ble_eq_true rfl | omega | (show _ ≤ _; omega) | (dsimp only [headSpec]; omega)) (by first | exact Nat.le_of_ble_eq_true rfl | omega | (show _ ≤ _; omega) | (dsimp only [headSpec]; omega))

set_option maxHeartbeats 4000000 in
set_option maxRecDepth 100000 in
theorem x_setLevel_2 (l : Launch) (hl9 : l.stackTraces = false) (D : kG) (H : Heap) (x1 : Nat) (snp : Option Nat) (hi : Nat) (bu : Nat) (st : Nat) (la : Nat) (mc : Int) (ea : Nat) (F : Fts) (S : Ls) (gap : Int) (ln : Nat) (lv : Int) (hO_x1 : kO D H x1 0 [.ref st, va_rf (snp), .ref hi, .ref bu]) (hO_st : kO D H st 1 [.ref la, .int (kI (gap))]) (hO_la : kO D H la 9 [.int (kI (mc)), .ref ea, .int (kI ((S.length : Nat) : Int))]) (hP_kLs_ea : kLs D H ea S.length F) (hP_kLn_F : kLn D H F S) (hok : LsOK S gap) (hln : ln < S.length) (hr_lv : -2147483648 ≤ lv ∧ lv ≤ 2147483647) (hlv : lv < 0 ∨ 99 < lv) : vx_Met l yX1_setLevel (ws_ yX1_setLevel cX1_setLevel 4 (Option.some Jvm.ClassFile.FieldType.int)) ({ frames := 7, cells := 1, slots := 6, locals := 142 } : Room) (kPre D H [.ref x1, .int (kI ((ln : Nat) : Int)), .int (kI (lv))]) kFl (kXC "java/lang/IllegalArgumentException" (kNW H)) (1) (6) (kNW H) := by
  refine vx_ofW (cc := cX1_setLevel) (maxL := 4) (ret := (Option.some Jvm.ClassFile.FieldType.int)) (by decide) rfl ?_
  intro p e s m args below meth c s₁ B hml hxt hv
  obtain ⟨rfl, hH, hK⟩ := hv
  subst hH
  have hx := B.exec
  have hb := B.bytes
  have hr := B.returns
  have hts := atoms_spec (ws := ws_ yX1_setLevel cX1_setLevel 4 (Option.some Jvm.ClassFile.FieldType.int)) B.pre
  have hts : ∀ w ∈ lw_all, w.before _ s = true := fun w h => hts w (List.mem_cons_of_mem _ h)
  have hown : s.vm.findClass RX1 = some m.cls := findClass_of_methodNamed B.named
  have hlk := B.notSynchronized
  have hS : va_S (kNW s.heap) s.heap s.heap [] := va_S.rf
  have hB : ∀ q, (kNW s.heap) q → kBase D ≤ q := fun q h => Nat.le_trans hK.size h
  have hl := lv_entry ([.ref x1, .int (kI ((ln : Nat) : Int)), .int (kI (lv))]) (n := 4) (Nat.le_of_ble_eq_true rfl)
  rw [lg_entry_eq]
  generalize (lg_sl ([.ref x1, .int (kI ((ln : Nat) : Int)), .int (kI (lv))]) ++ List.replicate (4 - (lg_sl ([.ref x1, .int (kI ((ln : Nat) : Int)), .int (kI (lv))])).length) Slot.unset).toArray = ls at hl ⊢
  have hl : lv_has ls 4 [(0, .ref x1), (1, .int (kI ((ln : Nat) : Int))), (2, .int (kI (lv)))] := hl
  have hL8 := hok.1
  refine lv_aload_n hx hb dX1_setLevel_0 rfl (lv_at hl 0 rfl) ?_
  refine lv_iload_n hx hb dX1_setLevel_1 rfl (lv_at hl 1 rfl) ?_
  refine kx_cr0 (va_runV (As := [.int (kI ((ln : Nat) : Int))]) (rest := []) ⟨hx, hb, hml, hown, hts⟩ (m_X1_line l D s.heap x1 snp hi bu st la mc ea F S gap ln hO_x1 hO_st hO_la hP_kLs_ea hP_kLn_F (by first | assumption | omega) (by first | assumption | omega)) (cwV 1 hts (lw_V q1864 q1866 qs35 q79 q1867) rfl rfl rfl (by decide +kernel) ⟨Nat.le_of_ble_eq_true rfl, Nat.le_of_ble_eq_true rfl⟩) (kx_pv hK hS hB (kx_rc hK hO_x1 (C := RX1) (T := TX1) (N := 4) rfl)) rfl rfl hl.1 rfl (lv_room (Nat.le_of_ble_eq_true rfl)) dX1_setLevel_2 ⟨by first | exact Nat.le_of_ble_eq_true rfl | omega | (show _ ≤ _; omega) | (dsimp only [headSpec]; omega), by first | exact Nat.le_of_ble_eq_true rfl | omega | (show _ ≤ _; omega) | (dsimp only [headSpec]; omega)⟩) hS (fun z_4 locs_1 hz_3 hS_2 => ?_)
  subst z_4
  obtain ⟨ea_5, gp_5, gs_5, ho_5, hp_5, hs_5, he_5, hm_5⟩ := (hP_kLn_F ln (hln))
  refine kx_get (v := .int (kI (ln_lv (st_ln S ln)))) (C := RX4) (T := TX4) (N := 6) hx hb hts in_X4 hown hK ho_5 rfl 0 (by decide) q335 (fun _ h9 => h9) rfl dX1_setLevel_5 ?_
  refine lv_istore_n (lv' := [(3, .int (kI (ln_lv (st_ln S ln)))), (0, .ref x1), (1, .int (kI ((ln : Nat) : Int))), (2, .int (kI (lv)))]) hx hb dX1_setLevel_8 rfl hl (by decide) rfl (fun ls hl => ?_)
  refine lv_iload_n hx hb dX1_setLevel_9 rfl (lv_at hl 3 rfl) ?_
  refine kx_iconst hx hb dX1_setLevel_10 ?_
  refine kx_bipush hx hb (by decide) dX1_setLevel_11 ?_
  exact kx_thr (vx_runS (As := [.int (kI (lv)), .int (kI (0)), .int (kI (99))]) (rest := []) ⟨hx, hb, hml, hown, hts⟩ (x_checkRange l hl9 D s.heap lv 0 99  (by first | assumption | omega) (by first | assumption | omega) (by first | assumption | omega) (by first | assumption | omega)) (va_cwS 3 hts (lw_S q1838 q1839 q79 q1840) rfl rfl rfl (by decide +kernel) ⟨Nat.le_of_ble_eq_true rfl, Nat.le_of_ble_eq_true rfl⟩) (kx_ps hK hS_2 hB) rfl rfl hl.1 rfl (lv_room (Nat.le_of_ble_eq_true rfl)) dX1_setLevel_13 ⟨by first | exact Nat.le_of_ble_eq_true rfl | omega | (show _ ≤ _; omega) | (dsimp only [headSpec]; omega), by first | exact Nat.le_of_ble_eq_true rfl | omega | (show _ ≤ _; omega) | (dsimp only [headSpec]; omega)⟩) hS_2 (fun q _ h => by have h9 := hS_2.1; (try dsimp only at h); (try dsimp only); (try simp only [kNW] at h); (try simp only [kNW]); omega) (fun q h => by have h9 := hS_2.1; (try dsimp only at h); (try dsimp only); (try simp only [kNW] at h); (try simp only [kNW]); omega) hxt hlk (by first | exact Nat.le_of_ble_eq_true rfl | omega | (show _ ≤ _; omega) | (dsimp only [headSpec]; omega)) (by first | exact Nat.le_of_ble_eq_true rfl | omega | (show _ ≤ _; omega) | (dsimp only [headSpec]; omega))

set_option maxHeartbeats 4000000 in
set_option maxRecDepth 100000 in
theorem x_lineByLevel (l : Launch) (hl9 : l.stackTraces = false) (D : kG) (H : Heap) (x1 : Nat) (snp : Option Nat) (hi : Nat) (bu : Nat) (st : Nat) (la : Nat) (mc : Int) (ea : Nat) (F : Fts) (S : Ls) (gap : Int) (li : Int) (hO_x1 : kO D H x1 0 [.ref st, va_rf (snp), .ref hi, .ref bu]) (hO_st : kO D H st 1 [.ref la, .int (kI (gap))]) (hO_la : kO D H la 9 [.int (kI (mc)), .ref ea, .int (kI ((S.length : Nat) : Int))]) (hP_kLs_ea : kLs D H ea S.length F) (hP_kLn_F : kLn D H F S) (hok : LsOK S gap) (hr_li : -2147483648 ≤ li ∧ li ≤ 2147483647) (hnl : li < 0 ∨ (S.length : Int) ≤ li) : vx_Met l yX1_lineByLevel (ws_ yX1_lineByLevel cX1_lineByLevel 2 (Option.some Jvm.ClassFile.FieldType.int)) ({ frames := 7, cells := 1, slots := 6, locals := 141 } : Room) (kPre D H [.ref x1, .int (kI (li))]) kFl (kXC "java/lang/IndexOutOfBoundsException" (kNW H)) (1) (6) (kNW H) := by
  refine vx_ofW (cc := cX1_lineByLevel) (maxL := 2) (ret := (Option.some Jvm.ClassFile.FieldType.int)) (by decide) rfl ?_
  intro p e s m args below meth c s₁ B hml hxt hv
  obtain ⟨rfl, hH, hK⟩ := hv
  subst hH
  have hx := B.exec
  have hb := B.bytes
  have hr := B.returns
  have hts := atoms_spec (ws := ws_ yX1_lineByLevel cX1_lineByLevel 2 (Option.some Jvm.ClassFile.FieldType.int)) B.pre
  have hts : ∀ w ∈ lw_all, w.before _ s = true := fun w h => hts w (List.mem_cons_of_mem _ h)
  have hown : s.vm.findClass RX1 = some m.cls := findClass_of_methodNamed B.named
  have hlk := B.notSynchronized
  have hS : va_S (kNW s.heap) s.heap s.heap [] := va_S.rf
  have hB : ∀ q, (kNW s.heap) q → kBase D ≤ q := fun q h => Nat.le_trans hK.size h
  have hl := lv_entry ([.ref x1, .int (kI (li))]) (n := 2) (Nat.le_of_ble_eq_true rfl)
  rw [lg_entry_eq]
  generalize (lg_sl ([.ref x1, .int (kI (li))]) ++ List.replicate (2 - (lg_sl ([.ref x1, .int (kI (li))])).length) Slot.unset).toArray = ls at hl ⊢
  have hl : lv_has ls 2 [(0, .ref x1), (1, .int (kI (li)))] := hl
  have hL8 := hok.1
  refine lv_iload_n hx hb dX1_lineByLevel_0 rfl (lv_at hl 1 rfl) ?_
  refine lv_aload_n hx hb dX1_lineByLevel_1 rfl (lv_at hl 0 rfl) ?_
  refine kx_get (v := .ref st) (C := RX1) (T := TX1) (N := 4) hx hb hts in_X1 hown hK hO_x1 rfl 0 (by decide) q229 (fun _ h9 => h9) rfl dX1_lineByLevel_2 ?_
  refine kx_get (v := .ref la) (C := RX2) (T := TX2) (N := 2) hx hb hts in_X2 hown hK hO_st rfl 0 (by decide) q168 (fun _ h9 => h9) rfl dX1_lineByLevel_5 ?_
  refine kx_cFi0 (va_runF (C := RJ2) (As := []) (rest := [.int (kI (li))]) (hK.at (ci := 9) rfl) ⟨hx, hb, hml, hown, hts⟩ (m_J2_size l D s.heap la mc ea S.length hO_la ) (va_cwF (x := ({ cls := "java/util/List", name := "size", desc := "()I" } : Jvm.MethodName)) 0 hts (lw_F q1267 q283 q285 q83 q287) rfl rfl rfl (hK.fw (by decide)) (by decide +kernel) ⟨Nat.le_of_ble_eq_true rfl, Nat.le_of_ble_eq_true rfl⟩) (kx_pv hK hS hB (kx_rc hK hO_la (C := RJ2) (T := TJ2) (N := 3) rfl)) rfl rfl hl.1 rfl (lv_room (Nat.le_of_ble_eq_true rfl)) dX1_lineByLevel_8 ⟨by first | exact Nat.le_of_ble_eq_true rfl | omega | (show _ ≤ _; omega) | (dsimp only [headSpec]; omega), by first | exact Nat.le_of_ble_eq_true rfl | omega | (show _ ≤ _; omega) | (dsimp only [headSpec]; omega)⟩) hS (fun z_4 locs_1 hz_3 hS_2 => ?_)
  subst z_4
  exact kx_thr (vx_runS (As := [.int (kI (li)), .int (kI ((S.length : Nat) : Int))]) (rest := []) ⟨hx, hb, hml, hown, hts⟩ (x_checkNumber l hl9 D s.heap li (((S.length : Nat) : Int))  (by first | assumption | omega) (by first | assumption | omega) (by first | assumption | omega)) (va_cwS 2 hts (lw_S q1820 q1821 q79 q1822) rfl rfl rfl (by decide +kernel) ⟨Nat.le_of_ble_eq_true rfl, Nat.le_of_ble_eq_true rfl⟩) (kx_ps hK hS_2 hB) rfl rfl hl.1 rfl (lv_room (Nat.le_of_ble_eq_true rfl)) dX1_lineByLevel_13 ⟨by first | exact Nat.le_of_ble_eq_true rfl | omega | (show _ ≤ _; omega) | (dsimp only [headSpec]; omega), by first | exact Nat.le_of_ble_eq_true rfl | omega | (show _ ≤ _; omega) | (dsimp only [headSpec]; omega)⟩) hS_2 (fun q _ h => by have h9 := hS_2.1; (try dsimp only at h); (try dsimp only); (try simp only [kNW] at h); (try simp only [kNW]); omega) (fun q h => by have h9 := hS_2.1; (try dsimp only at h); (try dsimp only); (try simp only [kNW] at h); (try simp only [kNW]); omega) hxt hlk (by first | exact Nat.le_of_ble_eq_true rfl | omega | (show _ ≤ _; omega) | (dsimp only [headSpec]; omega)) (by first | exact Nat.le_of_ble_eq_true rfl | omega | (show _ ≤ _; omega) | (dsimp only [headSpec]; omega))

set_option maxHeartbeats 4000000 in
set_option maxRecDepth 100000 in
theorem x_setGap (l : Launch) (hl9 : l.stackTraces = false) (D : kG) (H : Heap) (x1 : Nat) (snp : Option Nat) (hi : Nat) (bu : Nat) (st : Nat) (la : Nat) (mc : Int) (ea : Nat) (F : Fts) (S : Ls) (gap : Int) (x : Int) (hO_x1 : kO D H x1 0 [.ref st, va_rf (snp), .ref hi, .ref bu]) (hO_st : kO D H st 1 [.ref la, .int (kI (gap))]) (hO_la : kO D H la 9 [.int (kI (mc)), .ref ea, .int (kI ((S.length : Nat) : Int))]) (hP_kLs_ea : kLs D H ea S.length F) (hP_kLn_F : kLn D H F S) (hok : LsOK S gap) (hr_x : -2147483648 ≤ x ∧ x ≤ 2147483647) (hgx : x < 1 ∨ 6 < x) : vx_Met l yX1_setGap (ws_ yX1_setGap cX1_setGap 3 (Option.some Jvm.ClassFile.FieldType.int)) ({ frames := 7, cells := 1, slots := 6, locals := 142 } : Room) (kPre D H [.ref x1, .int (kI (x))]) kFl (kXC "java/lang/IllegalArgumentException" (kNW H)) (1) (6) (kNW H) := by
  refine vx_ofW (cc := cX1_setGap) (maxL := 3) (ret := (Option.some Jvm.ClassFile.FieldType.int)) (by decide) rfl ?_
  intro p e s m args below meth c s₁ B hml hxt hv
  obtain ⟨rfl, hH, hK⟩ := hv
  subst hH
  have hx := B.exec
  have hb := B.bytes
  have hr := B.returns
  have hts := atoms_spec (ws := ws_ yX1_setGap cX1_setGap 3 (Option.some Jvm.ClassFile.FieldType.int)) B.pre
  have hts : ∀ w ∈ lw_all, w.before _ s = true := fun w h => hts w (List.mem_cons_of_mem _ h)
  have hown : s.vm.findClass RX1 = some m.cls := findClass_of_methodNamed B.named
  have hlk := B.notSynchronized
  have hS : va_S (kNW s.heap) s.heap s.heap [] := va_S.rf
  have hB : ∀ q, (kNW s.heap) q → kBase D ≤ q := fun q h => Nat.le_trans hK.size h
  have hl := lv_entry ([.ref x1, .int (kI (x))]) (n := 3) (Nat.le_of_ble_eq_true rfl)
  rw [lg_entry_eq]
  generalize (lg_sl ([.ref x1, .int (kI (x))]) ++ List.replicate (3 - (lg_sl ([.ref x1, .int (kI (x))])).length) Slot.unset).toArray = ls at hl ⊢
  have hl : lv_has ls 3 [(0, .ref x1), (1, .int (kI (x)))] := hl
  have hL8 := hok.1
  refine lv_iload_n hx hb dX1_setGap_0 rfl (lv_at hl 1 rfl) ?_
  refine kx_iconst hx hb dX1_setGap_1 ?_
  refine kx_bipush hx hb (by decide) dX1_setGap_2 ?_
  exact kx_thr (vx_runS (As := [.int (kI (x)), .int (kI (1)), .int (kI (6))]) (rest := []) ⟨hx, hb, hml, hown, hts⟩ (x_checkRange l hl9 D s.heap x 1 6  (by first | assumption | omega) (by first | assumption | omega) (by first | assumption | omega) (by first | assumption | omega)) (va_cwS 3 hts (lw_S q1838 q1839 q79 q1840) rfl rfl rfl (by decide +kernel) ⟨Nat.le_of_ble_eq_true rfl, Nat.le_of_ble_eq_true rfl⟩) (kx_ps hK hS hB) rfl rfl hl.1 rfl (lv_room (Nat.le_of_ble_eq_true rfl)) dX1_setGap_4 ⟨by first | exact Nat.le_of_ble_eq_true rfl | omega | (show _ ≤ _; omega) | (dsimp only [headSpec]; omega), by first | exact Nat.le_of_ble_eq_true rfl | omega | (show _ ≤ _; omega) | (dsimp only [headSpec]; omega)⟩) hS (fun q _ h => by have h9 := hS.1; (try dsimp only at h); (try dsimp only); (try simp only [kNW] at h); (try simp only [kNW]); omega) (fun q h => by have h9 := hS.1; (try dsimp only at h); (try dsimp only); (try simp only [kNW] at h); (try simp only [kNW]); omega) hxt hlk (by first | exact Nat.le_of_ble_eq_true rfl | omega | (show _ ≤ _; omega) | (dsimp only [headSpec]; omega)) (by first | exact Nat.le_of_ble_eq_true rfl | omega | (show _ ≤ _; omega) | (dsimp only [headSpec]; omega))

set_option maxHeartbeats 4000000 in
set_option maxRecDepth 100000 in
theorem x_unlabel_2 (l : Launch) (hl9 : l.stackTraces = false) (D : kG) (H : Heap) (x1 : Nat) (snp : Option Nat) (hi : Nat) (bu : Nat) (st : Nat) (la : Nat) (mc : Int) (ea : Nat) (F : Fts) (S : Ls) (gap : Int) (ln : Nat) (hO_x1 : kO D H x1 0 [.ref st, va_rf (snp), .ref hi, .ref bu]) (hO_st : kO D H st 1 [.ref la, .int (kI (gap))]) (hO_la : kO D H la 9 [.int (kI (mc)), .ref ea, .int (kI ((S.length : Nat) : Int))]) (hP_kLs_ea : kLs D H ea S.length F) (hP_kLn_F : kLn D H F S) (hok : LsOK S gap) (hln : ln < S.length) (hlb : ln_lb (st_ln S ln) = -1) : vx_Met l yX1_unlabel (ws_ yX1_unlabel cX1_unlabel 3 (Option.some Jvm.ClassFile.FieldType.int)) ({ frames := 7, cells := 1, slots := 6, locals := 140 } : Room) (kPre D H [.ref x1, .int (kI ((ln : Nat) : Int))]) kFl (kXC "java/lang/IllegalStateException" (kNW H)) (1) (6) (kNW H) := by
  refine vx_ofW (cc := cX1_unlabel) (maxL := 3) (ret := (Option.some Jvm.ClassFile.FieldType.int)) (by decide) rfl ?_
  intro p e s m args below meth c s₁ B hml hxt hv
  obtain ⟨rfl, hH, hK⟩ := hv
  subst hH
  have hx := B.exec
  have hb := B.bytes
  have hr := B.returns
  have hts := atoms_spec (ws := ws_ yX1_unlabel cX1_unlabel 3 (Option.some Jvm.ClassFile.FieldType.int)) B.pre
  have hts : ∀ w ∈ lw_all, w.before _ s = true := fun w h => hts w (List.mem_cons_of_mem _ h)
  have hown : s.vm.findClass RX1 = some m.cls := findClass_of_methodNamed B.named
  have hlk := B.notSynchronized
  have hS : va_S (kNW s.heap) s.heap s.heap [] := va_S.rf
  have hB : ∀ q, (kNW s.heap) q → kBase D ≤ q := fun q h => Nat.le_trans hK.size h
  have hl := lv_entry ([.ref x1, .int (kI ((ln : Nat) : Int))]) (n := 3) (Nat.le_of_ble_eq_true rfl)
  rw [lg_entry_eq]
  generalize (lg_sl ([.ref x1, .int (kI ((ln : Nat) : Int))]) ++ List.replicate (3 - (lg_sl ([.ref x1, .int (kI ((ln : Nat) : Int))])).length) Slot.unset).toArray = ls at hl ⊢
  have hl : lv_has ls 3 [(0, .ref x1), (1, .int (kI ((ln : Nat) : Int)))] := hl
  have hL8 := hok.1
  refine lv_aload_n hx hb dX1_unlabel_0 rfl (lv_at hl 0 rfl) ?_
  refine lv_iload_n hx hb dX1_unlabel_1 rfl (lv_at hl 1 rfl) ?_
  refine kx_cr0 (va_runV (As := [.int (kI ((ln : Nat) : Int))]) (rest := []) ⟨hx, hb, hml, hown, hts⟩ (m_X1_line l D s.heap x1 snp hi bu st la mc ea F S gap ln hO_x1 hO_st hO_la hP_kLs_ea hP_kLn_F (by first | assumption | omega) (by first | assumption | omega)) (cwV 1 hts (lw_V q1864 q1866 qs35 q79 q1867) rfl rfl rfl (by decide +kernel) ⟨Nat.le_of_ble_eq_true rfl, Nat.le_of_ble_eq_true rfl⟩) (kx_pv hK hS hB (kx_rc hK hO_x1 (C := RX1) (T := TX1) (N := 4) rfl)) rfl rfl hl.1 rfl (lv_room (Nat.le_of_ble_eq_true rfl)) dX1_unlabel_2 ⟨by first | exact Nat.le_of_ble_eq_true rfl | omega | (show _ ≤ _; omega) | (dsimp only [headSpec]; omega), by first | exact Nat.le_of_ble_eq_true rfl | omega | (show _ ≤ _; omega) | (dsimp only [headSpec]; omega)⟩) hS (fun z_4 locs_1 hz_3 hS_2 => ?_)
  subst z_4
  obtain ⟨ea_5, gp_5, gs_5, ho_5, hp_5, hs_5, he_5, hm_5⟩ := (hP_kLn_F ln (hln))
  refine kx_get (v := .int (kI (ln_lb (st_ln S ln)))) (C := RX4) (T := TX4) (N := 6) hx hb hts in_X4 hown hK ho_5 rfl 5 (by decide) q350 (fun _ h9 => h9) rfl dX1_unlabel_5 ?_
  refine lv_istore_n (lv' := [(2, .int (kI (ln_lb (st_ln S ln)))), (0, .ref x1), (1, .int (kI ((ln : Nat) : Int)))]) hx hb dX1_unlabel_8 rfl hl (by decide) rfl (fun ls hl => ?_)
  refine lv_iload_n hx hb dX1_unlabel_9 rfl (lv_at hl 0 rfl) ?_
  refine kx_iconst hx hb dX1_unlabel_10 ?_
  refine kx_icmp_eq (x := ln_lb (st_ln S ln)) (y := (-1)) (tgt := 18) hx hb dX1_unlabel_11 (by decide) (by omega) (by omega) (by omega) (by omega) (fun c_11_6 => ?_) (fun c_11_6 => ?_)
  · -- taken at 11
    refine kx_iconst hx hb dX1_unlabel_18 ?_
    exact kx_thr (vx_runS (As := [.int (kI (0))]) (rest := []) ⟨hx, hb, hml, hown, hts⟩ (x_checkState l hl9 D s.heap   ) (va_cwS 1 hts (lw_S q1844 q1845 q79 q1846) rfl rfl rfl (by decide +kernel) ⟨Nat.le_of_ble_eq_true rfl, Nat.le_of_ble_eq_true rfl⟩) (kx_ps hK hS_2 hB) rfl rfl hl.1 rfl (lv_room (Nat.le_of_ble_eq_true rfl)) dX1_unlabel_19 ⟨by first | exact Nat.le_of_ble_eq_true rfl | omega | (show _ ≤ _; omega) | (dsimp only [headSpec]; omega), by first | exact Nat.le_of_ble_eq_true rfl | omega | (show _ ≤ _; omega) | (dsimp only [headSpec]; omega)⟩) hS_2 (fun q _ h => by have h9 := hS_2.1; (try dsimp only at h); (try dsimp only); (try simp only [kNW] at h); (try simp only [kNW]); omega) (fun q h => by have h9 := hS_2.1; (try dsimp only at h); (try dsimp only); (try simp only [kNW] at h); (try simp only [kNW]); omega) hxt hlk (by first | exact Nat.le_of_ble_eq_true rfl | omega | (show _ ≤ _; omega) | (dsimp only [headSpec]; omega)) (by first | exact Nat.le_of_ble_eq_true rfl | omega | (show _ ≤ _; omega) | (dsimp only [headSpec]; omega))
  · -- not taken at 11
    exfalso; omega

set_option maxHeartbeats 4000000 in
set_option maxRecDepth 100000 in
theorem x_labelBest_2 (l : Launch) (hl9 : l.stackTraces = false) (D : kG) (H : Heap) (x1 : Nat) (snp : Option Nat) (hi : Nat) (bu : Nat) (st : Nat) (la : Nat) (mc : Int) (ea : Nat) (F : Fts) (S : Ls) (gap : Int) (ln : Nat) (hO_x1 : kO D H x1 0 [.ref st, va_rf (snp), .ref hi, .ref bu]) (hO_st : kO D H st 1 [.ref la, .int (kI (gap))]) (hO_la : kO D H la 9 [.int (kI (mc)), .ref ea, .int (kI ((S.length : Nat) : Int))]) (hP_kLs_ea : kLs D H ea S.length F) (hP_kLn_F : kLn D H F S) (hok : LsOK S gap) (hln : ln < S.length) (hbp : st_best S gap ln = -1) : vx_Met l yX1_labelBest (ws_ yX1_labelBest cX1_labelBest 2 (Option.some Jvm.ClassFile.FieldType.int)) ({ frames := 9, cells := 370, slots := 1046, locals := 3147 } : Room) (kPre D H [.ref x1, .int (kI ((ln : Nat) : Int))]) kFl (kXC "java/lang/IllegalStateException" (kNW H)) (370) (1046) (kNW H) := by
  refine vx_ofW (cc := cX1_labelBest) (maxL := 2) (ret := (Option.some Jvm.ClassFile.FieldType.int)) (by decide) rfl ?_
  intro p e s m args below meth c s₁ B hml hxt hv
  obtain ⟨rfl, hH, hK⟩ := hv
  subst hH
  have hx := B.exec
  have hb := B.bytes
  have hr := B.returns
  have hts := atoms_spec (ws := ws_ yX1_labelBest cX1_labelBest 2 (Option.some Jvm.ClassFile.FieldType.int)) B.pre
  have hts : ∀ w ∈ lw_all, w.before _ s = true := fun w h => hts w (List.mem_cons_of_mem _ h)
  have hown : s.vm.findClass RX1 = some m.cls := findClass_of_methodNamed B.named
  have hlk := B.notSynchronized
  have hS : va_S (kNW s.heap) s.heap s.heap [] := va_S.rf
  have hB : ∀ q, (kNW s.heap) q → kBase D ≤ q := fun q h => Nat.le_trans hK.size h
  have hl := lv_entry ([.ref x1, .int (kI ((ln : Nat) : Int))]) (n := 2) (Nat.le_of_ble_eq_true rfl)
  rw [lg_entry_eq]
  generalize (lg_sl ([.ref x1, .int (kI ((ln : Nat) : Int))]) ++ List.replicate (2 - (lg_sl ([.ref x1, .int (kI ((ln : Nat) : Int))])).length) Slot.unset).toArray = ls at hl ⊢
  have hl : lv_has ls 2 [(0, .ref x1), (1, .int (kI ((ln : Nat) : Int)))] := hl
  have hL8 := hok.1
  refine lv_aload_n hx hb dX1_labelBest_0 rfl (lv_at hl 0 rfl) ?_
  refine lv_iload_n hx hb dX1_labelBest_1 rfl (lv_at hl 1 rfl) ?_
  refine kx_cr0 (va_runV (As := [.int (kI ((ln : Nat) : Int))]) (rest := []) ⟨hx, hb, hml, hown, hts⟩ (m_X1_line l D s.heap x1 snp hi bu st la mc ea F S gap ln hO_x1 hO_st hO_la hP_kLs_ea hP_kLn_F (by first | assumption | omega) (by first | assumption | omega)) (cwV 1 hts (lw_V q1864 q1866 qs35 q79 q1867) rfl rfl rfl (by decide +kernel) ⟨Nat.le_of_ble_eq_true rfl, Nat.le_of_ble_eq_true rfl⟩) (kx_pv hK hS hB (kx_rc hK hO_x1 (C := RX1) (T := TX1) (N := 4) rfl)) rfl rfl hl.1 rfl (lv_room (Nat.le_of_ble_eq_true rfl)) dX1_labelBest_2 ⟨by first | exact Nat.le_of_ble_eq_true rfl | omega | (show _ ≤ _; omega) | (dsimp only [headSpec]; omega), by first | exact Nat.le_of_ble_eq_true rfl | omega | (show _ ≤ _; omega) | (dsimp only [headSpec]; omega)⟩) hS (fun z_4 locs_1 hz_3 hS_2 => ?_)
  subst z_4
  refine lv_pop hx hb dX1_labelBest_5 rfl ?_
  refine lv_aload_n hx hb dX1_labelBest_6 rfl (lv_at hl 0 rfl) ?_
  refine kx_get (v := .ref st) (C := RX1) (T := TX1) (N := 4) hx hb hts in_X1 hown hK hO_x1 rfl 0 (by decide) q229 (fun _ h9 => h9) rfl dX1_labelBest_7 ?_
  refine lv_iload_n hx hb dX1_labelBest_10 rfl (lv_at hl 1 rfl) ?_
  refine kx_ci (va_runV (As := [.int (kI ((ln : Nat) : Int))]) (rest := []) ⟨hx, hb, hml, hown, hts⟩ (m_X2_bestPlace l D s.heap st la mc ea F S gap ln hO_st hO_la hP_kLs_ea hP_kLn_F (by first | assumption | omega) (by first | assumption | omega)) (cwV 1 hts (lw_V q1922 q1014 q1015 q80 q1016) rfl rfl rfl (by decide +kernel) ⟨Nat.le_of_ble_eq_true rfl, Nat.le_of_ble_eq_true rfl⟩) (kx_pv hK hS_2 hB (kx_rc hK hO_st (C := RX2) (T := TX2) (N := 2) rfl)) rfl rfl hl.1 rfl (lv_room (Nat.le_of_ble_eq_true rfl)) dX1_labelBest_11 ⟨by first | exact Nat.le_of_ble_eq_true rfl | omega | (show _ ≤ _; omega) | (dsimp only [headSpec]; omega), by first | exact Nat.le_of_ble_eq_true rfl | omega | (show _ ≤ _; omega) | (dsimp only [headSpec]; omega)⟩) hS_2 (fun q _ h => Nat.le_trans hS_2.1 h) (fun q h => Nat.le_trans hS_2.1 h) (fun z_10 H_8 locs_5 hz_7 hF_9 hS_6 => ?_)
  have hzf_11 := hF_9.1
  have hF_9 := hF_9.nw
  refine W.widen (k := 369) (n := 1040) (Nat.le_of_ble_eq_true rfl) (Nat.le_of_ble_eq_true rfl) ?_
  obtain ⟨hv_12, hnw_13⟩ := hz_7
  subst z_10
  refine kx_iconst hx hb dX1_labelBest_14 ?_
  refine kx_icmp_eq (x := st_best S gap ln) (y := (-1)) (tgt := 22) hx hb dX1_labelBest_15 (by decide) (by omega) (by omega) (by omega) (by omega) (fun c_15_14 => ?_) (fun c_15_14 => ?_)
  · -- taken at 15
    refine kx_iconst hx hb dX1_labelBest_22 ?_
    exact kx_thr (vx_runS (As := [.int (kI (0))]) (rest := []) ⟨hx, hb, hml, hown, hts⟩ (x_checkState l hl9 D H_8   ) (va_cwS 1 hts (lw_S q1844 q1845 q79 q1846) rfl rfl rfl (by decide +kernel) ⟨Nat.le_of_ble_eq_true rfl, Nat.le_of_ble_eq_true rfl⟩) (kx_ps hK hS_6 hB) rfl rfl hl.1 rfl (lv_room (Nat.le_of_ble_eq_true rfl)) dX1_labelBest_23 ⟨by first | exact Nat.le_of_ble_eq_true rfl | omega | (show _ ≤ _; omega) | (dsimp only [headSpec]; omega), by first | exact Nat.le_of_ble_eq_true rfl | omega | (show _ ≤ _; omega) | (dsimp only [headSpec]; omega)⟩) hS_6 (fun q _ h => by have h9 := hS_6.1; (try dsimp only at h); (try dsimp only); (try simp only [kNW] at h); (try simp only [kNW]); omega) (fun q h => by have h9 := hS_6.1; (try dsimp only at h); (try dsimp only); (try simp only [kNW] at h); (try simp only [kNW]); omega) hxt hlk (by first | exact Nat.le_of_ble_eq_true rfl | omega | (show _ ≤ _; omega) | (dsimp only [headSpec]; omega)) (by first | exact Nat.le_of_ble_eq_true rfl | omega | (show _ ≤ _; omega) | (dsimp only [headSpec]; omega))
  · -- not taken at 15
    exfalso; omega

set_option maxHeartbeats 4000000 in
set_option maxRecDepth 100000 in
theorem x_step_1 (l : Launch) (hl9 : l.stackTraces = false) (D : kG) (H : Heap) (x1 : Nat) (snp : Option Nat) (hi : Nat) (bu : Nat) (st : Nat) (la : Nat) (mc : Int) (ea : Nat) (F : Fts) (S : Ls) (gap : Int) (li : Int) (d : Int) (hO_x1 : kO D H x1 0 [.ref st, va_rf (snp), .ref hi, .ref bu]) (hO_st : kO D H st 1 [.ref la, .int (kI (gap))]) (hO_la : kO D H la 9 [.int (kI (mc)), .ref ea, .int (kI ((S.length : Nat) : Int))]) (hP_kLs_ea : kLs D H ea S.length F) (hP_kLn_F : kLn D H F S) (hok : LsOK S gap) (hr_li : -2147483648 ≤ li ∧ li ≤ 2147483647) (hnl : li < 0 ∨ (S.length : Int) ≤ li) (hr_d : -2147483648 ≤ d ∧ d ≤ 2147483647) : vx_Met l yX1_step (ws_ yX1_step cX1_step 3 (Option.some Jvm.ClassFile.FieldType.boolean)) ({ frames := 9, cells := 1, slots := 6, locals := 184 } : Room) (kPre D H [.ref x1, .int (kI (li)), .int (kI (d))]) kFl (kXC "java/lang/IndexOutOfBoundsException" (kNW H)) (1) (6) (kNW H) := by
  refine vx_ofW (cc := cX1_step) (maxL := 3) (ret := (Option.some Jvm.ClassFile.FieldType.boolean)) (by decide) rfl ?_
  intro p e s m args below meth c s₁ B hml hxt hv
  obtain ⟨rfl, hH, hK⟩ := hv
  subst hH
  have hx := B.exec
  have hb := B.bytes
  have hr := B.returns
  have hts := atoms_spec (ws := ws_ yX1_step cX1_step 3 (Option.some Jvm.ClassFile.FieldType.boolean)) B.pre
  have hts : ∀ w ∈ lw_all, w.before _ s = true := fun w h => hts w (List.mem_cons_of_mem _ h)
  have hown : s.vm.findClass RX1 = some m.cls := findClass_of_methodNamed B.named
  have hlk := B.notSynchronized
  have hS : va_S (kNW s.heap) s.heap s.heap [] := va_S.rf
  have hB : ∀ q, (kNW s.heap) q → kBase D ≤ q := fun q h => Nat.le_trans hK.size h
  have hl := lv_entry ([.ref x1, .int (kI (li)), .int (kI (d))]) (n := 3) (Nat.le_of_ble_eq_true rfl)
  rw [lg_entry_eq]
  generalize (lg_sl ([.ref x1, .int (kI (li)), .int (kI (d))]) ++ List.replicate (3 - (lg_sl ([.ref x1, .int (kI (li)), .int (kI (d))])).length) Slot.unset).toArray = ls at hl ⊢
  have hl : lv_has ls 3 [(0, .ref x1), (1, .int (kI (li))), (2, .int (kI (d)))] := hl
  have hL8 := hok.1
  refine lv_aload_n hx hb dX1_step_0 rfl (lv_at hl 0 rfl) ?_
  refine lv_iload_n hx hb dX1_step_1 rfl (lv_at hl 1 rfl) ?_
  refine lv_iload_n hx hb dX1_step_2 rfl (lv_at hl 2 rfl) ?_
  exact kx_thr (vx_runV (As := [.int (kI (li)), .int (kI (d))]) (rest := []) ⟨hx, hb, hml, hown, hts⟩ (x_whyNotStepped l hl9 D s.heap x1 snp hi bu st la mc ea F S gap li d hO_x1 hO_st hO_la hP_kLs_ea hP_kLn_F (by first | assumption | omega) (by first | assumption | omega) (by first | assumption | omega)) (cwV 2 hts (lw_V q1860 q1861 q1862 q79 q1863) rfl rfl rfl (by decide +kernel) ⟨Nat.le_of_ble_eq_true rfl, Nat.le_of_ble_eq_true rfl⟩) (kx_pv hK hS hB (kx_rc hK hO_x1 (C := RX1) (T := TX1) (N := 4) rfl)) rfl rfl hl.1 rfl (lv_room (Nat.le_of_ble_eq_true rfl)) dX1_step_3 ⟨by first | exact Nat.le_of_ble_eq_true rfl | omega | (show _ ≤ _; omega) | (dsimp only [headSpec]; omega), by first | exact Nat.le_of_ble_eq_true rfl | omega | (show _ ≤ _; omega) | (dsimp only [headSpec]; omega)⟩) hS (fun q _ h => by have h9 := hS.1; (try dsimp only at h); (try dsimp only); (try simp only [kNW] at h); (try simp only [kNW]); omega) (fun q h => by have h9 := hS.1; (try dsimp only at h); (try dsimp only); (try simp only [kNW] at h); (try simp only [kNW]); omega) hxt hlk (by first | exact Nat.le_of_ble_eq_true rfl | omega | (show _ ≤ _; omega) | (dsimp only [headSpec]; omega)) (by first | exact Nat.le_of_ble_eq_true rfl | omega | (show _ ≤ _; omega) | (dsimp only [headSpec]; omega))

set_option maxHeartbeats 4000000 in
set_option maxRecDepth 100000 in
theorem x_step_2 (l : Launch) (hl9 : l.stackTraces = false) (D : kG) (H : Heap) (x1 : Nat) (snp : Option Nat) (hi : Nat) (bu : Nat) (st : Nat) (la : Nat) (mc : Int) (ea : Nat) (F : Fts) (S : Ls) (gap : Int) (ln : Nat) (d : Int) (hO_x1 : kO D H x1 0 [.ref st, va_rf (snp), .ref hi, .ref bu]) (hO_st : kO D H st 1 [.ref la, .int (kI (gap))]) (hO_la : kO D H la 9 [.int (kI (mc)), .ref ea, .int (kI ((S.length : Nat) : Int))]) (hP_kLs_ea : kLs D H ea S.length F) (hP_kLn_F : kLn D H F S) (hok : LsOK S gap) (hln : ln < S.length) (hr_d : -2147483648 ≤ d ∧ d ≤ 2147483647) (hd : d < 0 ∨ 7 < d) : vx_Met l yX1_step (ws_ yX1_step cX1_step 3 (Option.some Jvm.ClassFile.FieldType.boolean)) ({ frames := 8, cells := 1, slots := 6, locals := 164 } : Room) (kPre D H [.ref x1, .int (kI ((ln : Nat) : Int)), .int (kI (d))]) kFl (kXC "java/lang/IllegalArgumentException" (kNW H)) (1) (6) (kNW H) := by
  refine vx_ofW (cc := cX1_step) (maxL := 3) (ret := (Option.some Jvm.ClassFile.FieldType.boolean)) (by decide) rfl ?_
  intro p e s m args below meth c s₁ B hml hxt hv
  obtain ⟨rfl, hH, hK⟩ := hv
  subst hH
  have hx := B.exec
  have hb := B.bytes
  have hr := B.returns
  have hts := atoms_spec (ws := ws_ yX1_step cX1_step 3 (Option.some Jvm.ClassFile.FieldType.boolean)) B.pre
  have hts : ∀ w ∈ lw_all, w.before _ s = true := fun w h => hts w (List.mem_cons_of_mem _ h)
  have hown : s.vm.findClass RX1 = some m.cls := findClass_of_methodNamed B.named
  have hlk := B.notSynchronized
  have hS : va_S (kNW s.heap) s.heap s.heap [] := va_S.rf
  have hB : ∀ q, (kNW s.heap) q → kBase D ≤ q := fun q h => Nat.le_trans hK.size h
  have hl := lv_entry ([.ref x1, .int (kI ((ln : Nat) : Int)), .int (kI (d))]) (n := 3) (Nat.le_of_ble_eq_true rfl)
  rw [lg_entry_eq]
  generalize (lg_sl ([.ref x1, .int (kI ((ln : Nat) : Int)), .int (kI (d))]) ++ List.replicate (3 - (lg_sl ([.ref x1, .int (kI ((ln : Nat) : Int)), .int (kI (d))])).length) Slot.unset).toArray = ls at hl ⊢
  have hl : lv_has ls 3 [(0, .ref x1), (1, .int (kI ((ln : Nat) : Int))), (2, .int (kI (d)))] := hl
  have hL8 := hok.1
  refine lv_aload_n hx hb dX1_step_0 rfl (lv_at hl 0 rfl) ?_
  refine lv_iload_n hx hb dX1_step_1 rfl (lv_at hl 1 rfl) ?_
  refine lv_iload_n hx hb dX1_step_2 rfl (lv_at hl 2 rfl) ?_
  exact kx_thr (vx_runV (As := [.int (kI ((ln : Nat) : Int)), .int (kI (d))]) (rest := []) ⟨hx, hb, hml, hown, hts⟩ (x_whyNotStepped_d l hl9 D s.heap x1 snp hi bu st la mc ea F S gap ln d hO_x1 hO_st hO_la hP_kLs_ea hP_kLn_F (by first | assumption | omega) (by first | assumption | omega) (by first | assumption | omega) (by first | assumption | omega)) (cwV 2 hts (lw_V q1860 q1861 q1862 q79 q1863) rfl rfl rfl (by decide +kernel) ⟨Nat.le_of_ble_eq_true rfl, Nat.le_of_ble_eq_true rfl⟩) (kx_pv hK hS hB (kx_rc hK hO_x1 (C := RX1) (T := TX1) (N := 4) rfl)) rfl rfl hl.1 rfl (lv_room (Nat.le_of_ble_eq_true rfl)) dX1_step_3 ⟨by first | exact Nat.le_of_ble_eq_true rfl | omega | (show _ ≤ _; omega) | (dsimp only [headSpec]; omega), by first | exact Nat.le_of_ble_eq_true rfl | omega | (show _ ≤ _; omega) | (dsimp only [headSpec]; omega)⟩) hS (fun q _ h => by have h9 := hS.1; (try dsimp only at h); (try dsimp only); (try simp only [kNW] at h); (try simp only [kNW]); omega) (fun q h => by have h9 := hS.1; (try dsimp only at h); (try dsimp only); (try simp only [kNW] at h); (try simp only [kNW]); omega) hxt hlk (by first | exact Nat.le_of_ble_eq_true rfl | omega | (show _ ≤ _; omega) | (dsimp only [headSpec]; omega)) (by first | exact Nat.le_of_ble_eq_true rfl | omega | (show _ ≤ _; omega) | (dsimp only [headSpec]; omega))

set_option maxHeartbeats 4000000 in
set_option maxRecDepth 100000 in
theorem x_step_3 (l : Launch) (hl9 : l.stackTraces = false) (D : kG) (H : Heap) (x1 : Nat) (snp : Option Nat) (hi : Nat) (bu : Nat) (st : Nat) (la : Nat) (mc : Int) (ea : Nat) (F : Fts) (S : Ls) (gap : Int) (ln : Nat) (d : Int) (hO_x1 : kO D H x1 0 [.ref st, va_rf (snp), .ref hi, .ref bu]) (hO_st : kO D H st 1 [.ref la, .int (kI (gap))]) (hO_la : kO D H la 9 [.int (kI (mc)), .ref ea, .int (kI ((S.length : Nat) : Int))]) (hP_kLs_ea : kLs D H ea S.length F) (hP_kLn_F : kLn D H F S) (hok : LsOK S gap) (hln : ln < S.length) (hd : 0 ≤ d ∧ d ≤ 7) (hwn : st_whyNot S ln d ≠ 0) : vx_Met l yX1_step (ws_ yX1_step cX1_step 3 (Option.some Jvm.ClassFile.FieldType.boolean)) ({ frames := 9, cells := 7, slots := 20, locals := 3147 } : Room) (kPre D H [.ref x1, .int (kI ((ln : Nat) : Int)), .int (kI (d))]) kFl (kXC "java/lang/IllegalStateException" (kNW H)) (7) (20) (kNW H) := by
  refine vx_ofW (cc := cX1_step) (maxL := 3) (ret := (Option.some Jvm.ClassFile.FieldType.boolean)) (by decide) rfl ?_
  intro p e s m args below meth c s₁ B hml hxt hv
  obtain ⟨rfl, hH, hK⟩ := hv
  subst hH
  have hx := B.exec
  have hb := B.bytes
  have hr := B.returns
  have hts := atoms_spec (ws := ws_ yX1_step cX1_step 3 (Option.some Jvm.ClassFile.FieldType.boolean)) B.pre
  have hts : ∀ w ∈ lw_all, w.before _ s = true := fun w h => hts w (List.mem_cons_of_mem _ h)
  have hown : s.vm.findClass RX1 = some m.cls := findClass_of_methodNamed B.named
  have hlk := B.notSynchronized
  have hS : va_S (kNW s.heap) s.heap s.heap [] := va_S.rf
  have hB : ∀ q, (kNW s.heap) q → kBase D ≤ q := fun q h => Nat.le_trans hK.size h
  have hl := lv_entry ([.ref x1, .int (kI ((ln : Nat) : Int)), .int (kI (d))]) (n := 3) (Nat.le_of_ble_eq_true rfl)
  rw [lg_entry_eq]
  generalize (lg_sl ([.ref x1, .int (kI ((ln : Nat) : Int)), .int (kI (d))]) ++ List.replicate (3 - (lg_sl ([.ref x1, .int (kI ((ln : Nat) : Int)), .int (kI (d))])).length) Slot.unset).toArray = ls at hl ⊢
  have hl : lv_has ls 3 [(0, .ref x1), (1, .int (kI ((ln : Nat) : Int))), (2, .int (kI (d)))] := hl
  have hL8 := hok.1
  refine lv_aload_n hx hb dX1_step_0 rfl (lv_at hl 0 rfl) ?_
  refine lv_iload_n hx hb dX1_step_1 rfl (lv_at hl 1 rfl) ?_
  refine lv_iload_n hx hb dX1_step_2 rfl (lv_at hl 2 rfl) ?_
  refine kx_ci (va_runV (As := [.int (kI ((ln : Nat) : Int)), .int (kI (d))]) (rest := []) ⟨hx, hb, hml, hown, hts⟩ (m_X1_whyNotStepped l D s.heap x1 snp hi bu st la mc ea F S gap ln d hO_x1 hO_st hO_la hP_kLs_ea hP_kLn_F (by first | assumption | omega) (by first | assumption | omega) (by first | assumption | omega)) (cwV 2 hts (lw_V q1860 q1861 q1862 q79 q1863) rfl rfl rfl (by decide +kernel) ⟨Nat.le_of_ble_eq_true rfl, Nat.le_of_ble_eq_true rfl⟩) (kx_pv hK hS hB (kx_rc hK hO_x1 (C := RX1) (T := TX1) (N := 4) rfl)) rfl rfl hl.1 rfl (lv_room (Nat.le_of_ble_eq_true rfl)) dX1_step_3 ⟨by first | exact Nat.le_of_ble_eq_true rfl | omega | (show _ ≤ _; omega) | (dsimp only [headSpec]; omega), by first | exact Nat.le_of_ble_eq_true rfl | omega | (show _ ≤ _; omega) | (dsimp only [headSpec]; omega)⟩) hS (fun q _ h => Nat.le_trans hS.1 h) (fun q h => Nat.le_trans hS.1 h) (fun z_6 H_4 locs_1 hz_3 hF_5 hS_2 => ?_)
  have hzf_7 := hF_5.1
  have hF_5 := hF_5.nw
  refine W.widen (k := 6) (n := 14) (Nat.le_of_ble_eq_true rfl) (Nat.le_of_ble_eq_true rfl) ?_
  obtain ⟨hv_8, htr_9⟩ := hz_3
  subst z_6
  refine kx_if_ne (x := st_whyNot S ln d) (tgt := 13) hx hb dX1_step_6 (by decide) (by have := st_whyNot_rng S ln d; omega) (by have := st_whyNot_rng S ln d; omega) (fun c_6_10 => ?_) (fun c_6_10 => ?_)
  · -- taken at 6
    refine kx_iconst hx hb dX1_step_13 ?_
    exact kx_thr (vx_runS (As := [.int (kI (0))]) (rest := []) ⟨hx, hb, hml, hown, hts⟩ (x_checkState l hl9 D H_4   ) (va_cwS 1 hts (lw_S q1844 q1845 q79 q1846) rfl rfl rfl (by decide +kernel) ⟨Nat.le_of_ble_eq_true rfl, Nat.le_of_ble_eq_true rfl⟩) (kx_ps hK hS_2 hB) rfl rfl hl.1 rfl (lv_room (Nat.le_of_ble_eq_true rfl)) dX1_step_14 ⟨by first | exact Nat.le_of_ble_eq_true rfl | omega | (show _ ≤ _; omega) | (dsimp only [headSpec]; omega), by first | exact Nat.le_of_ble_eq_true rfl | omega | (show _ ≤ _; omega) | (dsimp only [headSpec]; omega)⟩) hS_2 (fun q _ h => by have h9 := hS_2.1; (try dsimp only at h); (try dsimp only); (try simp only [kNW] at h); (try simp only [kNW]); omega) (fun q h => by have h9 := hS_2.1; (try dsimp only at h); (try dsimp only); (try simp only [kNW] at h); (try simp only [kNW]); omega) hxt hlk (by first | exact Nat.le_of_ble_eq_true rfl | omega | (show _ ≤ _; omega) | (dsimp only [headSpec]; omega)) (by first | exact Nat.le_of_ble_eq_true rfl | omega | (show _ ≤ _; omega) | (dsimp only [headSpec]; omega))
  · -- not taken at 6
    exfalso; omega

set_option maxHeartbeats 4000000 in
set_option maxRecDepth 100000 in
theorem x_label_1l (l : Launch) (hl9 : l.stackTraces = false) (D : kG) (H : Heap) (x1 : Nat) (snp : Option Nat) (hi : Nat) (bu : Nat) (st : Nat) (la : Nat) (mc : Int) (ea : Nat) (F : Fts) (S : Ls) (gap : Int) (li : Int) (nu : Int) (hO_x1 : kO D H x1 0 [.ref st, va_rf (snp), .ref hi, .ref bu]) (hO_st : kO D H st 1 [.ref la, .int (kI (gap))]) (hO_la : kO D H la 9 [.int (kI (mc)), .ref ea, .int (kI ((S.length : Nat) : Int))]) (hP_kLs_ea : kLs D H ea S.length F) (hP_kLn_F : kLn D H F S) (hok : LsOK S gap) (hr_li : -2147483648 ≤ li ∧ li ≤ 2147483647) (hnl : li < 0 ∨ (S.length : Int) ≤ li) (hr_nu : -2147483648 ≤ nu ∧ nu ≤ 2147483647) : vx_Met l yX1_label (ws_ yX1_label cX1_label 3 (Option.some Jvm.ClassFile.FieldType.int)) ({ frames := 10, cells := 1, slots := 6, locals := 207 } : Room) (kPre D H [.ref x1, .int (kI (li)), .int (kI (nu))]) kFl (kXC "java/lang/IndexOutOfBoundsException" (kNW H)) (1) (6) (kNW H) := by
  refine vx_ofW (cc := cX1_label) (maxL := 3) (ret := (Option.some Jvm.ClassFile.FieldType.int)) (by decide) rfl ?_
  intro p e s m args below meth c s₁ B hml hxt hv
  obtain ⟨rfl, hH, hK⟩ := hv
  subst hH
  have hx := B.exec
  have hb := B.bytes
  have hr := B.returns
  have hts := atoms_spec (ws := ws_ yX1_label cX1_label 3 (Option.some Jvm.ClassFile.FieldType.int)) B.pre
  have hts : ∀ w ∈ lw_all, w.before _ s = true := fun w h => hts w (List.mem_cons_of_mem _ h)
  have hown : s.vm.findClass RX1 = some m.cls := findClass_of_methodNamed B.named
  have hlk := B.notSynchronized
  have hS : va_S (kNW s.heap) s.heap s.heap [] := va_S.rf
  have hB : ∀ q, (kNW s.heap) q → kBase D ≤ q := fun q h => Nat.le_trans hK.size h
  have hl := lv_entry ([.ref x1, .int (kI (li)), .int (kI (nu))]) (n := 3) (Nat.le_of_ble_eq_true rfl)
  rw [lg_entry_eq]
  generalize (lg_sl ([.ref x1, .int (kI (li)), .int (kI (nu))]) ++ List.replicate (3 - (lg_sl ([.ref x1, .int (kI (li)), .int (kI (nu))])).length) Slot.unset).toArray = ls at hl ⊢
  have hl : lv_has ls 3 [(0, .ref x1), (1, .int (kI (li))), (2, .int (kI (nu)))] := hl
  have hL8 := hok.1
  refine lv_aload_n hx hb dX1_label_0 rfl (lv_at hl 0 rfl) ?_
  refine lv_iload_n hx hb dX1_label_1 rfl (lv_at hl 1 rfl) ?_
  refine lv_iload_n hx hb dX1_label_2 rfl (lv_at hl 2 rfl) ?_
  exact kx_thr (vx_runV (As := [.int (kI (li)), .int (kI (nu))]) (rest := []) ⟨hx, hb, hml, hown, hts⟩ (x_whyNotLabelled_l l hl9 D s.heap x1 snp hi bu st la mc ea F S gap li nu hO_x1 hO_st hO_la hP_kLs_ea hP_kLn_F (by first | assumption | omega) (by first | assumption | omega) (by first | assumption | omega) (by first | assumption | omega)) (cwV 2 hts (lw_V q1896 q1897 q1898 q79 q1899) rfl rfl rfl (by decide +kernel) ⟨Nat.le_of_ble_eq_true rfl, Nat.le_of_ble_eq_true rfl⟩) (kx_pv hK hS hB (kx_rc hK hO_x1 (C := RX1) (T := TX1) (N := 4) rfl)) rfl rfl hl.1 rfl (lv_room (Nat.le_of_ble_eq_true rfl)) dX1_label_3 ⟨by first | exact Nat.le_of_ble_eq_true rfl | omega | (show _ ≤ _; omega) | (dsimp only [headSpec]; omega), by first | exact Nat.le_of_ble_eq_true rfl | omega | (show _ ≤ _; omega) | (dsimp only [headSpec]; omega)⟩) hS (fun q _ h => by have h9 := hS.1; (try dsimp only at h); (try dsimp only); (try simp only [kNW] at h); (try simp only [kNW]); omega) (fun q h => by have h9 := hS.1; (try dsimp only at h); (try dsimp only); (try simp only [kNW] at h); (try simp only [kNW]); omega) hxt hlk (by first | exact Nat.le_of_ble_eq_true rfl | omega | (show _ ≤ _; omega) | (dsimp only [headSpec]; omega)) (by first | exact Nat.le_of_ble_eq_true rfl | omega | (show _ ≤ _; omega) | (dsimp only [headSpec]; omega))

set_option maxHeartbeats 4000000 in
set_option maxRecDepth 100000 in
theorem x_label_1n (l : Launch) (hl9 : l.stackTraces = false) (D : kG) (H : Heap) (x1 : Nat) (snp : Option Nat) (hi : Nat) (bu : Nat) (st : Nat) (la : Nat) (mc : Int) (ea : Nat) (F : Fts) (S : Ls) (gap : Int) (ln : Nat) (nu : Int) (hO_x1 : kO D H x1 0 [.ref st, va_rf (snp), .ref hi, .ref bu]) (hO_st : kO D H st 1 [.ref la, .int (kI (gap))]) (hO_la : kO D H la 9 [.int (kI (mc)), .ref ea, .int (kI ((S.length : Nat) : Int))]) (hP_kLs_ea : kLs D H ea S.length F) (hP_kLn_F : kLn D H F S) (hok : LsOK S gap) (hln : ln < S.length) (hr_nu : -2147483648 ≤ nu ∧ nu ≤ 2147483647) (hnn : nu < 0 ∨ (ln_n (st_ln S ln) : Int) < nu) : vx_Met l yX1_label (ws_ yX1_label cX1_label 3 (Option.some Jvm.ClassFile.FieldType.int)) ({ frames := 9, cells := 1, slots := 6, locals := 186 } : Room) (kPre D H [.ref x1, .int (kI ((ln : Nat) : Int)), .int (kI (nu))]) kFl (kXC "java/lang/IndexOutOfBoundsException" (kNW H)) (1) (6) (kNW H) := by
  refine vx_ofW (cc := cX1_label) (maxL := 3) (ret := (Option.some Jvm.ClassFile.FieldType.int)) (by decide) rfl ?_
  intro p e s m args below meth c s₁ B hml hxt hv
  obtain ⟨rfl, hH, hK⟩ := hv
  subst hH
  have hx := B.exec
  have hb := B.bytes
  have hr := B.returns
  have hts := atoms_spec (ws := ws_ yX1_label cX1_label 3 (Option.some Jvm.ClassFile.FieldType.int)) B.pre
  have hts : ∀ w ∈ lw_all, w.before _ s = true := fun w h => hts w (List.mem_cons_of_mem _ h)
  have hown : s.vm.findClass RX1 = some m.cls := findClass_of_methodNamed B.named
  have hlk := B.notSynchronized
  have hS : va_S (kNW s.heap) s.heap s.heap [] := va_S.rf
  have hB : ∀ q, (kNW s.heap) q → kBase D ≤ q := fun q h => Nat.le_trans hK.size h
  have hl := lv_entry ([.ref x1, .int (kI ((ln : Nat) : Int)), .int (kI (nu))]) (n := 3) (Nat.le_of_ble_eq_true rfl)
  rw [lg_entry_eq]
  generalize (lg_sl ([.ref x1, .int (kI ((ln : Nat) : Int)), .int (kI (nu))]) ++ List.replicate (3 - (lg_sl ([.ref x1, .int (kI ((ln : Nat) : Int)), .int (kI (nu))])).length) Slot.unset).toArray = ls at hl ⊢
  have hl : lv_has ls 3 [(0, .ref x1), (1, .int (kI ((ln : Nat) : Int))), (2, .int (kI (nu)))] := hl
  have hL8 := hok.1
  refine lv_aload_n hx hb dX1_label_0 rfl (lv_at hl 0 rfl) ?_
  refine lv_iload_n hx hb dX1_label_1 rfl (lv_at hl 1 rfl) ?_
  refine lv_iload_n hx hb dX1_label_2 rfl (lv_at hl 2 rfl) ?_
  exact kx_thr (vx_runV (As := [.int (kI ((ln : Nat) : Int)), .int (kI (nu))]) (rest := []) ⟨hx, hb, hml, hown, hts⟩ (x_whyNotLabelled_n l hl9 D s.heap x1 snp hi bu st la mc ea F S gap ln nu hO_x1 hO_st hO_la hP_kLs_ea hP_kLn_F (by first | assumption | omega) (by first | assumption | omega) (by first | assumption | omega) (by first | assumption | omega)) (cwV 2 hts (lw_V q1896 q1897 q1898 q79 q1899) rfl rfl rfl (by decide +kernel) ⟨Nat.le_of_ble_eq_true rfl, Nat.le_of_ble_eq_true rfl⟩) (kx_pv hK hS hB (kx_rc hK hO_x1 (C := RX1) (T := TX1) (N := 4) rfl)) rfl rfl hl.1 rfl (lv_room (Nat.le_of_ble_eq_true rfl)) dX1_label_3 ⟨by first | exact Nat.le_of_ble_eq_true rfl | omega | (show _ ≤ _; omega) | (dsimp only [headSpec]; omega), by first | exact Nat.le_of_ble_eq_true rfl | omega | (show _ ≤ _; omega) | (dsimp only [headSpec]; omega)⟩) hS (fun q _ h => by have h9 := hS.1; (try dsimp only at h); (try dsimp only); (try simp only [kNW] at h); (try simp only [kNW]); omega) (fun q h => by have h9 := hS.1; (try dsimp only at h); (try dsimp only); (try simp only [kNW] at h); (try simp only [kNW]); omega) hxt hlk (by first | exact Nat.le_of_ble_eq_true rfl | omega | (show _ ≤ _; omega) | (dsimp only [headSpec]; omega)) (by first | exact Nat.le_of_ble_eq_true rfl | omega | (show _ ≤ _; omega) | (dsimp only [headSpec]; omega))

set_option maxHeartbeats 4000000 in
set_option maxRecDepth 100000 in
theorem x_label_2 (l : Launch) (hl9 : l.stackTraces = false) (D : kG) (H : Heap) (x1 : Nat) (snp : Option Nat) (hi : Nat) (bu : Nat) (st : Nat) (la : Nat) (mc : Int) (ea : Nat) (F : Fts) (S : Ls) (gap : Int) (ln : Nat) (pl : Nat) (hO_x1 : kO D H x1 0 [.ref st, va_rf (snp), .ref hi, .ref bu]) (hO_st : kO D H st 1 [.ref la, .int (kI (gap))]) (hO_la : kO D H la 9 [.int (kI (mc)), .ref ea, .int (kI ((S.length : Nat) : Int))]) (hP_kLs_ea : kLs D H ea S.length F) (hP_kLn_F : kLn D H F S) (hok : LsOK S gap) (hln : ln < S.length) (hpl : pl ≤ ln_n (st_ln S ln)) (hwl : st_whyL S gap ln pl ≠ 0) : vx_Met l yX1_label (ws_ yX1_label cX1_label 3 (Option.some Jvm.ClassFile.FieldType.int)) ({ frames := 9, cells := 6, slots := 19, locals := 3146 } : Room) (kPre D H [.ref x1, .int (kI ((ln : Nat) : Int)), .int (kI ((pl : Nat) : Int))]) kFl (kXC "java/lang/IllegalStateException" (kNW H)) (6) (19) (kNW H) := by
  refine vx_ofW (cc := cX1_label) (maxL := 3) (ret := (Option.some Jvm.ClassFile.FieldType.int)) (by decide) rfl ?_
  intro p e s m args below meth c s₁ B hml hxt hv
  obtain ⟨rfl, hH, hK⟩ := hv
  subst hH
  have hx := B.exec
  have hb := B.bytes
  have hr := B.returns
  have hts := atoms_spec (ws := ws_ yX1_label cX1_label 3 (Option.some Jvm.ClassFile.FieldType.int)) B.pre
  have hts : ∀ w ∈ lw_all, w.before _ s = true := fun w h => hts w (List.mem_cons_of_mem _ h)
  have hown : s.vm.findClass RX1 = some m.cls := findClass_of_methodNamed B.named
  have hlk := B.notSynchronized
  have hS : va_S (kNW s.heap) s.heap s.heap [] := va_S.rf
  have hB : ∀ q, (kNW s.heap) q → kBase D ≤ q := fun q h => Nat.le_trans hK.size h
  have hl := lv_entry ([.ref x1, .int (kI ((ln : Nat) : Int)), .int (kI ((pl : Nat) : Int))]) (n := 3) (Nat.le_of_ble_eq_true rfl)
  rw [lg_entry_eq]
  generalize (lg_sl ([.ref x1, .int (kI ((ln : Nat) : Int)), .int (kI ((pl : Nat) : Int))]) ++ List.replicate (3 - (lg_sl ([.ref x1, .int (kI ((ln : Nat) : Int)), .int (kI ((pl : Nat) : Int))])).length) Slot.unset).toArray = ls at hl ⊢
  have hl : lv_has ls 3 [(0, .ref x1), (1, .int (kI ((ln : Nat) : Int))), (2, .int (kI ((pl : Nat) : Int)))] := hl
  have hL8 := hok.1
  refine lv_aload_n hx hb dX1_label_0 rfl (lv_at hl 0 rfl) ?_
  refine lv_iload_n hx hb dX1_label_1 rfl (lv_at hl 1 rfl) ?_
  refine lv_iload_n hx hb dX1_label_2 rfl (lv_at hl 2 rfl) ?_
  refine kx_ci (va_runV (As := [.int (kI ((ln : Nat) : Int)), .int (kI ((pl : Nat) : Int))]) (rest := []) ⟨hx, hb, hml, hown, hts⟩ (m_X1_whyNotLabelled l D s.heap x1 snp hi bu st la mc ea F S gap ln pl hO_x1 hO_st hO_la hP_kLs_ea hP_kLn_F (by first | assumption | omega) (by first | assumption | omega) (by first | assumption | omega)) (cwV 2 hts (lw_V q1896 q1897 q1898 q79 q1899) rfl rfl rfl (by decide +kernel) ⟨Nat.le_of_ble_eq_true rfl, Nat.le_of_ble_eq_true rfl⟩) (kx_pv hK hS hB (kx_rc hK hO_x1 (C := RX1) (T := TX1) (N := 4) rfl)) rfl rfl hl.1 rfl (lv_room (Nat.le_of_ble_eq_true rfl)) dX1_label_3 ⟨by first | exact Nat.le_of_ble_eq_true rfl | omega | (show _ ≤ _; omega) | (dsimp only [headSpec]; omega), by first | exact Nat.le_of_ble_eq_true rfl | omega | (show _ ≤ _; omega) | (dsimp only [headSpec]; omega)⟩) hS (fun q _ h => Nat.le_trans hS.1 h) (fun q h => Nat.le_trans hS.1 h) (fun z_6 H_4 locs_1 hz_3 hF_5 hS_2 => ?_)
  have hzf_7 := hF_5.1
  have hF_5 := hF_5.nw
  refine W.widen (k := 5) (n := 13) (Nat.le_of_ble_eq_true rfl) (Nat.le_of_ble_eq_true rfl) ?_
  obtain ⟨hv_8, htr_9⟩ := hz_3
  subst z_6
  refine kx_if_ne (x := st_whyL S gap ln pl) (tgt := 13) hx hb dX1_label_6 (by decide) (by have := st_whyL_rng S gap ln pl; omega) (by have := st_whyL_rng S gap ln pl; omega) (fun c_6_10 => ?_) (fun c_6_10 => ?_)
  · -- taken at 6
    refine kx_iconst hx hb dX1_label_13 ?_
    exact kx_thr (vx_runS (As := [.int (kI (0))]) (rest := []) ⟨hx, hb, hml, hown, hts⟩ (x_checkState l hl9 D H_4   ) (va_cwS 1 hts (lw_S q1844 q1845 q79 q1846) rfl rfl rfl (by decide +kernel) ⟨Nat.le_of_ble_eq_true rfl, Nat.le_of_ble_eq_true rfl⟩) (kx_ps hK hS_2 hB) rfl rfl hl.1 rfl (lv_room (Nat.le_of_ble_eq_true rfl)) dX1_label_14 ⟨by first | exact Nat.le_of_ble_eq_true rfl | omega | (show _ ≤ _; omega) | (dsimp only [headSpec]; omega), by first | exact Nat.le_of_ble_eq_true rfl | omega | (show _ ≤ _; omega) | (dsimp only [headSpec]; omega)⟩) hS_2 (fun q _ h => by have h9 := hS_2.1; (try dsimp only at h); (try dsimp only); (try simp only [kNW] at h); (try simp only [kNW]); omega) (fun q h => by have h9 := hS_2.1; (try dsimp only at h); (try dsimp only); (try simp only [kNW] at h); (try simp only [kNW]); omega) hxt hlk (by first | exact Nat.le_of_ble_eq_true rfl | omega | (show _ ≤ _; omega) | (dsimp only [headSpec]; omega)) (by first | exact Nat.le_of_ble_eq_true rfl | omega | (show _ ≤ _; omega) | (dsimp only [headSpec]; omega))
  · -- not taken at 6
    exfalso; omega

set_option maxHeartbeats 4000000 in
set_option maxRecDepth 100000 in
theorem x_begin_1 (l : Launch) (hl9 : l.stackTraces = false) (D : kG) (H : Heap) (x1 : Nat) (snp : Option Nat) (hi : Nat) (bu : Nat) (st : Nat) (la : Nat) (mc : Int) (ea : Nat) (F : Fts) (S : Ls) (gap : Int) (lv : Int) (x : Int) (hO_x1 : kO D H x1 0 [.ref st, va_rf (snp), .ref hi, .ref bu]) (hO_st : kO D H st 1 [.ref la, .int (kI (gap))]) (hO_la : kO D H la 9 [.int (kI (mc)), .ref ea, .int (kI ((S.length : Nat) : Int))]) (hP_kLs_ea : kLs D H ea S.length F) (hP_kLn_F : kLn D H F S) (hok : LsOK S gap) (hr_lv : -2147483648 ≤ lv ∧ lv ≤ 2147483647) (hr_x : -2147483648 ≤ x ∧ x ≤ 2147483647) (hpt : x < 0 ∨ 384 ≤ x) : vx_Met l yX1_begin (ws_ yX1_begin cX1_begin 3 (Option.some Jvm.ClassFile.FieldType.int)) ({ frames := 8, cells := 1, slots := 6, locals := 161 } : Room) (kPre D H [.ref x1, .int (kI (lv)), .int (kI (x))]) kFl (kXC "java/lang/IndexOutOfBoundsException" (kNW H)) (1) (6) (kNW H) := by
  refine vx_ofW (cc := cX1_begin) (maxL := 3) (ret := (Option.some Jvm.ClassFile.FieldType.int)) (by decide) rfl ?_
  intro p e s m args below meth c s₁ B hml hxt hv
  obtain ⟨rfl, hH, hK⟩ := hv
  subst hH
  have hx := B.exec
  have hb := B.bytes
  have hr := B.returns
  have hts := atoms_spec (ws := ws_ yX1_begin cX1_begin 3 (Option.some Jvm.ClassFile.FieldType.int)) B.pre
  have hts : ∀ w ∈ lw_all, w.before _ s = true := fun w h => hts w (List.mem_cons_of_mem _ h)
  have hown : s.vm.findClass RX1 = some m.cls := findClass_of_methodNamed B.named
  have hlk := B.notSynchronized
  have hS : va_S (kNW s.heap) s.heap s.heap [] := va_S.rf
  have hB : ∀ q, (kNW s.heap) q → kBase D ≤ q := fun q h => Nat.le_trans hK.size h
  have hl := lv_entry ([.ref x1, .int (kI (lv)), .int (kI (x))]) (n := 3) (Nat.le_of_ble_eq_true rfl)
  rw [lg_entry_eq]
  generalize (lg_sl ([.ref x1, .int (kI (lv)), .int (kI (x))]) ++ List.replicate (3 - (lg_sl ([.ref x1, .int (kI (lv)), .int (kI (x))])).length) Slot.unset).toArray = ls at hl ⊢
  have hl : lv_has ls 3 [(0, .ref x1), (1, .int (kI (lv))), (2, .int (kI (x)))] := hl
  have hL8 := hok.1
  refine lv_iload_n hx hb dX1_begin_0 rfl (lv_at hl 2 rfl) ?_
  exact kx_thr (vx_runS (As := [.int (kI (x))]) (rest := []) ⟨hx, hb, hml, hown, hts⟩ (x_checkPoint l hl9 D s.heap x  (by first | assumption | omega) (by first | assumption | omega)) (va_cwS 1 hts (lw_S q1817 q1818 q79 q1819) rfl rfl rfl (by decide +kernel) ⟨Nat.le_of_ble_eq_true rfl, Nat.le_of_ble_eq_true rfl⟩) (kx_ps hK hS hB) rfl rfl hl.1 rfl (lv_room (Nat.le_of_ble_eq_true rfl)) dX1_begin_1 ⟨by first | exact Nat.le_of_ble_eq_true rfl | omega | (show _ ≤ _; omega) | (dsimp only [headSpec]; omega), by first | exact Nat.le_of_ble_eq_true rfl | omega | (show _ ≤ _; omega) | (dsimp only [headSpec]; omega)⟩) hS (fun q _ h => by have h9 := hS.1; (try dsimp only at h); (try dsimp only); (try simp only [kNW] at h); (try simp only [kNW]); omega) (fun q h => by have h9 := hS.1; (try dsimp only at h); (try dsimp only); (try simp only [kNW] at h); (try simp only [kNW]); omega) hxt hlk (by first | exact Nat.le_of_ble_eq_true rfl | omega | (show _ ≤ _; omega) | (dsimp only [headSpec]; omega)) (by first | exact Nat.le_of_ble_eq_true rfl | omega | (show _ ≤ _; omega) | (dsimp only [headSpec]; omega))

set_option maxHeartbeats 4000000 in
set_option maxRecDepth 100000 in
theorem x_begin_2 (l : Launch) (hl9 : l.stackTraces = false) (D : kG) (H : Heap) (x1 : Nat) (snp : Option Nat) (hi : Nat) (bu : Nat) (st : Nat) (la : Nat) (mc : Int) (ea : Nat) (F : Fts) (S : Ls) (gap : Int) (lv : Int) (x : Int) (hO_x1 : kO D H x1 0 [.ref st, va_rf (snp), .ref hi, .ref bu]) (hO_st : kO D H st 1 [.ref la, .int (kI (gap))]) (hO_la : kO D H la 9 [.int (kI (mc)), .ref ea, .int (kI ((S.length : Nat) : Int))]) (hP_kLs_ea : kLs D H ea S.length F) (hP_kLn_F : kLn D H F S) (hok : LsOK S gap) (hpt : 0 ≤ x ∧ x ≤ 383) (hr_lv : -2147483648 ≤ lv ∧ lv ≤ 2147483647) (hlv : lv < 0 ∨ 99 < lv) : vx_Met l yX1_begin (ws_ yX1_begin cX1_begin 3 (Option.some Jvm.ClassFile.FieldType.int)) ({ frames := 7, cells := 1, slots := 6, locals := 142 } : Room) (kPre D H [.ref x1, .int (kI (lv)), .int (kI (x))]) kFl (kXC "java/lang/IllegalArgumentException" (kNW H)) (1) (6) (kNW H) := by
  refine vx_ofW (cc := cX1_begin) (maxL := 3) (ret := (Option.some Jvm.ClassFile.FieldType.int)) (by decide) rfl ?_
  intro p e s m args below meth c s₁ B hml hxt hv
  obtain ⟨rfl, hH, hK⟩ := hv
  subst hH
  have hx := B.exec
  have hb := B.bytes
  have hr := B.returns
  have hts := atoms_spec (ws := ws_ yX1_begin cX1_begin 3 (Option.some Jvm.ClassFile.FieldType.int)) B.pre
  have hts : ∀ w ∈ lw_all, w.before _ s = true := fun w h => hts w (List.mem_cons_of_mem _ h)
  have hown : s.vm.findClass RX1 = some m.cls := findClass_of_methodNamed B.named
  have hlk := B.notSynchronized
  have hS : va_S (kNW s.heap) s.heap s.heap [] := va_S.rf
  have hB : ∀ q, (kNW s.heap) q → kBase D ≤ q := fun q h => Nat.le_trans hK.size h
  have hl := lv_entry ([.ref x1, .int (kI (lv)), .int (kI (x))]) (n := 3) (Nat.le_of_ble_eq_true rfl)
  rw [lg_entry_eq]
  generalize (lg_sl ([.ref x1, .int (kI (lv)), .int (kI (x))]) ++ List.replicate (3 - (lg_sl ([.ref x1, .int (kI (lv)), .int (kI (x))])).length) Slot.unset).toArray = ls at hl ⊢
  have hl : lv_has ls 3 [(0, .ref x1), (1, .int (kI (lv))), (2, .int (kI (x)))] := hl
  have hL8 := hok.1
  refine lv_iload_n hx hb dX1_begin_0 rfl (lv_at hl 2 rfl) ?_
  refine kx_cv0 (va_runS (As := [.int (kI (x))]) (rest := []) ⟨hx, hb, hml, hown, hts⟩ (m_X1_checkPoint l D s.heap x  (by first | assumption | omega)) (va_cwS 1 hts (lw_S q1817 q1818 q79 q1819) rfl rfl rfl (by decide +kernel) ⟨Nat.le_of_ble_eq_true rfl, Nat.le_of_ble_eq_true rfl⟩) (kx_ps hK hS hB) rfl rfl hl.1 rfl (lv_room (Nat.le_of_ble_eq_true rfl)) dX1_begin_1 ⟨by first | exact Nat.le_of_ble_eq_true rfl | omega | (show _ ≤ _; omega) | (dsimp only [headSpec]; omega), by first | exact Nat.le_of_ble_eq_true rfl | omega | (show _ ≤ _; omega) | (dsimp only [headSpec]; omega)⟩) hS (fun locs_1 hz_3 hS_2 => ?_)
  refine lv_iload_n hx hb dX1_begin_4 rfl (lv_at hl 1 rfl) ?_
  refine kx_iconst hx hb dX1_begin_5 ?_
  refine kx_bipush hx hb (by decide) dX1_begin_6 ?_
  exact kx_thr (vx_runS (As := [.int (kI (lv)), .int (kI (0)), .int (kI (99))]) (rest := []) ⟨hx, hb, hml, hown, hts⟩ (x_checkRange l hl9 D s.heap lv 0 99  (by first | assumption | omega) (by first | assumption | omega) (by first | assumption | omega) (by first | assumption | omega)) (va_cwS 3 hts (lw_S q1838 q1839 q79 q1840) rfl rfl rfl (by decide +kernel) ⟨Nat.le_of_ble_eq_true rfl, Nat.le_of_ble_eq_true rfl⟩) (kx_ps hK hS_2 hB) rfl rfl hl.1 rfl (lv_room (Nat.le_of_ble_eq_true rfl)) dX1_begin_8 ⟨by first | exact Nat.le_of_ble_eq_true rfl | omega | (show _ ≤ _; omega) | (dsimp only [headSpec]; omega), by first | exact Nat.le_of_ble_eq_true rfl | omega | (show _ ≤ _; omega) | (dsimp only [headSpec]; omega)⟩) hS_2 (fun q _ h => by have h9 := hS_2.1; (try dsimp only at h); (try dsimp only); (try simp only [kNW] at h); (try simp only [kNW]); omega) (fun q h => by have h9 := hS_2.1; (try dsimp only at h); (try dsimp only); (try simp only [kNW] at h); (try simp only [kNW]); omega) hxt hlk (by first | exact Nat.le_of_ble_eq_true rfl | omega | (show _ ≤ _; omega) | (dsimp only [headSpec]; omega)) (by first | exact Nat.le_of_ble_eq_true rfl | omega | (show _ ≤ _; omega) | (dsimp only [headSpec]; omega))

set_option maxHeartbeats 4000000 in
set_option maxRecDepth 100000 in
theorem x_begin_3 (l : Launch) (hl9 : l.stackTraces = false) (D : kG) (H : Heap) (x1 : Nat) (snp : Option Nat) (hi : Nat) (bu : Nat) (st : Nat) (la : Nat) (mc : Int) (ea : Nat) (F : Fts) (S : Ls) (gap : Int) (lv : Int) (x : Int) (hO_x1 : kO D H x1 0 [.ref st, va_rf (snp), .ref hi, .ref bu]) (hO_st : kO D H st 1 [.ref la, .int (kI (gap))]) (hO_la : kO D H la 9 [.int (kI (mc)), .ref ea, .int (kI ((S.length : Nat) : Int))]) (hP_kLs_ea : kLs D H ea S.length F) (hP_kLn_F : kLn D H F S) (hok : LsOK S gap) (hpt : 0 ≤ x ∧ x ≤ 383) (hlv : 0 ≤ lv ∧ lv ≤ 99) (hno : S.length = 8 ∨ st_owner S x ≠ -1) : vx_Met l yX1_begin (ws_ yX1_begin cX1_begin 3 (Option.some Jvm.ClassFile.FieldType.int)) ({ frames := 7, cells := 1, slots := 6, locals := 140 } : Room) (kPre D H [.ref x1, .int (kI (lv)), .int (kI (x))]) kFl (kXC "java/lang/IllegalStateException" (kNW H)) (1) (6) (kNW H) := by
  refine vx_ofW (cc := cX1_begin) (maxL := 3) (ret := (Option.some Jvm.ClassFile.FieldType.int)) (by decide) rfl ?_
  intro p e s m args below meth c s₁ B hml hxt hv
  obtain ⟨rfl, hH, hK⟩ := hv
  subst hH
  have hx := B.exec
  have hb := B.bytes
  have hr := B.returns
  have hts := atoms_spec (ws := ws_ yX1_begin cX1_begin 3 (Option.some Jvm.ClassFile.FieldType.int)) B.pre
  have hts : ∀ w ∈ lw_all, w.before _ s = true := fun w h => hts w (List.mem_cons_of_mem _ h)
  have hown : s.vm.findClass RX1 = some m.cls := findClass_of_methodNamed B.named
  have hlk := B.notSynchronized
  have hS : va_S (kNW s.heap) s.heap s.heap [] := va_S.rf
  have hB : ∀ q, (kNW s.heap) q → kBase D ≤ q := fun q h => Nat.le_trans hK.size h
  have hl := lv_entry ([.ref x1, .int (kI (lv)), .int (kI (x))]) (n := 3) (Nat.le_of_ble_eq_true rfl)
  rw [lg_entry_eq]
  generalize (lg_sl ([.ref x1, .int (kI (lv)), .int (kI (x))]) ++ List.replicate (3 - (lg_sl ([.ref x1, .int (kI (lv)), .int (kI (x))])).length) Slot.unset).toArray = ls at hl ⊢
  have hl : lv_has ls 3 [(0, .ref x1), (1, .int (kI (lv))), (2, .int (kI (x)))] := hl
  have hL8 := hok.1
  have hor := st_owner_rng S x
  refine lv_iload_n hx hb dX1_begin_0 rfl (lv_at hl 2 rfl) ?_
  refine kx_cv0 (va_runS (As := [.int (kI (x))]) (rest := []) ⟨hx, hb, hml, hown, hts⟩ (m_X1_checkPoint l D s.heap x  (by first | assumption | omega)) (va_cwS 1 hts (lw_S q1817 q1818 q79 q1819) rfl rfl rfl (by decide +kernel) ⟨Nat.le_of_ble_eq_true rfl, Nat.le_of_ble_eq_true rfl⟩) (kx_ps hK hS hB) rfl rfl hl.1 rfl (lv_room (Nat.le_of_ble_eq_true rfl)) dX1_begin_1 ⟨by first | exact Nat.le_of_ble_eq_true rfl | omega | (show _ ≤ _; omega) | (dsimp only [headSpec]; omega), by first | exact Nat.le_of_ble_eq_true rfl | omega | (show _ ≤ _; omega) | (dsimp only [headSpec]; omega)⟩) hS (fun locs_1 hz_3 hS_2 => ?_)
  refine lv_iload_n hx hb dX1_begin_4 rfl (lv_at hl 1 rfl) ?_
  refine kx_iconst hx hb dX1_begin_5 ?_
  refine kx_bipush hx hb (by decide) dX1_begin_6 ?_
  refine kx_cv0 (va_runS (As := [.int (kI (lv)), .int (kI (0)), .int (kI (99))]) (rest := []) ⟨hx, hb, hml, hown, hts⟩ (m_X1_checkRange l D s.heap lv 0 99  (by first | assumption | omega) (by first | assumption | omega) (by first | assumption | omega) (by first | assumption | omega)) (va_cwS 3 hts (lw_S q1838 q1839 q79 q1840) rfl rfl rfl (by decide +kernel) ⟨Nat.le_of_ble_eq_true rfl, Nat.le_of_ble_eq_true rfl⟩) (kx_ps hK hS_2 hB) rfl rfl hl.1 rfl (lv_room (Nat.le_of_ble_eq_true rfl)) dX1_begin_8 ⟨by first | exact Nat.le_of_ble_eq_true rfl | omega | (show _ ≤ _; omega) | (dsimp only [headSpec]; omega), by first | exact Nat.le_of_ble_eq_true rfl | omega | (show _ ≤ _; omega) | (dsimp only [headSpec]; omega)⟩) hS_2 (fun locs_5 hz_7 hS_6 => ?_)
  refine lv_aload_n hx hb dX1_begin_11 rfl (lv_at hl 0 rfl) ?_
  refine kx_get (v := .ref st) (C := RX1) (T := TX1) (N := 4) hx hb hts in_X1 hown hK hO_x1 rfl 0 (by decide) q229 (fun _ h9 => h9) rfl dX1_begin_12 ?_
  refine kx_get (v := .ref la) (C := RX2) (T := TX2) (N := 2) hx hb hts in_X2 hown hK hO_st rfl 0 (by decide) q168 (fun _ h9 => h9) rfl dX1_begin_15 ?_
  refine kx_cFi0 (va_runF (C := RJ2) (As := []) (rest := []) (hK.at (ci := 9) rfl) ⟨hx, hb, hml, hown, hts⟩ (m_J2_size l D s.heap la mc ea S.length hO_la ) (va_cwF (x := ({ cls := "java/util/List", name := "size", desc := "()I" } : Jvm.MethodName)) 0 hts (lw_F q1267 q283 q285 q83 q287) rfl rfl rfl (hK.fw (by decide)) (by decide +kernel) ⟨Nat.le_of_ble_eq_true rfl, Nat.le_of_ble_eq_true rfl⟩) (kx_pv hK hS_6 hB (kx_rc hK hO_la (C := RJ2) (T := TJ2) (N := 3) rfl)) rfl rfl hl.1 rfl (lv_room (Nat.le_of_ble_eq_true rfl)) dX1_begin_18 ⟨by first | exact Nat.le_of_ble_eq_true rfl | omega | (show _ ≤ _; omega) | (dsimp only [headSpec]; omega), by first | exact Nat.le_of_ble_eq_true rfl | omega | (show _ ≤ _; omega) | (dsimp only [headSpec]; omega)⟩) hS_6 (fun z_12 locs_9 hz_11 hS_10 => ?_)
  subst z_12
  refine kx_bipush hx hb (by decide) dX1_begin_23 ?_
  refine kx_icmp_ge (x := ((S.length : Nat) : Int)) (y := 8) (tgt := 44) hx hb dX1_begin_25 (by decide) (by omega) (by omega) (by omega) (by omega) (fun c_25_13 => ?_) (fun c_25_13 => ?_)
  · -- taken at 25
    refine kx_iconst hx hb dX1_begin_44 ?_
    exact kx_thr (vx_runS (As := [.int (kI (0))]) (rest := []) ⟨hx, hb, hml, hown, hts⟩ (x_checkState l hl9 D s.heap   ) (va_cwS 1 hts (lw_S q1844 q1845 q79 q1846) rfl rfl rfl (by decide +kernel) ⟨Nat.le_of_ble_eq_true rfl, Nat.le_of_ble_eq_true rfl⟩) (kx_ps hK hS_10 hB) rfl rfl hl.1 rfl (lv_room (Nat.le_of_ble_eq_true rfl)) dX1_begin_45 ⟨by first | exact Nat.le_of_ble_eq_true rfl | omega | (show _ ≤ _; omega) | (dsimp only [headSpec]; omega), by first | exact Nat.le_of_ble_eq_true rfl | omega | (show _ ≤ _; omega) | (dsimp only [headSpec]; omega)⟩) hS_10 (fun q _ h => by have h9 := hS_10.1; (try dsimp only at h); (try dsimp only); (try simp only [kNW] at h); (try simp only [kNW]); omega) (fun q h => by have h9 := hS_10.1; (try dsimp only at h); (try dsimp only); (try simp only [kNW] at h); (try simp only [kNW]); omega) hxt hlk (by first | exact Nat.le_of_ble_eq_true rfl | omega | (show _ ≤ _; omega) | (dsimp only [headSpec]; omega)) (by first | exact Nat.le_of_ble_eq_true rfl | omega | (show _ ≤ _; omega) | (dsimp only [headSpec]; omega))
  · -- not taken at 25
    refine lv_aload_n hx hb dX1_begin_28 rfl (lv_at hl 0 rfl) ?_
    refine kx_get (v := .ref st) (C := RX1) (T := TX1) (N := 4) hx hb hts in_X1 hown hK hO_x1 rfl 0 (by decide) q229 (fun _ h9 => h9) rfl dX1_begin_29 ?_
    refine lv_iload_n hx hb dX1_begin_32 rfl (lv_at hl 2 rfl) ?_
    refine kx_ci0 (va_runV (As := [.int (kI (x))]) (rest := []) ⟨hx, hb, hml, hown, hts⟩ (m_X2_lineAt l D s.heap st la mc ea F S gap x hO_st hO_la hP_kLs_ea hP_kLn_F (by first | assumption | omega) (by first | assumption | omega)) (cwV 1 hts (lw_V q1843 q1656 q1657 q80 q1658) rfl rfl rfl (by decide +kernel) ⟨Nat.le_of_ble_eq_true rfl, Nat.le_of_ble_eq_true rfl⟩) (kx_pv hK hS_10 hB (kx_rc hK hO_st (C := RX2) (T := TX2) (N := 2) rfl)) rfl rfl hl.1 rfl (lv_room (Nat.le_of_ble_eq_true rfl)) dX1_begin_33 ⟨by first | exact Nat.le_of_ble_eq_true rfl | omega | (show _ ≤ _; omega) | (dsimp only [headSpec]; omega), by first | exact Nat.le_of_ble_eq_true rfl | omega | (show _ ≤ _; omega) | (dsimp only [headSpec]; omega)⟩) hS_10 (fun z_17 locs_14 hz_16 hS_15 => ?_)
    subst z_17
    refine kx_iconst hx hb dX1_begin_36 ?_
    refine kx_icmp_ne (x := st_owner S x) (y := (-1)) (tgt := 44) hx hb dX1_begin_37 (by decide) (by omega) (by omega) (by omega) (by omega) (fun c_37_18 => ?_) (fun c_37_18 => ?_)
    · -- taken at 37
      refine kx_iconst hx hb dX1_begin_44 ?_
      exact kx_thr (vx_runS (As := [.int (kI (0))]) (rest := []) ⟨hx, hb, hml, hown, hts⟩ (x_checkState l hl9 D s.heap   ) (va_cwS 1 hts (lw_S q1844 q1845 q79 q1846) rfl rfl rfl (by decide +kernel) ⟨Nat.le_of_ble_eq_true rfl, Nat.le_of_ble_eq_true rfl⟩) (kx_ps hK hS_15 hB) rfl rfl hl.1 rfl (lv_room (Nat.le_of_ble_eq_true rfl)) dX1_begin_45 ⟨by first | exact Nat.le_of_ble_eq_true rfl | omega | (show _ ≤ _; omega) | (dsimp only [headSpec]; omega), by first | exact Nat.le_of_ble_eq_true rfl | omega | (show _ ≤ _; omega) | (dsimp only [headSpec]; omega)⟩) hS_15 (fun q _ h => by have h9 := hS_15.1; (try dsimp only at h); (try dsimp only); (try simp only [kNW] at h); (try simp only [kNW]); omega) (fun q h => by have h9 := hS_15.1; (try dsimp only at h); (try dsimp only); (try simp only [kNW] at h); (try simp only [kNW]); omega) hxt hlk (by first | exact Nat.le_of_ble_eq_true rfl | omega | (show _ ≤ _; omega) | (dsimp only [headSpec]; omega)) (by first | exact Nat.le_of_ble_eq_true rfl | omega | (show _ ≤ _; omega) | (dsimp only [headSpec]; omega))
    · -- not taken at 37
      exfalso; rcases hno with z | z <;> omega

set_option maxHeartbeats 4000000 in
set_option maxRecDepth 100000 in
theorem x_restoreSnapshot (l : Launch) (hl9 : l.stackTraces = false) (D : kG) (H : Heap) (x1 : Nat) (snp : Option Nat) (hi : Nat) (bu : Nat) (st : Nat) (la : Nat) (mc : Int) (ea : Nat) (F : Fts) (S : Ls) (gap : Int) (hO_x1 : kO D H x1 0 [.ref st, .null, .ref hi, .ref bu]) (hO_st : kO D H st 1 [.ref la, .int (kI (gap))]) (hO_la : kO D H la 9 [.int (kI (mc)), .ref ea, .int (kI ((S.length : Nat) : Int))]) (hP_kLs_ea : kLs D H ea S.length F) (hP_kLn_F : kLn D H F S) (hok : LsOK S gap) : vx_Met l yX1_restoreSnapshot (ws_ yX1_restoreSnapshot cX1_restoreSnapshot 1 (Option.some Jvm.ClassFile.FieldType.int)) ({ frames := 7, cells := 1, slots := 6, locals := 140 } : Room) (kPre D H [.ref x1]) kFl (kXC "java/lang/IllegalStateException" (kNW H)) (1) (6) (kNW H) := by
  refine vx_ofW (cc := cX1_restoreSnapshot) (maxL := 1) (ret := (Option.some Jvm.ClassFile.FieldType.int)) (by decide) rfl ?_
  intro p e s m args below meth c s₁ B hml hxt hv
  obtain ⟨rfl, hH, hK⟩ := hv
  subst hH
  have hx := B.exec
  have hb := B.bytes
  have hr := B.returns
  have hts := atoms_spec (ws := ws_ yX1_restoreSnapshot cX1_restoreSnapshot 1 (Option.some Jvm.ClassFile.FieldType.int)) B.pre
  have hts : ∀ w ∈ lw_all, w.before _ s = true := fun w h => hts w (List.mem_cons_of_mem _ h)
  have hown : s.vm.findClass RX1 = some m.cls := findClass_of_methodNamed B.named
  have hlk := B.notSynchronized
  have hS : va_S (kNW s.heap) s.heap s.heap [] := va_S.rf
  have hB : ∀ q, (kNW s.heap) q → kBase D ≤ q := fun q h => Nat.le_trans hK.size h
  have hl := lv_entry ([.ref x1]) (n := 1) (Nat.le_of_ble_eq_true rfl)
  rw [lg_entry_eq]
  generalize (lg_sl ([.ref x1]) ++ List.replicate (1 - (lg_sl ([.ref x1])).length) Slot.unset).toArray = ls at hl ⊢
  have hl : lv_has ls 1 [(0, .ref x1)] := hl
  have hL8 := hok.1
  refine lv_aload_n hx hb dX1_restoreSnapshot_0 rfl (lv_at hl 0 rfl) ?_
  refine kx_get (v := .null) (C := RX1) (T := TX1) (N := 4) hx hb hts in_X1 hown hK hO_x1 rfl 1 (by decide) q230 (fun _ h9 => h9) rfl dX1_restoreSnapshot_1 ?_
  refine lv_ifnullN (tgt := 11) hx hb dX1_restoreSnapshot_4 (by decide) ?_
  refine kx_iconst hx hb dX1_restoreSnapshot_11 ?_
  exact kx_thr (vx_runS (As := [.int (kI (0))]) (rest := []) ⟨hx, hb, hml, hown, hts⟩ (x_checkState l hl9 D s.heap   ) (va_cwS 1 hts (lw_S q1844 q1845 q79 q1846) rfl rfl rfl (by decide +kernel) ⟨Nat.le_of_ble_eq_true rfl, Nat.le_of_ble_eq_true rfl⟩) (kx_ps hK hS hB) rfl rfl hl.1 rfl (lv_room (Nat.le_of_ble_eq_true rfl)) dX1_restoreSnapshot_12 ⟨by first | exact Nat.le_of_ble_eq_true rfl | omega | (show _ ≤ _; omega) | (dsimp only [headSpec]; omega), by first | exact Nat.le_of_ble_eq_true rfl | omega | (show _ ≤ _; omega) | (dsimp only [headSpec]; omega)⟩) hS (fun q _ h => by have h9 := hS.1; (try dsimp only at h); (try dsimp only); (try simp only [kNW] at h); (try simp only [kNW]); omega) (fun q h => by have h9 := hS.1; (try dsimp only at h); (try dsimp only); (try simp only [kNW] at h); (try simp only [kNW]); omega) hxt hlk (by first | exact Nat.le_of_ble_eq_true rfl | omega | (show _ ≤ _; omega) | (dsimp only [headSpec]; omega)) (by first | exact Nat.le_of_ble_eq_true rfl | omega | (show _ ≤ _; omega) | (dsimp only [headSpec]; omega))

