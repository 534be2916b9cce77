set_option maxHeartbeats 4000000 in
set_option maxRecDepth 100000 in
theorem m_X1_isWithinBySpreading (l : Launch) (D : kG) (H : Heap) (x1 : Nat) (snp : Option Nat) (hi : Nat) (bu : Nat) (st : Nat) (la : Nat) (mc : Int) (ea : Nat) (F : Fts) (S : Ls) (gap : Int) (ln : Nat) (x : Int) (hO_x1 : kO D H x1 0 [.ref st, va_rf (snp), .ref hi, .ref bu]) (hO_st : kO D H st 1 [.ref la, .int (kI (gap))]) (hO_la : kO D H la 9 [.int (kI (mc)), .ref ea, .int (kI ((S.length : Nat) : Int))]) (hP_kLs_ea : kLs D H ea S.length F) (hP_kLn_F : kLn D H F S) (hok : LsOK S gap) (hln : ln < S.length) (hpt : 0 ≤ x ∧ x ≤ 383) (hdis : StDis S) (hspr : ln_cl (st_ln S ln) = true → SprOK (st_ln S ln)) : Met l yX1_isWithinBySpreading (ws_ yX1_isWithinBySpreading cX1_isWithinBySpreading 3 (some .boolean)) ({ frames := 5, cells := 2, slots := 3570, locals := 127 } : Room) (kPre D H [.ref x1, .int (kI ((ln : Nat) : Int)), .int (kI (x))]) (kQb (fun (r : Bool) H' => (r = st_cont S ln x) ∧ (True)) (kNW H)) (2) (3570) ((kNW H)) := by
  refine Met.ofW (cc := cX1_isWithinBySpreading) (maxL := 3) (ret := (some .boolean)) (by decide) rfl ?_
  intro p e s m args below meth c s₁ B hml hv
  obtain ⟨rfl, hH, hK⟩ := hv
  subst hH
  have hx := B.exec
  have hb := B.bytes
  have hr := B.returns
  have hts := atoms_spec (ws := ws_ yX1_isWithinBySpreading cX1_isWithinBySpreading 3 (some .boolean)) B.pre
  have hts : ∀ w ∈ lw_all, w.before _ s = true := fun w h => hts w (List.mem_cons_of_mem _ h)
  have hown : s.vm.findClass RX1 = some m.cls := findClass_of_methodNamed B.named
  have hlk := B.notSynchronized
  have hS : va_S (kNW s.heap) s.heap s.heap [] := va_S.rf
  have hB : ∀ q, (kNW s.heap) q → kBase D ≤ q := fun q h => Nat.le_trans hK.size h
  have hl := lv_entry ([.ref x1, .int (kI ((ln : Nat) : Int)), .int (kI (x))]) (n := 3) (Nat.le_of_ble_eq_true rfl)
  rw [lg_entry_eq]
  generalize (lg_sl ([.ref x1, .int (kI ((ln : Nat) : Int)), .int (kI (x))]) ++ List.replicate (3 - (lg_sl ([.ref x1, .int (kI ((ln : Nat) : Int)), .int (kI (x))])).length) Slot.unset).toArray = ls at hl ⊢
  have hl : lv_has ls 3 [(0, .ref x1), (1, .int (kI ((ln : Nat) : Int))), (2, .int (kI (x)))] := hl
  have hL8 := hok.1
  have hLn9 := hok.ln hln
  have hn60 := hLn9.n
  refine lv_aload_n hx hb dX1_isWithinBySpreading_0 rfl (lv_at hl 0 rfl) ?_
  refine lv_iload_n hx hb dX1_isWithinBySpreading_1 rfl (lv_at hl 1 rfl) ?_
  refine kx_cr0 (va_runV (As := [.int (kI ((ln : Nat) : Int))]) (rest := []) ⟨hx, hb, hml, hown, hts⟩ (m_X1_line l D s.heap x1 snp hi bu st la mc ea F S gap ln hO_x1 hO_st hO_la hP_kLs_ea hP_kLn_F (by first | assumption | omega) (by first | assumption | omega)) (cwV 1 hts (lw_V q1864 q1866 qs35 q79 q1867) rfl rfl rfl (by decide +kernel) ⟨Nat.le_of_ble_eq_true rfl, Nat.le_of_ble_eq_true rfl⟩) (kx_pv hK hS hB (kx_rc hK hO_x1 (C := RX1) (T := TX1) (N := 4) rfl)) rfl rfl hl.1 rfl (lv_room (Nat.le_of_ble_eq_true rfl)) dX1_isWithinBySpreading_2 ⟨by first | exact Nat.le_of_ble_eq_true rfl | omega | (show _ ≤ _; omega) | (dsimp only [headSpec]; omega), by first | exact Nat.le_of_ble_eq_true rfl | omega | (show _ ≤ _; omega) | (dsimp only [headSpec]; omega)⟩) hS (fun z_4 locs_1 hz_3 hS_2 => ?_)
  subst z_4
  refine lv_pop hx hb dX1_isWithinBySpreading_5 rfl ?_
  refine lv_iload_n hx hb dX1_isWithinBySpreading_6 rfl (lv_at hl 2 rfl) ?_
  refine kx_cv0 (va_runS (As := [.int (kI (x))]) (rest := []) ⟨hx, hb, hml, hown, hts⟩ (m_X1_checkPoint l D s.heap x  (by first | assumption | omega)) (va_cwS 1 hts (lw_S q1817 q1818 q79 q1819) rfl rfl rfl (by decide +kernel) ⟨Nat.le_of_ble_eq_true rfl, Nat.le_of_ble_eq_true rfl⟩) (kx_ps hK hS_2 hB) rfl rfl hl.1 rfl (lv_room (Nat.le_of_ble_eq_true rfl)) dX1_isWithinBySpreading_7 ⟨by first | exact Nat.le_of_ble_eq_true rfl | omega | (show _ ≤ _; omega) | (dsimp only [headSpec]; omega), by first | exact Nat.le_of_ble_eq_true rfl | omega | (show _ ≤ _; omega) | (dsimp only [headSpec]; omega)⟩) hS_2 (fun locs_5 hz_7 hS_6 => ?_)
  refine lv_aload_n hx hb dX1_isWithinBySpreading_10 rfl (lv_at hl 0 rfl) ?_
  refine kx_get (v := .ref st) (C := RX1) (T := TX1) (N := 4) hx hb hts in_X1 hown hK hO_x1 rfl 0 (by decide) q229 (fun _ h9 => h9) rfl dX1_isWithinBySpreading_11 ?_
  refine lv_iload_n hx hb dX1_isWithinBySpreading_14 rfl (lv_at hl 1 rfl) ?_
  refine lv_iload_n hx hb dX1_isWithinBySpreading_15 rfl (lv_at hl 2 rfl) ?_
  refine kx_cb (va_runV (As := [.int (kI ((ln : Nat) : Int)), .int (kI (x))]) (rest := []) ⟨hx, hb, hml, hown, hts⟩ (m_X2_isWithinBySpreading l D s.heap st la mc ea F S gap ln x hO_st hO_la hP_kLs_ea hP_kLn_F (by first | assumption | omega) (by first | assumption | omega) (by first | assumption | omega) (by first | assumption | omega) (by first | assumption | omega)) (cwV 2 hts (lw_V q2093 q2094 q2095 q80 q2096) rfl rfl rfl (by decide +kernel) ⟨Nat.le_of_ble_eq_true rfl, Nat.le_of_ble_eq_true rfl⟩) (kx_pv hK hS_6 hB (kx_rc hK hO_st (C := RX2) (T := TX2) (N := 2) rfl)) rfl rfl hl.1 rfl (lv_room (Nat.le_of_ble_eq_true rfl)) dX1_isWithinBySpreading_16 ⟨by first | exact Nat.le_of_ble_eq_true rfl | omega | (show _ ≤ _; omega) | (dsimp only [headSpec]; omega), by first | exact Nat.le_of_ble_eq_true rfl | omega | (show _ ≤ _; omega) | (dsimp only [headSpec]; omega)⟩) hS_6 (fun q _ h => Nat.le_trans hS_6.1 h) (fun q h => Nat.le_trans hS_6.1 h) (fun z_14 H_12 locs_9 hz_11 hF_13 hS_10 => ?_)
  have hzf_15 := hF_13.1
  have hF_13 := hF_13.nw
  refine W.widen (k := 2) (n := 3570) (Nat.le_of_ble_eq_true rfl) (Nat.le_of_ble_eq_true rfl) ?_
  obtain ⟨hv_16, htr_17⟩ := hz_11
  subst z_14
  exact kx_zret (z := st_cont S ln x) hx hb hr hlk (⟨by rfl, by first | assumption | rfl | omega | grind⟩) hS_10 dX1_isWithinBySpreading_19

