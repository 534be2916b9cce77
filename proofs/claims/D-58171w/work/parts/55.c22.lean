set_option maxHeartbeats 4000000 in
set_option maxRecDepth 100000 in
theorem m_X1_isClosed (l : Launch) (D : kG) (H : Heap) (x1 : Nat) (snp : Option Nat) (hi : Nat) (bu : Nat) (st : Nat) (la : Nat) (mc : Int) (ea : Nat) (F : Fts) (S : Ls) (gap : Int) (ln : Nat) (hO_x1 : kO D H x1 0 [.ref st, va_rf (snp), .ref hi, .ref bu]) (hO_st : kO D H st 1 [.ref la, .int (kI (gap))]) (hO_la : kO D H la 9 [.int (kI (mc)), .ref ea, .int (kI ((S.length : Nat) : Int))]) (hP_kLs_ea : kLs D H ea S.length F) (hP_kLn_F : kLn D H F S) (hok : LsOK S gap) (hln : ln < S.length) : Met l yX1_isClosed (ws_ yX1_isClosed cX1_isClosed 2 (some .boolean)) ({ frames := 4, cells := 0, slots := 0, locals := 85 } : Room) (kPre D H [.ref x1, .int (kI ((ln : Nat) : Int))]) (kQb (fun (r : Bool) H' => H' = H ∧ r = ln_cl (st_ln S ln)) kNO) (0) (0) (kNO) := by
  refine Met.ofW (cc := cX1_isClosed) (maxL := 2) (ret := (some .boolean)) (by decide) rfl ?_
  intro p e s m args below meth c s₁ B hml hv
  obtain ⟨rfl, hH, hK⟩ := hv
  subst hH
  have hx := B.exec
  have hb := B.bytes
  have hr := B.returns
  have hts := atoms_spec (ws := ws_ yX1_isClosed cX1_isClosed 2 (some .boolean)) B.pre
  have hts : ∀ w ∈ lw_all, w.before _ s = true := fun w h => hts w (List.mem_cons_of_mem _ h)
  have hown : s.vm.findClass RX1 = some m.cls := findClass_of_methodNamed B.named
  have hlk := B.notSynchronized
  have hS : va_S kNO s.heap s.heap [] := va_S.rf
  have hB : ∀ q, kNO q → kBase D ≤ q := fun _ h => h.elim
  have hl := lv_entry ([.ref x1, .int (kI ((ln : Nat) : Int))]) (n := 2) (Nat.le_of_ble_eq_true rfl)
  rw [lg_entry_eq]
  generalize (lg_sl ([.ref x1, .int (kI ((ln : Nat) : Int))]) ++ List.replicate (2 - (lg_sl ([.ref x1, .int (kI ((ln : Nat) : Int))])).length) Slot.unset).toArray = ls at hl ⊢
  have hl : lv_has ls 2 [(0, .ref x1), (1, .int (kI ((ln : Nat) : Int)))] := hl
  have hL8 := hok.1
  have hLn9 := hok.ln hln
  have hn60 := hLn9.n
  refine lv_aload_n hx hb dX1_isClosed_0 rfl (lv_at hl 0 rfl) ?_
  refine lv_iload_n hx hb dX1_isClosed_1 rfl (lv_at hl 1 rfl) ?_
  refine kx_cr0 (va_runV (As := [.int (kI ((ln : Nat) : Int))]) (rest := []) ⟨hx, hb, hml, hown, hts⟩ (m_X1_line l D s.heap x1 snp hi bu st la mc ea F S gap ln hO_x1 hO_st hO_la hP_kLs_ea hP_kLn_F (by first | assumption | omega) (by first | assumption | omega)) (cwV 1 hts (lw_V q1864 q1866 qs35 q79 q1867) rfl rfl rfl (by decide +kernel) ⟨Nat.le_of_ble_eq_true rfl, Nat.le_of_ble_eq_true rfl⟩) (kx_pv hK hS hB (kx_rc hK hO_x1 (C := RX1) (T := TX1) (N := 4) rfl)) rfl rfl hl.1 rfl (lv_room (Nat.le_of_ble_eq_true rfl)) dX1_isClosed_2 ⟨by first | exact Nat.le_of_ble_eq_true rfl | omega | (show _ ≤ _; omega) | (dsimp only [headSpec]; omega), by first | exact Nat.le_of_ble_eq_true rfl | omega | (show _ ≤ _; omega) | (dsimp only [headSpec]; omega)⟩) hS (fun z_4 locs_1 hz_3 hS_2 => ?_)
  subst z_4
  by_cases hcl9 : ln_cl (st_ln S ln) = true
  · -- hcl9 t
    obtain ⟨ea_5, gp_5, gs_5, ho_5, hp_5, hs_5, he_5, hm_5⟩ := (hP_kLn_F ln (hln)).closed_ hcl9
    refine kx_cb0 (va_runV (As := []) (rest := []) ⟨hx, hb, hml, hown, hts⟩ (m_isClosed_c l D s.heap (fA F ln) (fP F ln) (fS F ln) ea_5 ((st_ln S ln)) ho_5 he_5 ) (cwV 0 hts (lw_V q1873 q1696 q1697 q99 q1698) rfl rfl rfl (by decide +kernel) ⟨Nat.le_of_ble_eq_true rfl, Nat.le_of_ble_eq_true rfl⟩) (kx_pv hK hS_2 hB (kx_rc hK ho_5 (C := RX4) (T := TX4) (N := 6) rfl)) rfl rfl hl.1 rfl (lv_room (Nat.le_of_ble_eq_true rfl)) dX1_isClosed_5 ⟨by first | exact Nat.le_of_ble_eq_true rfl | omega | (show _ ≤ _; omega) | (dsimp only [headSpec]; omega), by first | exact Nat.le_of_ble_eq_true rfl | omega | (show _ ≤ _; omega) | (dsimp only [headSpec]; omega)⟩) hS_2 (fun z_9 locs_6 hz_8 hS_7 => ?_)
    subst z_9
    exact kx_zret (z := true) hx hb hr hlk (⟨rfl, by simp [*]⟩) hS_7 dX1_isClosed_8
  · -- hcl9 f
    have hcl8 : ln_cl (st_ln S ln) = false := by simpa using hcl9
    obtain ⟨ea_10, gp_10, gs_10, ho_10, hp_10, hs_10, he_10, hm_10⟩ := (hP_kLn_F ln (hln)).open_ hcl8
    refine kx_cb0 (va_runV (As := []) (rest := []) ⟨hx, hb, hml, hown, hts⟩ (m_isClosed_o l D s.heap (fA F ln) (fP F ln) (fS F ln) ea_10 ((st_ln S ln)) ho_10 he_10 ) (cwV 0 hts (lw_V q1873 q1696 q1697 q99 q1698) rfl rfl rfl (by decide +kernel) ⟨Nat.le_of_ble_eq_true rfl, Nat.le_of_ble_eq_true rfl⟩) (kx_pv hK hS_2 hB (kx_rc hK ho_10 (C := RX4) (T := TX4) (N := 6) rfl)) rfl rfl hl.1 rfl (lv_room (Nat.le_of_ble_eq_true rfl)) dX1_isClosed_5 ⟨by first | exact Nat.le_of_ble_eq_true rfl | omega | (show _ ≤ _; omega) | (dsimp only [headSpec]; omega), by first | exact Nat.le_of_ble_eq_true rfl | omega | (show _ ≤ _; omega) | (dsimp only [headSpec]; omega)⟩) hS_2 (fun z_14 locs_11 hz_13 hS_12 => ?_)
    subst z_14
    exact kx_zret (z := false) hx hb hr hlk (⟨rfl, by simp [*]⟩) hS_12 dX1_isClosed_8

set_option maxHeartbeats 4000000 in
set_option maxRecDepth 100000 in
theorem m_X1_bendAt (l : Launch) (D : kG) (H : Heap) (x1 : Nat) (snp : Option Nat) (hi : Nat) (bu : Nat) (st : Nat) (la : Nat) (mc : Int) (ea : Nat) (F : Fts) (S : Ls) (gap : Int) (ln : Nat) (k : Nat) (hO_x1 : kO D H x1 0 [.ref st, va_rf (snp), .ref hi, .ref bu]) (hO_st : kO D H st 1 [.ref la, .int (kI (gap))]) (hO_la : kO D H la 9 [.int (kI (mc)), .ref ea, .int (kI ((S.length : Nat) : Int))]) (hP_kLs_ea : kLs D H ea S.length F) (hP_kLn_F : kLn D H F S) (hok : LsOK S gap) (hln : ln < S.length) (hk : k ≤ ln_n (st_ln S ln)) : Met l yX1_bendAt (ws_ yX1_bendAt cX1_bendAt 3 (some .int)) ({ frames := 5, cells := 0, slots := 0, locals := 108 } : Room) (kPre D H [.ref x1, .int (kI ((ln : Nat) : Int)), .int (kI ((k : Nat) : Int))]) (kQi (fun (r : Int) H' => H' = H ∧ r = ln_bend (st_ln S ln) k) kNO) (0) (0) (kNO) := by
  refine Met.ofW (cc := cX1_bendAt) (maxL := 3) (ret := (some .int)) (by decide) rfl ?_
  intro p e s m args below meth c s₁ B hml hv
  obtain ⟨rfl, hH, hK⟩ := hv
  subst hH
  have hx := B.exec
  have hb := B.bytes
  have hr := B.returns
  have hts := atoms_spec (ws := ws_ yX1_bendAt cX1_bendAt 3 (some .int)) B.pre
  have hts : ∀ w ∈ lw_all, w.before _ s = true := fun w h => hts w (List.mem_cons_of_mem _ h)
  have hown : s.vm.findClass RX1 = some m.cls := findClass_of_methodNamed B.named
  have hlk := B.notSynchronized
  have hS : va_S kNO s.heap s.heap [] := va_S.rf
  have hB : ∀ q, kNO q → kBase D ≤ q := fun _ h => h.elim
  have hl := lv_entry ([.ref x1, .int (kI ((ln : Nat) : Int)), .int (kI ((k : Nat) : Int))]) (n := 3) (Nat.le_of_ble_eq_true rfl)
  rw [lg_entry_eq]
  generalize (lg_sl ([.ref x1, .int (kI ((ln : Nat) : Int)), .int (kI ((k : Nat) : Int))]) ++ List.replicate (3 - (lg_sl ([.ref x1, .int (kI ((ln : Nat) : Int)), .int (kI ((k : Nat) : Int))])).length) Slot.unset).toArray = ls at hl ⊢
  have hl : lv_has ls 3 [(0, .ref x1), (1, .int (kI ((ln : Nat) : Int))), (2, .int (kI ((k : Nat) : Int)))] := hl
  have hL8 := hok.1
  have hLn9 := hok.ln hln
  have hn60 := hLn9.n
  refine lv_aload_n hx hb dX1_bendAt_0 rfl (lv_at hl 0 rfl) ?_
  refine lv_iload_n hx hb dX1_bendAt_1 rfl (lv_at hl 1 rfl) ?_
  refine lv_iload_n hx hb dX1_bendAt_2 rfl (lv_at hl 2 rfl) ?_
  refine kx_cr0 (va_runV (As := [.int (kI ((ln : Nat) : Int)), .int (kI ((k : Nat) : Int))]) (rest := []) ⟨hx, hb, hml, hown, hts⟩ (m_X1_lineWith l D s.heap x1 snp hi bu st la mc ea F S gap ln k hO_x1 hO_st hO_la hP_kLs_ea hP_kLn_F (by first | assumption | omega) (by first | assumption | omega) (by first | assumption | omega)) (cwV 2 hts (lw_V q1900 q1902 qs36 q79 q1903) rfl rfl rfl (by decide +kernel) ⟨Nat.le_of_ble_eq_true rfl, Nat.le_of_ble_eq_true rfl⟩) (kx_pv hK hS hB (kx_rc hK hO_x1 (C := RX1) (T := TX1) (N := 4) rfl)) rfl rfl hl.1 rfl (lv_room (Nat.le_of_ble_eq_true rfl)) dX1_bendAt_3 ⟨by first | exact Nat.le_of_ble_eq_true rfl | omega | (show _ ≤ _; omega) | (dsimp only [headSpec]; omega), by first | exact Nat.le_of_ble_eq_true rfl | omega | (show _ ≤ _; omega) | (dsimp only [headSpec]; omega)⟩) hS (fun z_4 locs_1 hz_3 hS_2 => ?_)
  subst z_4
  refine lv_iload_n hx hb dX1_bendAt_6 rfl (lv_at hl 2 rfl) ?_
  by_cases hcl9 : ln_cl (st_ln S ln) = true
  · -- hcl9 t
    obtain ⟨ea_5, gp_5, gs_5, ho_5, hp_5, hs_5, he_5, hm_5⟩ := (hP_kLn_F ln (hln)).closed_ hcl9
    refine kx_ci0 (va_runV (As := [.int (kI ((k : Nat) : Int))]) (rest := []) ⟨hx, hb, hml, hown, hts⟩ (m_bend_c l D s.heap (fA F ln) (fP F ln) (fS F ln) ea_5 gp_5 gs_5 ((st_ln S ln)) k ho_5 hp_5 hs_5 he_5 (by first | assumption | omega) ((hok.ln (by omega : ln < S.length))) (by first | assumption | omega) (by first | assumption | omega)) (cwV 1 hts (lw_V q1977 q1111 q1112 q99 q1113) rfl rfl rfl (by decide +kernel) ⟨Nat.le_of_ble_eq_true rfl, Nat.le_of_ble_eq_true rfl⟩) (kx_pv hK hS_2 hB (kx_rc hK ho_5 (C := RX4) (T := TX4) (N := 6) rfl)) rfl rfl hl.1 rfl (lv_room (Nat.le_of_ble_eq_true rfl)) dX1_bendAt_7 ⟨by first | exact Nat.le_of_ble_eq_true rfl | omega | (show _ ≤ _; omega) | (dsimp only [headSpec]; omega), by first | exact Nat.le_of_ble_eq_true rfl | omega | (show _ ≤ _; omega) | (dsimp only [headSpec]; omega)⟩) hS_2 (fun z_9 locs_6 hz_8 hS_7 => ?_)
    subst z_9
    exact kx_iret (z := ln_bend (st_ln S ln) k) hx hb hr hlk (⟨rfl, by rfl⟩) hS_7 dX1_bendAt_10
  · -- hcl9 f
    have hcl8 : ln_cl (st_ln S ln) = false := by simpa using hcl9
    obtain ⟨ea_10, gp_10, gs_10, ho_10, hp_10, hs_10, he_10, hm_10⟩ := (hP_kLn_F ln (hln)).open_ hcl8
    refine kx_ci0 (va_runV (As := [.int (kI ((k : Nat) : Int))]) (rest := []) ⟨hx, hb, hml, hown, hts⟩ (m_bend_o l D s.heap (fA F ln) (fP F ln) (fS F ln) ea_10 gp_10 gs_10 ((st_ln S ln)) k ho_10 hp_10 hs_10 he_10 (by first | assumption | omega) ((hok.ln (by omega : ln < S.length))) (by first | assumption | omega) (by first | assumption | omega)) (cwV 1 hts (lw_V q1977 q1111 q1112 q99 q1113) rfl rfl rfl (by decide +kernel) ⟨Nat.le_of_ble_eq_true rfl, Nat.le_of_ble_eq_true rfl⟩) (kx_pv hK hS_2 hB (kx_rc hK ho_10 (C := RX4) (T := TX4) (N := 6) rfl)) rfl rfl hl.1 rfl (lv_room (Nat.le_of_ble_eq_true rfl)) dX1_bendAt_7 ⟨by first | exact Nat.le_of_ble_eq_true rfl | omega | (show _ ≤ _; omega) | (dsimp only [headSpec]; omega), by first | exact Nat.le_of_ble_eq_true rfl | omega | (show _ ≤ _; omega) | (dsimp only [headSpec]; omega)⟩) hS_2 (fun z_14 locs_11 hz_13 hS_12 => ?_)
    subst z_14
    exact kx_iret (z := ln_bend (st_ln S ln) k) hx hb hr hlk (⟨rfl, by rfl⟩) hS_12 dX1_bendAt_10

set_option maxHeartbeats 4000000 in
set_option maxRecDepth 100000 in
theorem m_X1_bendOf (l : Launch) (D : kG) (H : Heap) (x1 : Nat) (snp : Option Nat) (hi : Nat) (bu : Nat) (st : Nat) (la : Nat) (mc : Int) (ea : Nat) (F : Fts) (S : Ls) (gap : Int) (ln : Nat) (k : Nat) (hO_x1 : kO D H x1 0 [.ref st, va_rf (snp), .ref hi, .ref bu]) (hO_st : kO D H st 1 [.ref la, .int (kI (gap))]) (hO_la : kO D H la 9 [.int (kI (mc)), .ref ea, .int (kI ((S.length : Nat) : Int))]) (hP_kLs_ea : kLs D H ea S.length F) (hP_kLn_F : kLn D H F S) (hok : LsOK S gap) (hln : ln < S.length) (hk : k ≤ ln_n (st_ln S ln)) : Met l yX1_bendOf (ws_ yX1_bendOf cX1_bendOf 4 (some .int)) ({ frames := 5, cells := 0, slots := 0, locals := 108 } : Room) (kPre D H [.ref x1, .int (kI ((ln : Nat) : Int)), .int (kI ((k : Nat) : Int))]) (kQi (fun (r : Int) H' => H' = H ∧ r = (if ln_isPlace (st_ln S ln) (k : Int) = true then ln_bends (st_ln S ln) (k : Int) else -1)) kNO) (0) (0) (kNO) := by
  refine Met.ofW (cc := cX1_bendOf) (maxL := 4) (ret := (some .int)) (by decide) rfl ?_
  intro p e s m args below meth c s₁ B hml hv
  obtain ⟨rfl, hH, hK⟩ := hv
  subst hH
  have hx := B.exec
  have hb := B.bytes
  have hr := B.returns
  have hts := atoms_spec (ws := ws_ yX1_bendOf cX1_bendOf 4 (some .int)) B.pre
  have hts : ∀ w ∈ lw_all, w.before _ s = true := fun w h => hts w (List.mem_cons_of_mem _ h)
  have hown : s.vm.findClass RX1 = some m.cls := findClass_of_methodNamed B.named
  have hlk := B.notSynchronized
  have hS : va_S kNO s.heap s.heap [] := va_S.rf
  have hB : ∀ q, kNO q → kBase D ≤ q := fun _ h => h.elim
  have hl := lv_entry ([.ref x1, .int (kI ((ln : Nat) : Int)), .int (kI ((k : Nat) : Int))]) (n := 4) (Nat.le_of_ble_eq_true rfl)
  rw [lg_entry_eq]
  generalize (lg_sl ([.ref x1, .int (kI ((ln : Nat) : Int)), .int (kI ((k : Nat) : Int))]) ++ List.replicate (4 - (lg_sl ([.ref x1, .int (kI ((ln : Nat) : Int)), .int (kI ((k : Nat) : Int))])).length) Slot.unset).toArray = ls at hl ⊢
  have hl : lv_has ls 4 [(0, .ref x1), (1, .int (kI ((ln : Nat) : Int))), (2, .int (kI ((k : Nat) : Int)))] := hl
  have hL8 := hok.1
  have hLn9 := hok.ln hln
  have hn60 := hLn9.n
  refine lv_aload_n hx hb dX1_bendOf_0 rfl (lv_at hl 0 rfl) ?_
  refine lv_iload_n hx hb dX1_bendOf_1 rfl (lv_at hl 1 rfl) ?_
  refine lv_iload_n hx hb dX1_bendOf_2 rfl (lv_at hl 2 rfl) ?_
  refine kx_cr0 (va_runV (As := [.int (kI ((ln : Nat) : Int)), .int (kI ((k : Nat) : Int))]) (rest := []) ⟨hx, hb, hml, hown, hts⟩ (m_X1_lineWith l D s.heap x1 snp hi bu st la mc ea F S gap ln k hO_x1 hO_st hO_la hP_kLs_ea hP_kLn_F (by first | assumption | omega) (by first | assumption | omega) (by first | assumption | omega)) (cwV 2 hts (lw_V q1900 q1902 qs36 q79 q1903) rfl rfl rfl (by decide +kernel) ⟨Nat.le_of_ble_eq_true rfl, Nat.le_of_ble_eq_true rfl⟩) (kx_pv hK hS hB (kx_rc hK hO_x1 (C := RX1) (T := TX1) (N := 4) rfl)) rfl rfl hl.1 rfl (lv_room (Nat.le_of_ble_eq_true rfl)) dX1_bendOf_3 ⟨by first | exact Nat.le_of_ble_eq_true rfl | omega | (show _ ≤ _; omega) | (dsimp only [headSpec]; omega), by first | exact Nat.le_of_ble_eq_true rfl | omega | (show _ ≤ _; omega) | (dsimp only [headSpec]; omega)⟩) hS (fun z_4 locs_1 hz_3 hS_2 => ?_)
  subst z_4
  refine lv_astore_n (lv' := [(3, .ref (fA F ln)), (0, .ref x1), (1, .int (kI ((ln : Nat) : Int))), (2, .int (kI ((k : Nat) : Int)))]) hx hb dX1_bendOf_6 rfl hl (by decide) rfl (fun ls hl => ?_)
  by_cases hcl9 : ln_cl (st_ln S ln) = true
  · -- hcl9 t
    obtain ⟨ea_5, gp_5, gs_5, ho_5, hp_5, hs_5, he_5, hm_5⟩ := (hP_kLn_F ln (hln)).closed_ hcl9
    refine lv_aload_n hx hb dX1_bendOf_7 rfl (lv_at hl 0 rfl) ?_
    refine lv_iload_n hx hb dX1_bendOf_8 rfl (lv_at hl 3 rfl) ?_
    refine kx_cb0 (va_runV (As := [.int (kI ((k : Nat) : Int))]) (rest := []) ⟨hx, hb, hml, hown, hts⟩ (m_hasPlace_c l D s.heap (fA F ln) (fP F ln) (fS F ln) ea_5 gp_5 gs_5 ((st_ln S ln)) k ho_5 hp_5 hs_5 he_5 (by first | assumption | omega) ((hok.ln (by omega : ln < S.length))) (by first | assumption | omega) (by first | assumption | omega)) (cwV 1 hts (lw_V q2048 q1077 q1078 q99 q1079) rfl rfl rfl (by decide +kernel) ⟨Nat.le_of_ble_eq_true rfl, Nat.le_of_ble_eq_true rfl⟩) (kx_pv hK hS_2 hB (kx_rc hK ho_5 (C := RX4) (T := TX4) (N := 6) rfl)) rfl rfl hl.1 rfl (lv_room (Nat.le_of_ble_eq_true rfl)) dX1_bendOf_9 ⟨by first | exact Nat.le_of_ble_eq_true rfl | omega | (show _ ≤ _; omega) | (dsimp only [headSpec]; omega), by first | exact Nat.le_of_ble_eq_true rfl | omega | (show _ ≤ _; omega) | (dsimp only [headSpec]; omega)⟩) hS_2 (fun z_9 locs_6 hz_8 hS_7 => ?_)
    subst z_9
    refine kx_ifz (tgt := 23) hx hb dX1_bendOf_12 (by decide) (fun c_12_10 => ?_) (fun c_12_10 => ?_)
    · -- taken at 12
      refine kx_iconst hx hb dX1_bendOf_23 ?_
      exact kx_iret (z := (-1)) hx hb hr hlk (⟨rfl, by first | rw [if_pos (by assumption)] | rw [if_neg (by simp [*])]⟩) hS_7 dX1_bendOf_24
    · -- not taken at 12
      refine lv_aload_n hx hb dX1_bendOf_15 rfl (lv_at hl 0 rfl) ?_
      refine lv_iload_n hx hb dX1_bendOf_16 rfl (lv_at hl 3 rfl) ?_
      refine kx_ci0 (va_runV (As := [.int (kI ((k : Nat) : Int))]) (rest := []) ⟨hx, hb, hml, hown, hts⟩ (m_bendOfPlace_c l D s.heap (fA F ln) (fP F ln) (fS F ln) ea_5 gp_5 gs_5 ((st_ln S ln)) k ho_5 hp_5 hs_5 he_5 (by first | assumption | omega) ((hok.ln (by omega : ln < S.length))) (by first | assumption | omega) (by first | assumption | omega)) (cwV 1 hts (lw_V q1906 q1107 q1108 q99 q1109) rfl rfl rfl (by decide +kernel) ⟨Nat.le_of_ble_eq_true rfl, Nat.le_of_ble_eq_true rfl⟩) (kx_pv hK hS_7 hB (kx_rc hK ho_5 (C := RX4) (T := TX4) (N := 6) rfl)) rfl rfl hl.1 rfl (lv_room (Nat.le_of_ble_eq_true rfl)) dX1_bendOf_17 ⟨by first | exact Nat.le_of_ble_eq_true rfl | omega | (show _ ≤ _; omega) | (dsimp only [headSpec]; omega), by first | exact Nat.le_of_ble_eq_true rfl | omega | (show _ ≤ _; omega) | (dsimp only [headSpec]; omega)⟩) hS_7 (fun z_14 locs_11 hz_13 hS_12 => ?_)
      subst z_14
      refine lv_goto (tgt := 24) hx hb dX1_bendOf_20 (by decide) ?_
      exact kx_iret (z := ln_bends (st_ln S ln) (k : Int)) hx hb hr hlk (⟨rfl, by first | rw [if_pos (by assumption)] | rw [if_neg (by simp [*])]⟩) hS_12 dX1_bendOf_24
  · -- hcl9 f
    have hcl8 : ln_cl (st_ln S ln) = false := by simpa using hcl9
    obtain ⟨ea_15, gp_15, gs_15, ho_15, hp_15, hs_15, he_15, hm_15⟩ := (hP_kLn_F ln (hln)).open_ hcl8
    refine lv_aload_n hx hb dX1_bendOf_7 rfl (lv_at hl 0 rfl) ?_
    refine lv_iload_n hx hb dX1_bendOf_8 rfl (lv_at hl 3 rfl) ?_
    refine kx_cb0 (va_runV (As := [.int (kI ((k : Nat) : Int))]) (rest := []) ⟨hx, hb, hml, hown, hts⟩ (m_hasPlace_o l D s.heap (fA F ln) (fP F ln) (fS F ln) ea_15 gp_15 gs_15 ((st_ln S ln)) k ho_15 hp_15 hs_15 he_15 (by first | assumption | omega) ((hok.ln (by omega : ln < S.length))) (by first | assumption | omega) (by first | assumption | omega)) (cwV 1 hts (lw_V q2048 q1077 q1078 q99 q1079) rfl rfl rfl (by decide +kernel) ⟨Nat.le_of_ble_eq_true rfl, Nat.le_of_ble_eq_true rfl⟩) (kx_pv hK hS_2 hB (kx_rc hK ho_15 (C := RX4) (T := TX4) (N := 6) rfl)) rfl rfl hl.1 rfl (lv_room (Nat.le_of_ble_eq_true rfl)) dX1_bendOf_9 ⟨by first | exact Nat.le_of_ble_eq_true rfl | omega | (show _ ≤ _; omega) | (dsimp only [headSpec]; omega), by first | exact Nat.le_of_ble_eq_true rfl | omega | (show _ ≤ _; omega) | (dsimp only [headSpec]; omega)⟩) hS_2 (fun z_19 locs_16 hz_18 hS_17 => ?_)
    subst z_19
    refine kx_ifz (tgt := 23) hx hb dX1_bendOf_12 (by decide) (fun c_12_20 => ?_) (fun c_12_20 => ?_)
    · -- taken at 12
      refine kx_iconst hx hb dX1_bendOf_23 ?_
      exact kx_iret (z := (-1)) hx hb hr hlk (⟨rfl, by first | rw [if_pos (by assumption)] | rw [if_neg (by simp [*])]⟩) hS_17 dX1_bendOf_24
    · -- not taken at 12
      refine lv_aload_n hx hb dX1_bendOf_15 rfl (lv_at hl 0 rfl) ?_
      refine lv_iload_n hx hb dX1_bendOf_16 rfl (lv_at hl 3 rfl) ?_
      refine kx_ci0 (va_runV (As := [.int (kI ((k : Nat) : Int))]) (rest := []) ⟨hx, hb, hml, hown, hts⟩ (m_bendOfPlace_o l D s.heap (fA F ln) (fP F ln) (fS F ln) ea_15 gp_15 gs_15 ((st_ln S ln)) k ho_15 hp_15 hs_15 he_15 (by first | assumption | omega) ((hok.ln (by omega : ln < S.length))) (by first | assumption | omega) (by first | assumption | omega)) (cwV 1 hts (lw_V q1906 q1107 q1108 q99 q1109) rfl rfl rfl (by decide +kernel) ⟨Nat.le_of_ble_eq_true rfl, Nat.le_of_ble_eq_true rfl⟩) (kx_pv hK hS_17 hB (kx_rc hK ho_15 (C := RX4) (T := TX4) (N := 6) rfl)) rfl rfl hl.1 rfl (lv_room (Nat.le_of_ble_eq_true rfl)) dX1_bendOf_17 ⟨by first | exact Nat.le_of_ble_eq_true rfl | omega | (show _ ≤ _; omega) | (dsimp only [headSpec]; omega), by first | exact Nat.le_of_ble_eq_true rfl | omega | (show _ ≤ _; omega) | (dsimp only [headSpec]; omega)⟩) hS_17 (fun z_24 locs_21 hz_23 hS_22 => ?_)
      subst z_24
      refine lv_goto (tgt := 24) hx hb dX1_bendOf_20 (by decide) ?_
      exact kx_iret (z := ln_bends (st_ln S ln) (k : Int)) hx hb hr hlk (⟨rfl, by first | rw [if_pos (by assumption)] | rw [if_neg (by simp [*])]⟩) hS_22 dX1_bendOf_24

set_option maxHeartbeats 4000000 in
set_option maxRecDepth 100000 in
theorem m_X1_lengthByKinds (l : Launch) (D : kG) (H : Heap) (x1 : Nat) (snp : Option Nat) (hi : Nat) (bu : Nat) (st : Nat) (la : Nat) (mc : Int) (ea : Nat) (F : Fts) (S : Ls) (gap : Int) (ln : Nat) (hO_x1 : kO D H x1 0 [.ref st, va_rf (snp), .ref hi, .ref bu]) (hO_st : kO D H st 1 [.ref la, .int (kI (gap))]) (hO_la : kO D H la 9 [.int (kI (mc)), .ref ea, .int (kI ((S.length : Nat) : Int))]) (hP_kLs_ea : kLs D H ea S.length F) (hP_kLn_F : kLn D H F S) (hok : LsOK S gap) (hln : ln < S.length) : Met l yX1_lengthByKinds (ws_ yX1_lengthByKinds cX1_lengthByKinds 4 (some .double)) ({ frames := 4, cells := 0, slots := 0, locals := 85 } : Room) (kPre D H [.ref x1, .int (kI ((ln : Nat) : Int))]) (kQd (fun (r : UInt64) H' => H' = H ∧ r = ln_lenK (st_ln S ln)) kNO) (0) (0) (kNO) := by
  refine Met.ofW (cc := cX1_lengthByKinds) (maxL := 4) (ret := (some .double)) (by decide) rfl ?_
  intro p e s m args below meth c s₁ B hml hv
  obtain ⟨rfl, hH, hK⟩ := hv
  subst hH
  have hx := B.exec
  have hb := B.bytes
  have hr := B.returns
  have hts := atoms_spec (ws := ws_ yX1_lengthByKinds cX1_lengthByKinds 4 (some .double)) B.pre
  have hts : ∀ w ∈ lw_all, w.before _ s = true := fun w h => hts w (List.mem_cons_of_mem _ h)
  have hown : s.vm.findClass RX1 = some m.cls := findClass_of_methodNamed B.named
  have hlk := B.notSynchronized
  have hS : va_S kNO s.heap s.heap [] := va_S.rf
  have hB : ∀ q, kNO q → kBase D ≤ q := fun _ h => h.elim
  have hl := lv_entry ([.ref x1, .int (kI ((ln : Nat) : Int))]) (n := 4) (Nat.le_of_ble_eq_true rfl)
  rw [lg_entry_eq]
  generalize (lg_sl ([.ref x1, .int (kI ((ln : Nat) : Int))]) ++ List.replicate (4 - (lg_sl ([.ref x1, .int (kI ((ln : Nat) : Int))])).length) Slot.unset).toArray = ls at hl ⊢
  have hl : lv_has ls 4 [(0, .ref x1), (1, .int (kI ((ln : Nat) : Int)))] := hl
  have hL8 := hok.1
  have hLn9 := hok.ln hln
  have hn60 := hLn9.n
  have hsl0 := ln_sl_rng (st_ln S ln)
  refine lv_aload_n hx hb dX1_lengthByKinds_0 rfl (lv_at hl 0 rfl) ?_
  refine lv_iload_n hx hb dX1_lengthByKinds_1 rfl (lv_at hl 1 rfl) ?_
  refine kx_cr0 (va_runV (As := [.int (kI ((ln : Nat) : Int))]) (rest := []) ⟨hx, hb, hml, hown, hts⟩ (m_X1_line l D s.heap x1 snp hi bu st la mc ea F S gap ln hO_x1 hO_st hO_la hP_kLs_ea hP_kLn_F (by first | assumption | omega) (by first | assumption | omega)) (cwV 1 hts (lw_V q1864 q1866 qs35 q79 q1867) rfl rfl rfl (by decide +kernel) ⟨Nat.le_of_ble_eq_true rfl, Nat.le_of_ble_eq_true rfl⟩) (kx_pv hK hS hB (kx_rc hK hO_x1 (C := RX1) (T := TX1) (N := 4) rfl)) rfl rfl hl.1 rfl (lv_room (Nat.le_of_ble_eq_true rfl)) dX1_lengthByKinds_2 ⟨by first | exact Nat.le_of_ble_eq_true rfl | omega | (show _ ≤ _; omega) | (dsimp only [headSpec]; omega), by first | exact Nat.le_of_ble_eq_true rfl | omega | (show _ ≤ _; omega) | (dsimp only [headSpec]; omega)⟩) hS (fun z_4 locs_1 hz_3 hS_2 => ?_)
  subst z_4
  refine lv_astore_n (lv' := [(2, .ref (fA F ln)), (0, .ref x1), (1, .int (kI ((ln : Nat) : Int)))]) hx hb dX1_lengthByKinds_5 rfl hl (by decide) rfl (fun ls hl => ?_)
  obtain ⟨ea_5, gp_5, gs_5, ho_5, hp_5, hs_5, he_5, hm_5⟩ := (hP_kLn_F ln (hln))
  refine lv_aload_n hx hb dX1_lengthByKinds_6 rfl (lv_at hl 0 rfl) ?_
  refine kx_ci0 (va_runV (As := []) (rest := []) ⟨hx, hb, hml, hown, hts⟩ (m_X4_slanting l D s.heap (fA F ln) (fP F ln) (fS F ln) ea_5 gp_5 gs_5 ((st_ln S ln)) ho_5 hp_5 hs_5 (by first | assumption | omega) ((hok.ln (by omega : ln < S.length)))) (cwV 0 hts (lw_V q1985 q1986 q1987 q99 q1988) rfl rfl rfl (by decide +kernel) ⟨Nat.le_of_ble_eq_true rfl, Nat.le_of_ble_eq_true rfl⟩) (kx_pv hK hS_2 hB (kx_rc hK ho_5 (C := RX4) (T := TX4) (N := 6) rfl)) rfl rfl hl.1 rfl (lv_room (Nat.le_of_ble_eq_true rfl)) dX1_lengthByKinds_7 ⟨by first | exact Nat.le_of_ble_eq_true rfl | omega | (show _ ≤ _; omega) | (dsimp only [headSpec]; omega), by first | exact Nat.le_of_ble_eq_true rfl | omega | (show _ ≤ _; omega) | (dsimp only [headSpec]; omega)⟩) hS_2 (fun z_9 locs_6 hz_8 hS_7 => ?_)
  subst z_9
  refine lv_istore_n (lv' := [(3, .int (kI (ln_sl (st_ln S ln)))), (2, .ref (fA F ln)), (0, .ref x1), (1, .int (kI ((ln : Nat) : Int)))]) hx hb dX1_lengthByKinds_10 rfl hl (by decide) rfl (fun ls hl => ?_)
  refine lv_aload_n hx hb dX1_lengthByKinds_11 rfl (lv_at hl 1 rfl) ?_
  refine kx_getN (v := .int (kI ((ln_n (st_ln S ln) : Nat) : Int))) (C := RX4) (T := TX4) (N := 6) hx hb hts in_X4 hown hK ho_5 rfl 3 (by decide) (hK.w q346 rfl) (fun _ h9 => h9) rfl dX1_lengthByKinds_12 ?_
  refine lv_iload_n hx hb dX1_lengthByKinds_15 rfl (lv_at hl 0 rfl) ?_
  refine kx_isub hx hb dX1_lengthByKinds_16 ?_
  refine lv_i2d hx hb dX1_lengthByKinds_17 ?_
  refine lv_iload_n hx hb dX1_lengthByKinds_18 rfl (lv_at hl 0 rfl) ?_
  refine lv_i2d hx hb dX1_lengthByKinds_19 ?_
  refine lv_ldc2d hx hb hown (hts _ q1990) dX1_lengthByKinds_20 ?_
  refine lv_dmul hx hb dX1_lengthByKinds_23 ((dpos_mul (dpos_i2d (by omega) (by omega)) dval_r2).n) ?_
  refine lv_dadd hx hb dX1_lengthByKinds_24 ((dpos_add (dpos_i2d (by omega) (by omega)) (dpos_mul (dpos_i2d (by omega) (by omega)) dval_r2)).n) ?_
  exact kx_dret (z := FP.dadd (FP.i2d (kI ((((ln_n (st_ln S ln) : Nat) : Int) - ln_sl (st_ln S ln))))) (FP.dmul (FP.i2d (kI (ln_sl (st_ln S ln)))) 4609047870845172685)) hx hb hr hlk (⟨rfl, by rfl⟩) hS_7 dX1_lengthByKinds_25

