set_option maxHeartbeats 4000000 in
set_option maxRecDepth 100000 in
theorem m_X3_in (l : Launch) (D : kG) (H : Heap) (v : Int) (lo : Int) (hi : Int) (hr_v : -2147483648 ≤ v ∧ v ≤ 2147483647) (hr_lo : -2147483648 ≤ lo ∧ lo ≤ 2147483647) (hr_hi : -2147483648 ≤ hi ∧ hi ≤ 2147483647) : Met l yX3_in (ws_ yX3_in cX3_in 3 (some .boolean)) ({ frames := 0, cells := 0, slots := 0, locals := 0 } : Room) (kPre D H [.int (kI (v)), .int (kI (lo)), .int (kI (hi))]) (kQb (fun (r : Bool) H' => H' = H ∧ r = decide (lo ≤ v ∧ v ≤ hi)) kNO) (0) (0) (kNO) := by
  refine Met.ofW (cc := cX3_in) (maxL := 3) (ret := (some .boolean)) (by decide) rfl ?_
  intro p e s m args below meth c s₁ B hml hv
  obtain ⟨rfl, hH, hK⟩ := hv
  subst hH
  have hx := B.exec
  have hb := B.bytes
  have hr := B.returns
  have hts := atoms_spec (ws := ws_ yX3_in cX3_in 3 (some .boolean)) B.pre
  have hts : ∀ w ∈ lw_all, w.before _ s = true := fun w h => hts w (List.mem_cons_of_mem _ h)
  have hown : s.vm.findClass RX3 = some m.cls := findClass_of_methodNamed B.named
  have hlk := B.notSynchronized
  have hS : va_S kNO s.heap s.heap [] := va_S.rf
  have hB : ∀ q, kNO q → kBase D ≤ q := fun _ h => h.elim
  have hl := lv_entry ([.int (kI (v)), .int (kI (lo)), .int (kI (hi))]) (n := 3) (Nat.le_of_ble_eq_true rfl)
  rw [lg_entry_eq]
  generalize (lg_sl ([.int (kI (v)), .int (kI (lo)), .int (kI (hi))]) ++ List.replicate (3 - (lg_sl ([.int (kI (v)), .int (kI (lo)), .int (kI (hi))])).length) Slot.unset).toArray = ls at hl ⊢
  have hl : lv_has ls 3 [(0, .int (kI (v))), (1, .int (kI (lo))), (2, .int (kI (hi)))] := hl
  refine lv_iload_n hx hb dX3_in_0 rfl (lv_at hl 0 rfl) ?_
  refine lv_iload_n hx hb dX3_in_1 rfl (lv_at hl 1 rfl) ?_
  refine kx_icmp_lt (x := v) (y := lo) (tgt := 14) hx hb dX3_in_2 (by decide) (by omega) (by omega) (by omega) (by omega) (fun c_2_1 => ?_) (fun c_2_1 => ?_)
  · -- taken at 2
    refine kx_iconst hx hb dX3_in_14 ?_
    exact kx_zret (z := false) hx hb hr hlk (⟨rfl, by first | rfl | exact (decide_eq_true (by omega)).symm | exact (decide_eq_false (by omega)).symm | grind⟩) hS dX3_in_15
  · -- not taken at 2
    refine lv_iload_n hx hb dX3_in_5 rfl (lv_at hl 0 rfl) ?_
    refine lv_iload_n hx hb dX3_in_6 rfl (lv_at hl 2 rfl) ?_
    refine kx_icmp_gt (x := v) (y := hi) (tgt := 14) hx hb dX3_in_7 (by decide) (by omega) (by omega) (by omega) (by omega) (fun c_7_2 => ?_) (fun c_7_2 => ?_)
    · -- taken at 7
      refine kx_iconst hx hb dX3_in_14 ?_
      exact kx_zret (z := false) hx hb hr hlk (⟨rfl, by first | rfl | exact (decide_eq_true (by omega)).symm | exact (decide_eq_false (by omega)).symm | grind⟩) hS dX3_in_15
    · -- not taken at 7
      refine kx_iconst hx hb dX3_in_10 ?_
      refine lv_goto (tgt := 15) hx hb dX3_in_11 (by decide) ?_
      exact kx_zret (z := true) hx hb hr hlk (⟨rfl, by first | rfl | exact (decide_eq_true (by omega)).symm | exact (decide_eq_false (by omega)).symm | grind⟩) hS dX3_in_15

set_option maxHeartbeats 4000000 in
set_option maxRecDepth 100000 in
theorem m_X3_apart (l : Launch) (D : kG) (H : Heap) (x : Int) (y : Int) (hr_x : -2147483648 ≤ x ∧ x ≤ 2147483647) (hr_y : -2147483648 ≤ y ∧ y ≤ 2147483647) : Met l yX3_apart (ws_ yX3_apart cX3_apart 2 (some .int)) ({ frames := 0, cells := 0, slots := 0, locals := 0 } : Room) (kPre D H [.int (kI (x)), .int (kI (y))]) (kQi (fun (r : Int) H' => H' = H ∧ r = apart x y) kNO) (0) (0) (kNO) := by
  refine Met.ofW (cc := cX3_apart) (maxL := 2) (ret := (some .int)) (by decide) rfl ?_
  intro p e s m args below meth c s₁ B hml hv
  obtain ⟨rfl, hH, hK⟩ := hv
  subst hH
  have hx := B.exec
  have hb := B.bytes
  have hr := B.returns
  have hts := atoms_spec (ws := ws_ yX3_apart cX3_apart 2 (some .int)) B.pre
  have hts : ∀ w ∈ lw_all, w.before _ s = true := fun w h => hts w (List.mem_cons_of_mem _ h)
  have hown : s.vm.findClass RX3 = some m.cls := findClass_of_methodNamed B.named
  have hlk := B.notSynchronized
  have hS : va_S kNO s.heap s.heap [] := va_S.rf
  have hB : ∀ q, kNO q → kBase D ≤ q := fun _ h => h.elim
  have hl := lv_entry ([.int (kI (x)), .int (kI (y))]) (n := 2) (Nat.le_of_ble_eq_true rfl)
  rw [lg_entry_eq]
  generalize (lg_sl ([.int (kI (x)), .int (kI (y))]) ++ List.replicate (2 - (lg_sl ([.int (kI (x)), .int (kI (y))])).length) Slot.unset).toArray = ls at hl ⊢
  have hl : lv_has ls 2 [(0, .int (kI (x))), (1, .int (kI (y)))] := hl
  refine lv_iload_n hx hb dX3_apart_0 rfl (lv_at hl 0 rfl) ?_
  refine lv_iload_n hx hb dX3_apart_1 rfl (lv_at hl 1 rfl) ?_
  refine kx_icmp_ge (x := x) (y := y) (tgt := 11) hx hb dX3_apart_2 (by decide) (by omega) (by omega) (by omega) (by omega) (fun c_2_1 => ?_) (fun c_2_1 => ?_)
  · -- taken at 2
    refine lv_iload_n hx hb dX3_apart_11 rfl (lv_at hl 0 rfl) ?_
    refine lv_iload_n hx hb dX3_apart_12 rfl (lv_at hl 1 rfl) ?_
    refine kx_isub hx hb dX3_apart_13 ?_
    exact kx_iret (z := (x - y)) hx hb hr hlk (⟨rfl, by unfold apart; split <;> omega⟩) hS dX3_apart_14
  · -- not taken at 2
    refine lv_iload_n hx hb dX3_apart_5 rfl (lv_at hl 1 rfl) ?_
    refine lv_iload_n hx hb dX3_apart_6 rfl (lv_at hl 0 rfl) ?_
    refine kx_isub hx hb dX3_apart_7 ?_
    refine lv_goto (tgt := 14) hx hb dX3_apart_8 (by decide) ?_
    exact kx_iret (z := (y - x)) hx hb hr hlk (⟨rfl, by unfold apart; split <;> omega⟩) hS dX3_apart_14

set_option maxHeartbeats 4000000 in
set_option maxRecDepth 100000 in
theorem m_X3_isLine (l : Launch) (D : kG) (H : Heap) (a : Nat) (fs : List Value) (ra : Nat) (g : Nat → Int) (S : Ls) (gap : Int) (x : Int) (hO_a : kO D H a 2 fs) (hf_a_0 : fs[0]? = some (.ref ra)) (hA_ra : kAi D H ra 514 g) (hM : MRow g S gap) (hok : LsOK S gap) (hr_x : -2147483648 ≤ x ∧ x ≤ 2147483647) : Met l yX3_isLine (ws_ yX3_isLine cX3_isLine 2 (some .boolean)) ({ frames := 1, cells := 0, slots := 0, locals := 22 } : Room) (kPre D H [.ref a, .int (kI (x))]) (kQb (fun (r : Bool) H' => H' = H ∧ r = decide (0 ≤ x ∧ x < S.length)) kNO) (0) (0) (kNO) := by
  refine Met.ofW (cc := cX3_isLine) (maxL := 2) (ret := (some .boolean)) (by decide) rfl ?_
  intro p e s m args below meth c s₁ B hml hv
  obtain ⟨rfl, hH, hK⟩ := hv
  subst hH
  have hx := B.exec
  have hb := B.bytes
  have hr := B.returns
  have hts := atoms_spec (ws := ws_ yX3_isLine cX3_isLine 2 (some .boolean)) B.pre
  have hts : ∀ w ∈ lw_all, w.before _ s = true := fun w h => hts w (List.mem_cons_of_mem _ h)
  have hown : s.vm.findClass RX3 = some m.cls := findClass_of_methodNamed B.named
  have hlk := B.notSynchronized
  have hS : va_S kNO s.heap s.heap [] := va_S.rf
  have hB : ∀ q, kNO q → kBase D ≤ q := fun _ h => h.elim
  have hl := lv_entry ([.ref a, .int (kI (x))]) (n := 2) (Nat.le_of_ble_eq_true rfl)
  rw [lg_entry_eq]
  generalize (lg_sl ([.ref a, .int (kI (x))]) ++ List.replicate (2 - (lg_sl ([.ref a, .int (kI (x))])).length) Slot.unset).toArray = ls at hl ⊢
  have hl : lv_has ls 2 [(0, .ref a), (1, .int (kI (x)))] := hl
  have hlen := hM.len
  have hL8 := hok.1
  refine lv_iload_n hx hb dX3_isLine_0 rfl (lv_at hl 1 rfl) ?_
  refine kx_iconst hx hb dX3_isLine_1 ?_
  refine lv_aload_n hx hb dX3_isLine_2 rfl (lv_at hl 0 rfl) ?_
  refine kx_get (v := .ref ra) (C := RX3) (T := TX3) (N := 13) hx hb hts in_X3 hown hK hO_a rfl 0 (by decide) q2238 (fun _ h9 => h9) hf_a_0 dX3_isLine_3 ?_
  refine kx_iconst hx hb dX3_isLine_6 ?_
  refine kx_iald (i := 0) hx hb hK hA_ra 0 (rfl) (by omega) (by omega) dX3_isLine_7 ?_
  refine kx_iconst hx hb dX3_isLine_8 ?_
  refine kx_isub hx hb dX3_isLine_9 ?_
  refine kx_cb0 (va_runS (As := [.int (kI (x)), .int (kI (0)), .int (kI (((g 0) - 1)))]) (rest := []) ⟨hx, hb, hml, hown, hts⟩ (m_X3_in l D s.heap x 0 (((g 0) - 1))  (by first | assumption | omega) (by first | assumption | omega) (by first | assumption | omega)) (va_cwS 3 hts (lw_S q2297 q2298 q89 q2299) rfl rfl rfl (by decide +kernel) ⟨Nat.le_of_ble_eq_true rfl, Nat.le_of_ble_eq_true rfl⟩) (kx_ps hK hS hB) rfl rfl hl.1 rfl (lv_room (Nat.le_of_ble_eq_true rfl)) dX3_isLine_10 ⟨by first | exact Nat.le_of_ble_eq_true rfl | omega | (show _ ≤ _; omega) | (dsimp only [headSpec]; omega), by first | exact Nat.le_of_ble_eq_true rfl | omega | (show _ ≤ _; omega) | (dsimp only [headSpec]; omega)⟩) hS (fun z_4 locs_1 hz_3 hS_2 => ?_)
  subst z_4
  exact kx_zret (z := decide (0 ≤ x ∧ x ≤ (((g 0) - 1)))) hx hb hr hlk (⟨rfl, by congr 1; apply propext; omega⟩) hS_2 dX3_isLine_13

set_option maxHeartbeats 4000000 in
set_option maxRecDepth 100000 in
theorem m_X3_isPoint (l : Launch) (D : kG) (H : Heap) (x : Int) (hr_x : -2147483648 ≤ x ∧ x ≤ 2147483647) : Met l yX3_isPoint (ws_ yX3_isPoint cX3_isPoint 1 (some .boolean)) ({ frames := 1, cells := 0, slots := 0, locals := 22 } : Room) (kPre D H [.int (kI (x))]) (kQb (fun (r : Bool) H' => H' = H ∧ r = decide (0 ≤ x ∧ x ≤ 383)) kNO) (0) (0) (kNO) := by
  refine Met.ofW (cc := cX3_isPoint) (maxL := 1) (ret := (some .boolean)) (by decide) rfl ?_
  intro p e s m args below meth c s₁ B hml hv
  obtain ⟨rfl, hH, hK⟩ := hv
  subst hH
  have hx := B.exec
  have hb := B.bytes
  have hr := B.returns
  have hts := atoms_spec (ws := ws_ yX3_isPoint cX3_isPoint 1 (some .boolean)) B.pre
  have hts : ∀ w ∈ lw_all, w.before _ s = true := fun w h => hts w (List.mem_cons_of_mem _ h)
  have hown : s.vm.findClass RX3 = some m.cls := findClass_of_methodNamed B.named
  have hlk := B.notSynchronized
  have hS : va_S kNO s.heap s.heap [] := va_S.rf
  have hB : ∀ q, kNO q → kBase D ≤ q := fun _ h => h.elim
  have hl := lv_entry ([.int (kI (x))]) (n := 1) (Nat.le_of_ble_eq_true rfl)
  rw [lg_entry_eq]
  generalize (lg_sl ([.int (kI (x))]) ++ List.replicate (1 - (lg_sl ([.int (kI (x))])).length) Slot.unset).toArray = ls at hl ⊢
  have hl : lv_has ls 1 [(0, .int (kI (x)))] := hl
  refine lv_iload_n hx hb dX3_isPoint_0 rfl (lv_at hl 0 rfl) ?_
  refine kx_iconst hx hb dX3_isPoint_1 ?_
  refine kx_sipush hx hb (by decide) dX3_isPoint_2 ?_
  refine kx_cb0 (va_runS (As := [.int (kI (x)), .int (kI (0)), .int (kI (383))]) (rest := []) ⟨hx, hb, hml, hown, hts⟩ (m_X3_in l D s.heap x 0 383  (by first | assumption | omega) (by first | assumption | omega) (by first | assumption | omega)) (va_cwS 3 hts (lw_S q2297 q2298 q89 q2299) rfl rfl rfl (by decide +kernel) ⟨Nat.le_of_ble_eq_true rfl, Nat.le_of_ble_eq_true rfl⟩) (kx_ps hK hS hB) rfl rfl hl.1 rfl (lv_room (Nat.le_of_ble_eq_true rfl)) dX3_isPoint_5 ⟨by first | exact Nat.le_of_ble_eq_true rfl | omega | (show _ ≤ _; omega) | (dsimp only [headSpec]; omega), by first | exact Nat.le_of_ble_eq_true rfl | omega | (show _ ≤ _; omega) | (dsimp only [headSpec]; omega)⟩) hS (fun z_4 locs_1 hz_3 hS_2 => ?_)
  subst z_4
  exact kx_zret (z := decide (0 ≤ x ∧ x ≤ 383)) hx hb hr hlk (⟨rfl, by first | rfl | exact (decide_eq_true (by omega)).symm | exact (decide_eq_false (by omega)).symm | grind⟩) hS_2 dX3_isPoint_8

set_option maxHeartbeats 4000000 in
set_option maxRecDepth 100000 in
theorem m_X3_of (l : Launch) (D : kG) (H : Heap) (a : Nat) (fs : List Value) (ra : Nat) (g : Nat → Int) (x : Int) (w : Int) (i : Nat) (hO_a : kO D H a 2 fs) (hf_a_0 : fs[0]? = some (.ref ra)) (hA_ra : kAi D H ra 514 g) (hi : 2 + 64 * x + w = (i : Int)) (hlt : i < 514) : Met l yX3_of (ws_ yX3_of cX3_of 3 (some .int)) ({ frames := 0, cells := 0, slots := 0, locals := 0 } : Room) (kPre D H [.ref a, .int (kI (x)), .int (kI (w))]) (kQi (fun (r : Int) H' => H' = H ∧ r = g i) kNO) (0) (0) (kNO) := by
  refine Met.ofW (cc := cX3_of) (maxL := 3) (ret := (some .int)) (by decide) rfl ?_
  intro p e s m args below meth c s₁ B hml hv
  obtain ⟨rfl, hH, hK⟩ := hv
  subst hH
  have hx := B.exec
  have hb := B.bytes
  have hr := B.returns
  have hts := atoms_spec (ws := ws_ yX3_of cX3_of 3 (some .int)) B.pre
  have hts : ∀ w ∈ lw_all, w.before _ s = true := fun w h => hts w (List.mem_cons_of_mem _ h)
  have hown : s.vm.findClass RX3 = some m.cls := findClass_of_methodNamed B.named
  have hlk := B.notSynchronized
  have hS : va_S kNO s.heap s.heap [] := va_S.rf
  have hB : ∀ q, kNO q → kBase D ≤ q := fun _ h => h.elim
  have hl := lv_entry ([.ref a, .int (kI (x)), .int (kI (w))]) (n := 3) (Nat.le_of_ble_eq_true rfl)
  rw [lg_entry_eq]
  generalize (lg_sl ([.ref a, .int (kI (x)), .int (kI (w))]) ++ List.replicate (3 - (lg_sl ([.ref a, .int (kI (x)), .int (kI (w))])).length) Slot.unset).toArray = ls at hl ⊢
  have hl : lv_has ls 3 [(0, .ref a), (1, .int (kI (x))), (2, .int (kI (w)))] := hl
  refine lv_aload_n hx hb dX3_of_0 rfl (lv_at hl 0 rfl) ?_
  refine kx_get (v := .ref ra) (C := RX3) (T := TX3) (N := 13) hx hb hts in_X3 hown hK hO_a rfl 0 (by decide) q2238 (fun _ h9 => h9) hf_a_0 dX3_of_1 ?_
  refine kx_iconst hx hb dX3_of_4 ?_
  refine kx_bipush hx hb (by decide) dX3_of_5 ?_
  refine lv_iload_n hx hb dX3_of_7 rfl (lv_at hl 1 rfl) ?_
  refine kx_imul hx hb dX3_of_8 ?_
  refine kx_iadd hx hb dX3_of_9 ?_
  refine lv_iload_n hx hb dX3_of_10 rfl (lv_at hl 2 rfl) ?_
  refine kx_iadd hx hb dX3_of_11 ?_
  refine kx_iald (i := ((2 + (64 * x)) + w)) hx hb hK hA_ra i (hi) (by omega) (by omega) dX3_of_12 ?_
  exact kx_iret (z := (g i)) hx hb hr hlk (⟨rfl, by first | rfl | omega | grind⟩) hS dX3_of_13

set_option maxHeartbeats 4000000 in
set_option maxRecDepth 100000 in
theorem of_lv (l : Launch) (D : kG) (H : Heap) (a : Nat) (fs : List Value) (ra : Nat) (g : Nat → Int) (S : Ls) (gap : Int) (ln : Nat) (hO_a : kO D H a 2 fs) (hf_a_0 : fs[0]? = some (.ref ra)) (hA_ra : kAi D H ra 514 g) (hM : MRow g S gap) (hok : LsOK S gap) (hln : ln < S.length) : Met l yX3_of (ws_ yX3_of cX3_of 3 (some .int)) ({ frames := 0, cells := 0, slots := 0, locals := 0 } : Room) (kPre D H [.ref a, .int (kI ((ln : Nat) : Int)), .int (kI (0))]) (kQi (fun (r : Int) H' => H' = H ∧ r = ln_lv (st_ln S ln)) kNO) (0) (0) (kNO) := by
  have hL8 := hok.1
  have h := m_X3_of l D H a fs ra g (ln : Int) (0) (2 + 64 * ln) hO_a hf_a_0 hA_ra (by omega) (by have := (hok.ln hln).n; omega)
  rw [hM.lv hln] at h
  exact h

set_option maxHeartbeats 4000000 in
set_option maxRecDepth 100000 in
theorem of_bg (l : Launch) (D : kG) (H : Heap) (a : Nat) (fs : List Value) (ra : Nat) (g : Nat → Int) (S : Ls) (gap : Int) (ln : Nat) (hO_a : kO D H a 2 fs) (hf_a_0 : fs[0]? = some (.ref ra)) (hA_ra : kAi D H ra 514 g) (hM : MRow g S gap) (hok : LsOK S gap) (hln : ln < S.length) : Met l yX3_of (ws_ yX3_of cX3_of 3 (some .int)) ({ frames := 0, cells := 0, slots := 0, locals := 0 } : Room) (kPre D H [.ref a, .int (kI ((ln : Nat) : Int)), .int (kI (1))]) (kQi (fun (r : Int) H' => H' = H ∧ r = ln_bg (st_ln S ln)) kNO) (0) (0) (kNO) := by
  have hL8 := hok.1
  have h := m_X3_of l D H a fs ra g (ln : Int) (1) (2 + 64 * ln + 1) hO_a hf_a_0 hA_ra (by omega) (by have := (hok.ln hln).n; omega)
  rw [hM.bg hln] at h
  exact h

set_option maxHeartbeats 4000000 in
set_option maxRecDepth 100000 in
theorem of_n (l : Launch) (D : kG) (H : Heap) (a : Nat) (fs : List Value) (ra : Nat) (g : Nat → Int) (S : Ls) (gap : Int) (ln : Nat) (hO_a : kO D H a 2 fs) (hf_a_0 : fs[0]? = some (.ref ra)) (hA_ra : kAi D H ra 514 g) (hM : MRow g S gap) (hok : LsOK S gap) (hln : ln < S.length) : Met l yX3_of (ws_ yX3_of cX3_of 3 (some .int)) ({ frames := 0, cells := 0, slots := 0, locals := 0 } : Room) (kPre D H [.ref a, .int (kI ((ln : Nat) : Int)), .int (kI (2))]) (kQi (fun (r : Int) H' => H' = H ∧ r = ((ln_n (st_ln S ln) : Nat) : Int)) kNO) (0) (0) (kNO) := by
  have hL8 := hok.1
  have h := m_X3_of l D H a fs ra g (ln : Int) (2) (2 + 64 * ln + 2) hO_a hf_a_0 hA_ra (by omega) (by have := (hok.ln hln).n; omega)
  rw [hM.n hln] at h
  exact h

set_option maxHeartbeats 4000000 in
set_option maxRecDepth 100000 in
theorem of_lb (l : Launch) (D : kG) (H : Heap) (a : Nat) (fs : List Value) (ra : Nat) (g : Nat → Int) (S : Ls) (gap : Int) (ln : Nat) (hO_a : kO D H a 2 fs) (hf_a_0 : fs[0]? = some (.ref ra)) (hA_ra : kAi D H ra 514 g) (hM : MRow g S gap) (hok : LsOK S gap) (hln : ln < S.length) : Met l yX3_of (ws_ yX3_of cX3_of 3 (some .int)) ({ frames := 0, cells := 0, slots := 0, locals := 0 } : Room) (kPre D H [.ref a, .int (kI ((ln : Nat) : Int)), .int (kI (3))]) (kQi (fun (r : Int) H' => H' = H ∧ r = ln_lb (st_ln S ln)) kNO) (0) (0) (kNO) := by
  have hL8 := hok.1
  have h := m_X3_of l D H a fs ra g (ln : Int) (3) (2 + 64 * ln + 3) hO_a hf_a_0 hA_ra (by omega) (by have := (hok.ln hln).n; omega)
  rw [hM.lb hln] at h
  exact h

set_option maxHeartbeats 4000000 in
set_option maxRecDepth 100000 in
theorem of_d (l : Launch) (D : kG) (H : Heap) (a : Nat) (fs : List Value) (ra : Nat) (g : Nat → Int) (S : Ls) (gap : Int) (ln : Nat) (w : Int) (j : Nat) (hO_a : kO D H a 2 fs) (hf_a_0 : fs[0]? = some (.ref ra)) (hA_ra : kAi D H ra 514 g) (hM : MRow g S gap) (hok : LsOK S gap) (hln : ln < S.length) (hj : j < ln_n (st_ln S ln)) (hw : w = 4 + (j : Int)) : Met l yX3_of (ws_ yX3_of cX3_of 3 (some .int)) ({ frames := 0, cells := 0, slots := 0, locals := 0 } : Room) (kPre D H [.ref a, .int (kI ((ln : Nat) : Int)), .int (kI (w))]) (kQi (fun (r : Int) H' => H' = H ∧ r = ln_d (st_ln S ln) j) kNO) (0) (0) (kNO) := by
  have hL8 := hok.1
  have h := m_X3_of l D H a fs ra g (ln : Int) (w) (2 + 64 * ln + 4 + j) hO_a hf_a_0 hA_ra (by omega) (by have := (hok.ln hln).n; omega)
  rw [hM.d hln hj] at h
  exact h

set_option maxHeartbeats 4000000 in
set_option maxRecDepth 100000 in
theorem m_X3_across (l : Launch) (D : kG) (H : Heap) (d : Int) (hd : 0 ≤ d ∧ d ≤ 7) : Met l yX3_across (ws_ yX3_across cX3_across 1 (some .int)) ({ frames := 0, cells := 0, slots := 0, locals := 0 } : Room) (kPre D H [.int (kI (d))]) (kQi (fun (r : Int) H' => H' = H ∧ r = ac d) kNO) (0) (0) (kNO) := by
  refine Met.ofW (cc := cX3_across) (maxL := 1) (ret := (some .int)) (by decide) rfl ?_
  intro p e s m args below meth c s₁ B hml hv
  obtain ⟨rfl, hH, hK⟩ := hv
  subst hH
  have hx := B.exec
  have hb := B.bytes
  have hr := B.returns
  have hts := atoms_spec (ws := ws_ yX3_across cX3_across 1 (some .int)) B.pre
  have hts : ∀ w ∈ lw_all, w.before _ s = true := fun w h => hts w (List.mem_cons_of_mem _ h)
  have hown : s.vm.findClass RX3 = some m.cls := findClass_of_methodNamed B.named
  have hlk := B.notSynchronized
  have hS : va_S kNO s.heap s.heap [] := va_S.rf
  have hB : ∀ q, kNO q → kBase D ≤ q := fun _ h => h.elim
  have hl := lv_entry ([.int (kI (d))]) (n := 1) (Nat.le_of_ble_eq_true rfl)
  rw [lg_entry_eq]
  generalize (lg_sl ([.int (kI (d))]) ++ List.replicate (1 - (lg_sl ([.int (kI (d))])).length) Slot.unset).toArray = ls at hl ⊢
  have hl : lv_has ls 1 [(0, .int (kI (d)))] := hl
  refine lv_iload_n hx hb dX3_across_0 rfl (lv_at hl 0 rfl) ?_
  refine kx_iconst hx hb dX3_across_1 ?_
  refine kx_icmp_lt (x := d) (y := 2) (tgt := 11) hx hb dX3_across_2 (by decide) (by omega) (by omega) (by omega) (by omega) (fun c_2_1 => ?_) (fun c_2_1 => ?_)
  · -- taken at 2
    refine kx_iconst hx hb dX3_across_11 ?_
    refine lv_goto (tgt := 31) hx hb dX3_across_12 (by decide) ?_
    exact kx_iret (z := 1) hx hb hr hlk (⟨rfl, by rw [ac_eq hd.1 hd.2]; first | (rw [if_pos (by omega)]) | (rw [if_neg (by omega), if_pos (by omega)]) | (rw [if_neg (by omega), if_neg (by omega)])⟩) hS dX3_across_31
  · -- not taken at 2
    refine lv_iload_n hx hb dX3_across_5 rfl (lv_at hl 0 rfl) ?_
    refine kx_bipush hx hb (by decide) dX3_across_6 ?_
    refine kx_icmp_ne (x := d) (y := 7) (tgt := 15) hx hb dX3_across_8 (by decide) (by omega) (by omega) (by omega) (by omega) (fun c_8_2 => ?_) (fun c_8_2 => ?_)
    · -- taken at 8
      refine lv_iload_n hx hb dX3_across_15 rfl (lv_at hl 0 rfl) ?_
      refine kx_iconst hx hb dX3_across_16 ?_
      refine kx_icmp_eq (x := d) (y := 2) (tgt := 26) hx hb dX3_across_17 (by decide) (by omega) (by omega) (by omega) (by omega) (fun c_17_3 => ?_) (fun c_17_3 => ?_)
      · -- taken at 17
        refine kx_iconst hx hb dX3_across_26 ?_
        refine lv_goto (tgt := 31) hx hb dX3_across_27 (by decide) ?_
        exact kx_iret (z := 0) hx hb hr hlk (⟨rfl, by rw [ac_eq hd.1 hd.2]; first | (rw [if_pos (by omega)]) | (rw [if_neg (by omega), if_pos (by omega)]) | (rw [if_neg (by omega), if_neg (by omega)])⟩) hS dX3_across_31
      · -- not taken at 17
        refine lv_iload_n hx hb dX3_across_20 rfl (lv_at hl 0 rfl) ?_
        refine kx_bipush hx hb (by decide) dX3_across_21 ?_
        refine kx_icmp_ne (x := d) (y := 6) (tgt := 30) hx hb dX3_across_23 (by decide) (by omega) (by omega) (by omega) (by omega) (fun c_23_4 => ?_) (fun c_23_4 => ?_)
        · -- taken at 23
          refine kx_iconst hx hb dX3_across_30 ?_
          exact kx_iret (z := (-1)) hx hb hr hlk (⟨rfl, by rw [ac_eq hd.1 hd.2]; first | (rw [if_pos (by omega)]) | (rw [if_neg (by omega), if_pos (by omega)]) | (rw [if_neg (by omega), if_neg (by omega)])⟩) hS dX3_across_31
        · -- not taken at 23
          refine kx_iconst hx hb dX3_across_26 ?_
          refine lv_goto (tgt := 31) hx hb dX3_across_27 (by decide) ?_
          exact kx_iret (z := 0) hx hb hr hlk (⟨rfl, by rw [ac_eq hd.1 hd.2]; first | (rw [if_pos (by omega)]) | (rw [if_neg (by omega), if_pos (by omega)]) | (rw [if_neg (by omega), if_neg (by omega)])⟩) hS dX3_across_31
    · -- not taken at 8
      refine kx_iconst hx hb dX3_across_11 ?_
      refine lv_goto (tgt := 31) hx hb dX3_across_12 (by decide) ?_
      exact kx_iret (z := 1) hx hb hr hlk (⟨rfl, by rw [ac_eq hd.1 hd.2]; first | (rw [if_pos (by omega)]) | (rw [if_neg (by omega), if_pos (by omega)]) | (rw [if_neg (by omega), if_neg (by omega)])⟩) hS dX3_across_31

set_option maxHeartbeats 4000000 in
set_option maxRecDepth 100000 in
theorem m_X3_down (l : Launch) (D : kG) (H : Heap) (d : Int) (hd : 0 ≤ d ∧ d ≤ 7) : Met l yX3_down (ws_ yX3_down cX3_down 1 (some .int)) ({ frames := 1, cells := 0, slots := 0, locals := 22 } : Room) (kPre D H [.int (kI (d))]) (kQi (fun (r : Int) H' => H' = H ∧ r = dn d) kNO) (0) (0) (kNO) := by
  refine Met.ofW (cc := cX3_down) (maxL := 1) (ret := (some .int)) (by decide) rfl ?_
  intro p e s m args below meth c s₁ B hml hv
  obtain ⟨rfl, hH, hK⟩ := hv
  subst hH
  have hx := B.exec
  have hb := B.bytes
  have hr := B.returns
  have hts := atoms_spec (ws := ws_ yX3_down cX3_down 1 (some .int)) B.pre
  have hts : ∀ w ∈ lw_all, w.before _ s = true := fun w h => hts w (List.mem_cons_of_mem _ h)
  have hown : s.vm.findClass RX3 = some m.cls := findClass_of_methodNamed B.named
  have hlk := B.notSynchronized
  have hS : va_S kNO s.heap s.heap [] := va_S.rf
  have hB : ∀ q, kNO q → kBase D ≤ q := fun _ h => h.elim
  have hl := lv_entry ([.int (kI (d))]) (n := 1) (Nat.le_of_ble_eq_true rfl)
  rw [lg_entry_eq]
  generalize (lg_sl ([.int (kI (d))]) ++ List.replicate (1 - (lg_sl ([.int (kI (d))])).length) Slot.unset).toArray = ls at hl ⊢
  have hl : lv_has ls 1 [(0, .int (kI (d)))] := hl
  refine lv_iload_n hx hb dX3_down_0 rfl (lv_at hl 0 rfl) ?_
  refine kx_iconst hx hb dX3_down_1 ?_
  refine kx_iconst hx hb dX3_down_2 ?_
  refine kx_cb0 (va_runS (As := [.int (kI (d)), .int (kI (1)), .int (kI (3))]) (rest := []) ⟨hx, hb, hml, hown, hts⟩ (m_X3_in l D s.heap d 1 3  (by first | assumption | omega) (by first | assumption | omega) (by first | assumption | omega)) (va_cwS 3 hts (lw_S q2297 q2298 q89 q2299) rfl rfl rfl (by decide +kernel) ⟨Nat.le_of_ble_eq_true rfl, Nat.le_of_ble_eq_true rfl⟩) (kx_ps hK hS hB) rfl rfl hl.1 rfl (lv_room (Nat.le_of_ble_eq_true rfl)) dX3_down_3 ⟨by first | exact Nat.le_of_ble_eq_true rfl | omega | (show _ ≤ _; omega) | (dsimp only [headSpec]; omega), by first | exact Nat.le_of_ble_eq_true rfl | omega | (show _ ≤ _; omega) | (dsimp only [headSpec]; omega)⟩) hS (fun z_4 locs_1 hz_3 hS_2 => ?_)
  subst z_4
  refine kx_ifz (tgt := 13) hx hb dX3_down_6 (by decide) (fun c_6_5 => ?_) (fun c_6_5 => ?_)
  · -- taken at 6
    have c_6_5 := of_decide_eq_false c_6_5
    refine lv_iload_n hx hb dX3_down_13 rfl (lv_at hl 0 rfl) ?_
    refine kx_iconst hx hb dX3_down_14 ?_
    refine kx_icmp_le (x := d) (y := 4) (tgt := 22) hx hb dX3_down_15 (by decide) (by omega) (by omega) (by omega) (by omega) (fun c_15_6 => ?_) (fun c_15_6 => ?_)
    · -- taken at 15
      refine kx_iconst hx hb dX3_down_22 ?_
      exact kx_iret (z := 0) hx hb hr hlk (⟨rfl, by rw [dn_eq hd.1 hd.2]; first | (rw [if_pos (by omega)]) | (rw [if_neg (by omega), if_pos (by omega)]) | (rw [if_neg (by omega), if_neg (by omega)])⟩) hS_2 dX3_down_23
    · -- not taken at 15
      refine kx_iconst hx hb dX3_down_18 ?_
      refine lv_goto (tgt := 23) hx hb dX3_down_19 (by decide) ?_
      exact kx_iret (z := (-1)) hx hb hr hlk (⟨rfl, by rw [dn_eq hd.1 hd.2]; first | (rw [if_pos (by omega)]) | (rw [if_neg (by omega), if_pos (by omega)]) | (rw [if_neg (by omega), if_neg (by omega)])⟩) hS_2 dX3_down_23
  · -- not taken at 6
    have c_6_5 := of_decide_eq_true c_6_5
    refine kx_iconst hx hb dX3_down_9 ?_
    refine lv_goto (tgt := 23) hx hb dX3_down_10 (by decide) ?_
    exact kx_iret (z := 1) hx hb hr hlk (⟨rfl, by rw [dn_eq hd.1 hd.2]; first | (rw [if_pos (by omega)]) | (rw [if_neg (by omega), if_pos (by omega)]) | (rw [if_neg (by omega), if_neg (by omega)])⟩) hS_2 dX3_down_23

set_option maxHeartbeats 4000000 in
set_option maxRecDepth 100000 in
theorem m_X3_next (l : Launch) (D : kG) (H : Heap) (q : Int) (d : Int) (hq : 0 ≤ q ∧ q ≤ 383) (hd : 0 ≤ d ∧ d ≤ 7) : Met l yX3_next (ws_ yX3_next cX3_next 4 (some .int)) ({ frames := 2, cells := 0, slots := 0, locals := 42 } : Room) (kPre D H [.int (kI (q)), .int (kI (d))]) (kQi (fun (r : Int) H' => H' = H ∧ r = nx q d) kNO) (0) (0) (kNO) := by
  refine Met.ofW (cc := cX3_next) (maxL := 4) (ret := (some .int)) (by decide) rfl ?_
  intro p e s m args below meth c s₁ B hml hv
  obtain ⟨rfl, hH, hK⟩ := hv
  subst hH
  have hx := B.exec
  have hb := B.bytes
  have hr := B.returns
  have hts := atoms_spec (ws := ws_ yX3_next cX3_next 4 (some .int)) B.pre
  have hts : ∀ w ∈ lw_all, w.before _ s = true := fun w h => hts w (List.mem_cons_of_mem _ h)
  have hown : s.vm.findClass RX3 = some m.cls := findClass_of_methodNamed B.named
  have hlk := B.notSynchronized
  have hS : va_S kNO s.heap s.heap [] := va_S.rf
  have hB : ∀ q, kNO q → kBase D ≤ q := fun _ h => h.elim
  have hl := lv_entry ([.int (kI (q)), .int (kI (d))]) (n := 4) (Nat.le_of_ble_eq_true rfl)
  rw [lg_entry_eq]
  generalize (lg_sl ([.int (kI (q)), .int (kI (d))]) ++ List.replicate (4 - (lg_sl ([.int (kI (q)), .int (kI (d))])).length) Slot.unset).toArray = ls at hl ⊢
  have hl : lv_has ls 4 [(0, .int (kI (q))), (1, .int (kI (d)))] := hl
  have h1 := ac_rng d
  have h2 := dn_rng d
  refine lv_iload_n hx hb dX3_next_0 rfl (lv_at hl 0 rfl) ?_
  refine kx_bipush hx hb (by decide) dX3_next_1 ?_
  refine kx_irem (x := q) (y := 24) hx hb (by omega) (by omega) (by omega) (by omega) dX3_next_3 ?_
  refine lv_iload_n hx hb dX3_next_4 rfl (lv_at hl 1 rfl) ?_
  refine kx_ci0 (va_runS (As := [.int (kI (d))]) (rest := [.int (kI ((q % 24)))]) ⟨hx, hb, hml, hown, hts⟩ (m_X3_across l D s.heap d  (by first | assumption | omega)) (va_cwS 1 hts (lw_S q2311 q2312 q89 q2313) rfl rfl rfl (by decide +kernel) ⟨Nat.le_of_ble_eq_true rfl, Nat.le_of_ble_eq_true rfl⟩) (kx_ps hK hS hB) rfl rfl hl.1 rfl (lv_room (Nat.le_of_ble_eq_true rfl)) dX3_next_5 ⟨by first | exact Nat.le_of_ble_eq_true rfl | omega | (show _ ≤ _; omega) | (dsimp only [headSpec]; omega), by first | exact Nat.le_of_ble_eq_true rfl | omega | (show _ ≤ _; omega) | (dsimp only [headSpec]; omega)⟩) hS (fun z_4 locs_1 hz_3 hS_2 => ?_)
  subst z_4
  refine kx_iadd hx hb dX3_next_8 ?_
  refine lv_istore_n (lv' := [(2, .int (kI (((q % 24) + ac d)))), (0, .int (kI (q))), (1, .int (kI (d)))]) hx hb dX3_next_9 rfl hl (by decide) rfl (fun ls hl => ?_)
  refine lv_iload_n hx hb dX3_next_10 rfl (lv_at hl 1 rfl) ?_
  refine kx_bipush hx hb (by decide) dX3_next_11 ?_
  refine kx_idiv (x := q) (y := 24) hx hb (by omega) (by omega) (by omega) (by omega) dX3_next_13 ?_
  refine lv_iload_n hx hb dX3_next_14 rfl (lv_at hl 2 rfl) ?_
  refine kx_ci0 (va_runS (As := [.int (kI (d))]) (rest := [.int (kI ((q / 24)))]) ⟨hx, hb, hml, hown, hts⟩ (m_X3_down l D s.heap d  (by first | assumption | omega)) (va_cwS 1 hts (lw_S q2308 q2309 q89 q2310) rfl rfl rfl (by decide +kernel) ⟨Nat.le_of_ble_eq_true rfl, Nat.le_of_ble_eq_true rfl⟩) (kx_ps hK hS_2 hB) rfl rfl hl.1 rfl (lv_room (Nat.le_of_ble_eq_true rfl)) dX3_next_15 ⟨by first | exact Nat.le_of_ble_eq_true rfl | omega | (show _ ≤ _; omega) | (dsimp only [headSpec]; omega), by first | exact Nat.le_of_ble_eq_true rfl | omega | (show _ ≤ _; omega) | (dsimp only [headSpec]; omega)⟩) hS_2 (fun z_8 locs_5 hz_7 hS_6 => ?_)
  subst z_8
  refine kx_iadd hx hb dX3_next_18 ?_
  refine lv_istore_n (lv' := [(3, .int (kI (((q / 24) + dn d)))), (2, .int (kI (((q % 24) + ac d)))), (0, .int (kI (q))), (1, .int (kI (d)))]) hx hb dX3_next_19 rfl hl (by decide) rfl (fun ls hl => ?_)
  refine lv_iload_n hx hb dX3_next_20 rfl (lv_at hl 1 rfl) ?_
  refine kx_iconst hx hb dX3_next_21 ?_
  refine kx_bipush hx hb (by decide) dX3_next_22 ?_
  refine kx_cb0 (va_runS (As := [.int (kI (((q % 24) + ac d))), .int (kI (0)), .int (kI (23))]) (rest := []) ⟨hx, hb, hml, hown, hts⟩ (m_X3_in l D s.heap (((q % 24) + ac d)) 0 23  (by first | assumption | omega) (by first | assumption | omega) (by first | assumption | omega)) (va_cwS 3 hts (lw_S q2297 q2298 q89 q2299) rfl rfl rfl (by decide +kernel) ⟨Nat.le_of_ble_eq_true rfl, Nat.le_of_ble_eq_true rfl⟩) (kx_ps hK hS_6 hB) rfl rfl hl.1 rfl (lv_room (Nat.le_of_ble_eq_true rfl)) dX3_next_24 ⟨by first | exact Nat.le_of_ble_eq_true rfl | omega | (show _ ≤ _; omega) | (dsimp only [headSpec]; omega), by first | exact Nat.le_of_ble_eq_true rfl | omega | (show _ ≤ _; omega) | (dsimp only [headSpec]; omega)⟩) hS_6 (fun z_12 locs_9 hz_11 hS_10 => ?_)
  subst z_12
  refine kx_ifz (tgt := 49) hx hb dX3_next_27 (by decide) (fun c_27_13 => ?_) (fun c_27_13 => ?_)
  · -- taken at 27
    have c_27_13 := of_decide_eq_false c_27_13
    refine kx_iconst hx hb dX3_next_49 ?_
    exact kx_iret (z := (-1)) hx hb hr hlk (⟨rfl, by unfold nx; first | rw [if_pos (by omega)] | rw [if_neg (by omega)]⟩) hS_10 dX3_next_50
  · -- not taken at 27
    have c_27_13 := of_decide_eq_true c_27_13
    refine lv_iload_n hx hb dX3_next_30 rfl (lv_at hl 0 rfl) ?_
    refine kx_iconst hx hb dX3_next_31 ?_
    refine kx_bipush hx hb (by decide) dX3_next_32 ?_
    refine kx_cb0 (va_runS (As := [.int (kI (((q / 24) + dn d))), .int (kI (0)), .int (kI (15))]) (rest := []) ⟨hx, hb, hml, hown, hts⟩ (m_X3_in l D s.heap (((q / 24) + dn d)) 0 15  (by first | assumption | omega) (by first | assumption | omega) (by first | assumption | omega)) (va_cwS 3 hts (lw_S q2297 q2298 q89 q2299) rfl rfl rfl (by decide +kernel) ⟨Nat.le_of_ble_eq_true rfl, Nat.le_of_ble_eq_true rfl⟩) (kx_ps hK hS_10 hB) rfl rfl hl.1 rfl (lv_room (Nat.le_of_ble_eq_true rfl)) dX3_next_34 ⟨by first | exact Nat.le_of_ble_eq_true rfl | omega | (show _ ≤ _; omega) | (dsimp only [headSpec]; omega), by first | exact Nat.le_of_ble_eq_true rfl | omega | (show _ ≤ _; omega) | (dsimp only [headSpec]; omega)⟩) hS_10 (fun z_17 locs_14 hz_16 hS_15 => ?_)
    subst z_17
    refine kx_ifz (tgt := 49) hx hb dX3_next_37 (by decide) (fun c_37_18 => ?_) (fun c_37_18 => ?_)
    · -- taken at 37
      have c_37_18 := of_decide_eq_false c_37_18
      refine kx_iconst hx hb dX3_next_49 ?_
      exact kx_iret (z := (-1)) hx hb hr hlk (⟨rfl, by unfold nx; first | rw [if_pos (by omega)] | rw [if_neg (by omega)]⟩) hS_15 dX3_next_50
    · -- not taken at 37
      have c_37_18 := of_decide_eq_true c_37_18
      refine kx_bipush hx hb (by decide) dX3_next_40 ?_
      refine lv_iload_n hx hb dX3_next_42 rfl (lv_at hl 0 rfl) ?_
      refine kx_imul hx hb dX3_next_43 ?_
      refine lv_iload_n hx hb dX3_next_44 rfl (lv_at hl 1 rfl) ?_
      refine kx_iadd hx hb dX3_next_45 ?_
      refine lv_goto (tgt := 50) hx hb dX3_next_46 (by decide) ?_
      exact kx_iret (z := ((24 * ((q / 24) + dn d)) + ((q % 24) + ac d))) hx hb hr hlk (⟨rfl, by unfold nx; first | rw [if_pos (by omega)] | rw [if_neg (by omega)]⟩) hS_15 dX3_next_50

set_option maxHeartbeats 4000000 in
set_option maxRecDepth 100000 in
theorem m_X3_at (l : Launch) (D : kG) (H : Heap) (a : Nat) (fs : List Value) (ra : Nat) (g : Nat → Int) (S : Ls) (gap : Int) (ln : Nat) (k : Nat) (hO_a : kO D H a 2 fs) (hf_a_0 : fs[0]? = some (.ref ra)) (hA_ra : kAi D H ra 514 g) (hM : MRow g S gap) (hok : LsOK S gap) (hln : ln < S.length) (hk : k ≤ ln_n (st_ln S ln)) : Met l yX3_at (ws_ yX3_at cX3_at 5 (some .int)) ({ frames := 2, cells := 0, slots := 0, locals := 42 } : Room) (kPre D H [.ref a, .int (kI ((ln : Nat) : Int)), .int (kI ((k : Nat) : Int))]) (kQi (fun (r : Int) H' => H' = H ∧ r = ln_pos (st_ln S ln) k) kNO) (0) (0) (kNO) := by
  refine Met.ofW (cc := cX3_at) (maxL := 5) (ret := (some .int)) (by decide) rfl ?_
  intro p e s m args below meth c s₁ B hml hv
  obtain ⟨rfl, hH, hK⟩ := hv
  subst hH
  have hx := B.exec
  have hb := B.bytes
  have hr := B.returns
  have hts := atoms_spec (ws := ws_ yX3_at cX3_at 5 (some .int)) B.pre
  have hts : ∀ w ∈ lw_all, w.before _ s = true := fun w h => hts w (List.mem_cons_of_mem _ h)
  have hown : s.vm.findClass RX3 = some m.cls := findClass_of_methodNamed B.named
  have hlk := B.notSynchronized
  have hS : va_S kNO s.heap s.heap [] := va_S.rf
  have hB : ∀ q, kNO q → kBase D ≤ q := fun _ h => h.elim
  have hl := lv_entry ([.ref a, .int (kI ((ln : Nat) : Int)), .int (kI ((k : Nat) : Int))]) (n := 5) (Nat.le_of_ble_eq_true rfl)
  rw [lg_entry_eq]
  generalize (lg_sl ([.ref a, .int (kI ((ln : Nat) : Int)), .int (kI ((k : Nat) : Int))]) ++ List.replicate (5 - (lg_sl ([.ref a, .int (kI ((ln : Nat) : Int)), .int (kI ((k : Nat) : Int))])).length) Slot.unset).toArray = ls at hl ⊢
  have hl : lv_has ls 5 [(0, .ref a), (1, .int (kI ((ln : Nat) : Int))), (2, .int (kI ((k : Nat) : Int)))] := hl
  have hL := hok.ln hln
  have hL60 := hL.n
  refine lv_aload_n hx hb dX3_at_0 rfl (lv_at hl 0 rfl) ?_
  refine lv_iload_n hx hb dX3_at_1 rfl (lv_at hl 1 rfl) ?_
  refine kx_iconst hx hb dX3_at_2 ?_
  refine kx_ci0 (va_runV (As := [.int (kI ((ln : Nat) : Int)), .int (kI (1))]) (rest := []) ⟨hx, hb, hml, hown, hts⟩ (of_bg l D s.heap a fs ra g S gap ln hO_a hf_a_0 hA_ra (by first | assumption | omega) (by first | assumption | omega) (by first | assumption | omega)) (cwV 2 hts (lw_V q2304 q2306 qs40 q89 q2307) rfl rfl rfl (by decide +kernel) ⟨Nat.le_of_ble_eq_true rfl, Nat.le_of_ble_eq_true rfl⟩) (kx_pv hK hS hB (kx_rc hK hO_a (C := RX3) (T := TX3) (N := 13) rfl)) rfl rfl hl.1 rfl (lv_room (Nat.le_of_ble_eq_true rfl)) dX3_at_3 ⟨by first | exact Nat.le_of_ble_eq_true rfl | omega | (show _ ≤ _; omega) | (dsimp only [headSpec]; omega), by first | exact Nat.le_of_ble_eq_true rfl | omega | (show _ ≤ _; omega) | (dsimp only [headSpec]; omega)⟩) hS (fun z_4 locs_1 hz_3 hS_2 => ?_)
  subst z_4
  refine lv_istore_n (lv' := [(3, .int (kI (ln_bg (st_ln S ln)))), (0, .ref a), (1, .int (kI ((ln : Nat) : Int))), (2, .int (kI ((k : Nat) : Int)))]) hx hb dX3_at_6 rfl hl (by decide) rfl (fun ls hl => ?_)
  refine kx_iconst hx hb dX3_at_7 ?_
  refine lv_istore (lv' := [(4, .int (kI (0))), (3, .int (kI (ln_bg (st_ln S ln)))), (0, .ref a), (1, .int (kI ((ln : Nat) : Int))), (2, .int (kI ((k : Nat) : Int)))]) hx hb dX3_at_8 hl (by decide) rfl (fun ls hl => ?_)
  have lp_10_x_5 : ∀ (n_10 : Nat) (i : Nat) (hi : i ≤ k) (locs : List Loc) (hS : va_S kNO s.heap s.heap locs) (hm_10 : k - i < n_10) (ls : Array Slot), lv_has ls 5 [(0, .ref a), (1, .int (kI ((ln : Nat) : Int))), (2, .int (kI ((k : Nat) : Int))), (3, .int (kI (ln_pos (st_ln S ln) i))), (4, .int (kI ((i : Nat) : Int)))] → W p l e (headSpec (ws_ yX3_at cX3_at 5 (some .int)) ({ frames := 2, cells := 0, slots := 0, locals := 42 } : Room)).room s m ([.ref a, .int (kI ((ln : Nat) : Int)), .int (kI ((k : Nat) : Int))] : List Value).toArray below meth c s.heap locs (0) (0) (MQ below (kQi (fun (r : Int) H' => H' = s.heap ∧ r = ln_pos (st_ln S ln) k) kNO) ([.ref a, .int (kI ((ln : Nat) : Int)), .int (kI ((k : Nat) : Int))] : List Value).toArray s (0) (0) (kNO)) (F0 m 10 ls []) := by
    intro n_10
    induction n_10 with
    | zero => intro i hi locs hS hm_10; exact absurd hm_10 (Nat.not_lt_zero _)
    | succ n_10 ih_10 =>
      intro i hi locs hS hm_10 ls hl
      refine lv_iload hx hb dX3_at_10 (lv_at hl 4 rfl) ?_
      refine lv_iload_n hx hb dX3_at_12 rfl (lv_at hl 2 rfl) ?_
      refine kx_icmp_ge (x := ((i : Nat) : Int)) (y := ((k : Nat) : Int)) (tgt := 53) hx hb dX3_at_13 (by decide) (by omega) (by omega) (by omega) (by omega) (fun c_13_6 => ?_) (fun c_13_6 => ?_)
      · -- taken at 13
        refine lv_iload_n hx hb dX3_at_53 rfl (lv_at hl 3 rfl) ?_
        exact kx_iret (z := ln_pos (st_ln S ln) i) hx hb hr hlk (⟨rfl, by congr 1; omega⟩) hS dX3_at_54
      · -- not taken at 13
        have hd := hL.d (k := i) (by omega)
        have hpp := hL.pos (k := i) (by omega)
        refine lv_iload_n hx hb dX3_at_16 rfl (lv_at hl 3 rfl) ?_
        refine kx_bipush hx hb (by decide) dX3_at_17 ?_
        refine lv_aload_n hx hb dX3_at_19 rfl (lv_at hl 0 rfl) ?_
        refine lv_iload_n hx hb dX3_at_20 rfl (lv_at hl 1 rfl) ?_
        refine kx_iconst hx hb dX3_at_21 ?_
        refine lv_iload hx hb dX3_at_22 (lv_at hl 4 rfl) ?_
        refine kx_iadd hx hb dX3_at_24 ?_
        refine kx_ci0 (va_runV (As := [.int (kI ((ln : Nat) : Int)), .int (kI ((4 + ((i : Nat) : Int))))]) (rest := [.int (kI (24)), .int (kI (ln_pos (st_ln S ln) i))]) ⟨hx, hb, hml, hown, hts⟩ (of_d l D s.heap a fs ra g S gap ln ((4 + ((i : Nat) : Int))) i hO_a hf_a_0 hA_ra (by first | assumption | omega) (by first | assumption | omega) (by first | assumption | omega) (by first | assumption | omega) (by first | assumption | omega)) (cwV 2 hts (lw_V q2304 q2306 qs40 q89 q2307) rfl rfl rfl (by decide +kernel) ⟨Nat.le_of_ble_eq_true rfl, Nat.le_of_ble_eq_true rfl⟩) (kx_pv hK hS hB (kx_rc hK hO_a (C := RX3) (T := TX3) (N := 13) rfl)) rfl rfl hl.1 rfl (lv_room (Nat.le_of_ble_eq_true rfl)) dX3_at_25 ⟨by first | exact Nat.le_of_ble_eq_true rfl | omega | (show _ ≤ _; omega) | (dsimp only [headSpec]; omega), by first | exact Nat.le_of_ble_eq_true rfl | omega | (show _ ≤ _; omega) | (dsimp only [headSpec]; omega)⟩) hS (fun z_10 locs_7 hz_9 hS_8 => ?_)
        subst z_10
        refine kx_ci0 (va_runS (As := [.int (kI (ln_d (st_ln S ln) i))]) (rest := [.int (kI (24)), .int (kI (ln_pos (st_ln S ln) i))]) ⟨hx, hb, hml, hown, hts⟩ (m_X3_down l D s.heap (ln_d (st_ln S ln) i)  (by first | assumption | omega)) (va_cwS 1 hts (lw_S q2308 q2309 q89 q2310) rfl rfl rfl (by decide +kernel) ⟨Nat.le_of_ble_eq_true rfl, Nat.le_of_ble_eq_true rfl⟩) (kx_ps hK hS_8 hB) rfl rfl hl.1 rfl (lv_room (Nat.le_of_ble_eq_true rfl)) dX3_at_28 ⟨by first | exact Nat.le_of_ble_eq_true rfl | omega | (show _ ≤ _; omega) | (dsimp only [headSpec]; omega), by first | exact Nat.le_of_ble_eq_true rfl | omega | (show _ ≤ _; omega) | (dsimp only [headSpec]; omega)⟩) hS_8 (fun z_14 locs_11 hz_13 hS_12 => ?_)
        subst z_14
        refine kx_imul hx hb dX3_at_31 ?_
        refine lv_aload_n hx hb dX3_at_32 rfl (lv_at hl 0 rfl) ?_
        refine lv_iload_n hx hb dX3_at_33 rfl (lv_at hl 1 rfl) ?_
        refine kx_iconst hx hb dX3_at_34 ?_
        refine lv_iload hx hb dX3_at_35 (lv_at hl 4 rfl) ?_
        refine kx_iadd hx hb dX3_at_37 ?_
        refine kx_ci0 (va_runV (As := [.int (kI ((ln : Nat) : Int)), .int (kI ((4 + ((i : Nat) : Int))))]) (rest := [.int (kI ((24 * dn (ln_d (st_ln S ln) i)))), .int (kI (ln_pos (st_ln S ln) i))]) ⟨hx, hb, hml, hown, hts⟩ (of_d l D s.heap a fs ra g S gap ln ((4 + ((i : Nat) : Int))) i hO_a hf_a_0 hA_ra (by first | assumption | omega) (by first | assumption | omega) (by first | assumption | omega) (by first | assumption | omega) (by first | assumption | omega)) (cwV 2 hts (lw_V q2304 q2306 qs40 q89 q2307) rfl rfl rfl (by decide +kernel) ⟨Nat.le_of_ble_eq_true rfl, Nat.le_of_ble_eq_true rfl⟩) (kx_pv hK hS_12 hB (kx_rc hK hO_a (C := RX3) (T := TX3) (N := 13) rfl)) rfl rfl hl.1 rfl (lv_room (Nat.le_of_ble_eq_true rfl)) dX3_at_38 ⟨by first | exact Nat.le_of_ble_eq_true rfl | omega | (show _ ≤ _; omega) | (dsimp only [headSpec]; omega), by first | exact Nat.le_of_ble_eq_true rfl | omega | (show _ ≤ _; omega) | (dsimp only [headSpec]; omega)⟩) hS_12 (fun z_18 locs_15 hz_17 hS_16 => ?_)
        subst z_18
        refine kx_ci0 (va_runS (As := [.int (kI (ln_d (st_ln S ln) i))]) (rest := [.int (kI ((24 * dn (ln_d (st_ln S ln) i)))), .int (kI (ln_pos (st_ln S ln) i))]) ⟨hx, hb, hml, hown, hts⟩ (m_X3_across l D s.heap (ln_d (st_ln S ln) i)  (by first | assumption | omega)) (va_cwS 1 hts (lw_S q2311 q2312 q89 q2313) rfl rfl rfl (by decide +kernel) ⟨Nat.le_of_ble_eq_true rfl, Nat.le_of_ble_eq_true rfl⟩) (kx_ps hK hS_16 hB) rfl rfl hl.1 rfl (lv_room (Nat.le_of_ble_eq_true rfl)) dX3_at_41 ⟨by first | exact Nat.le_of_ble_eq_true rfl | omega | (show _ ≤ _; omega) | (dsimp only [headSpec]; omega), by first | exact Nat.le_of_ble_eq_true rfl | omega | (show _ ≤ _; omega) | (dsimp only [headSpec]; omega)⟩) hS_16 (fun z_22 locs_19 hz_21 hS_20 => ?_)
        subst z_22
        refine kx_iadd hx hb dX3_at_44 ?_
        refine kx_iadd hx hb dX3_at_45 ?_
        refine lv_istore_n (lv' := [(3, .int (kI ((ln_pos (st_ln S ln) i + ((24 * dn (ln_d (st_ln S ln) i)) + ac (ln_d (st_ln S ln) i)))))), (0, .ref a), (1, .int (kI ((ln : Nat) : Int))), (2, .int (kI ((k : Nat) : Int))), (4, .int (kI ((i : Nat) : Int)))]) hx hb dX3_at_46 rfl hl (by decide) rfl (fun ls hl => ?_)
        refine lv_iinc (v := kI (((i + 1 : Nat) : Int))) (lv' := [(4, .int (kI ((i + 1 : Nat) : Int))), (3, .int (kI ((ln_pos (st_ln S ln) i + ((24 * dn (ln_d (st_ln S ln) i)) + ac (ln_d (st_ln S ln) i)))))), (0, .ref a), (1, .int (kI ((ln : Nat) : Int))), (2, .int (kI ((k : Nat) : Int)))]) hx hb dX3_at_47 hl (k := 4) rfl (kI_incN _ _) (by decide) rfl (fun ls hl => ?_)
        refine lv_goto (tgt := 10) hx hb dX3_at_50 (by decide) ?_
        exact ih_10  (i + 1) (by first | assumption | omega | (simp_all; done) | grind) _ hS_20 (by omega) ls (lv_sub hl [2, 3, 4, 1, 0] rfl)
  exact lp_10_x_5 (k - 0 + 1) 0 (by first | assumption | omega | (simp_all; done) | grind) _ hS_2 (Nat.lt_succ_self _) ls (lv_sub hl [2, 3, 4, 1, 0] rfl)

set_option maxHeartbeats 4000000 in
set_option maxRecDepth 100000 in
theorem m_X3_last (l : Launch) (D : kG) (H : Heap) (a : Nat) (fs : List Value) (ra : Nat) (g : Nat → Int) (S : Ls) (gap : Int) (ln : Nat) (hO_a : kO D H a 2 fs) (hf_a_0 : fs[0]? = some (.ref ra)) (hA_ra : kAi D H ra 514 g) (hM : MRow g S gap) (hok : LsOK S gap) (hln : ln < S.length) : Met l yX3_last (ws_ yX3_last cX3_last 2 (some .int)) ({ frames := 3, cells := 0, slots := 0, locals := 66 } : Room) (kPre D H [.ref a, .int (kI ((ln : Nat) : Int))]) (kQi (fun (r : Int) H' => H' = H ∧ r = ln_end (st_ln S ln)) kNO) (0) (0) (kNO) := by
  refine Met.ofW (cc := cX3_last) (maxL := 2) (ret := (some .int)) (by decide) rfl ?_
  intro p e s m args below meth c s₁ B hml hv
  obtain ⟨rfl, hH, hK⟩ := hv
  subst hH
  have hx := B.exec
  have hb := B.bytes
  have hr := B.returns
  have hts := atoms_spec (ws := ws_ yX3_last cX3_last 2 (some .int)) B.pre
  have hts : ∀ w ∈ lw_all, w.before _ s = true := fun w h => hts w (List.mem_cons_of_mem _ h)
  have hown : s.vm.findClass RX3 = some m.cls := findClass_of_methodNamed B.named
  have hlk := B.notSynchronized
  have hS : va_S kNO s.heap s.heap [] := va_S.rf
  have hB : ∀ q, kNO q → kBase D ≤ q := fun _ h => h.elim
  have hl := lv_entry ([.ref a, .int (kI ((ln : Nat) : Int))]) (n := 2) (Nat.le_of_ble_eq_true rfl)
  rw [lg_entry_eq]
  generalize (lg_sl ([.ref a, .int (kI ((ln : Nat) : Int))]) ++ List.replicate (2 - (lg_sl ([.ref a, .int (kI ((ln : Nat) : Int))])).length) Slot.unset).toArray = ls at hl ⊢
  have hl : lv_has ls 2 [(0, .ref a), (1, .int (kI ((ln : Nat) : Int)))] := hl
  refine lv_aload_n hx hb dX3_last_0 rfl (lv_at hl 0 rfl) ?_
  refine lv_iload_n hx hb dX3_last_1 rfl (lv_at hl 1 rfl) ?_
  refine lv_aload_n hx hb dX3_last_2 rfl (lv_at hl 0 rfl) ?_
  refine lv_iload_n hx hb dX3_last_3 rfl (lv_at hl 1 rfl) ?_
  refine kx_iconst hx hb dX3_last_4 ?_
  refine kx_ci0 (va_runV (As := [.int (kI ((ln : Nat) : Int)), .int (kI (2))]) (rest := [.int (kI ((ln : Nat) : Int)), .ref a]) ⟨hx, hb, hml, hown, hts⟩ (of_n l D s.heap a fs ra g S gap ln hO_a hf_a_0 hA_ra (by first | assumption | omega) (by first | assumption | omega) (by first | assumption | omega)) (cwV 2 hts (lw_V q2304 q2306 qs40 q89 q2307) rfl rfl rfl (by decide +kernel) ⟨Nat.le_of_ble_eq_true rfl, Nat.le_of_ble_eq_true rfl⟩) (kx_pv hK hS hB (kx_rc hK hO_a (C := RX3) (T := TX3) (N := 13) rfl)) rfl rfl hl.1 rfl (lv_room (Nat.le_of_ble_eq_true rfl)) dX3_last_5 ⟨by first | exact Nat.le_of_ble_eq_true rfl | omega | (show _ ≤ _; omega) | (dsimp only [headSpec]; omega), by first | exact Nat.le_of_ble_eq_true rfl | omega | (show _ ≤ _; omega) | (dsimp only [headSpec]; omega)⟩) hS (fun z_4 locs_1 hz_3 hS_2 => ?_)
  subst z_4
  refine kx_ci0 (va_runV (As := [.int (kI ((ln : Nat) : Int)), .int (kI ((ln_n (st_ln S ln) : Nat) : Int))]) (rest := []) ⟨hx, hb, hml, hown, hts⟩ (m_X3_at l D s.heap a fs ra g S gap ln (ln_n (st_ln S ln)) hO_a hf_a_0 hA_ra (by first | assumption | omega) (by first | assumption | omega) (by first | assumption | omega) (by first | assumption | omega)) (cwV 2 hts (lw_V q2330 q2332 qs45 q89 q2333) rfl rfl rfl (by decide +kernel) ⟨Nat.le_of_ble_eq_true rfl, Nat.le_of_ble_eq_true rfl⟩) (kx_pv hK hS_2 hB (kx_rc hK hO_a (C := RX3) (T := TX3) (N := 13) rfl)) rfl rfl hl.1 rfl (lv_room (Nat.le_of_ble_eq_true rfl)) dX3_last_8 ⟨by first | exact Nat.le_of_ble_eq_true rfl | omega | (show _ ≤ _; omega) | (dsimp only [headSpec]; omega), by first | exact Nat.le_of_ble_eq_true rfl | omega | (show _ ≤ _; omega) | (dsimp only [headSpec]; omega)⟩) hS_2 (fun z_8 locs_5 hz_7 hS_6 => ?_)
  subst z_8
  exact kx_iret (z := ln_pos (st_ln S ln) (ln_n (st_ln S ln))) hx hb hr hlk (⟨rfl, by rfl⟩) hS_6 dX3_last_11

set_option maxHeartbeats 4000000 in
set_option maxRecDepth 100000 in
theorem m_X3_closes (l : Launch) (D : kG) (H : Heap) (a : Nat) (fs : List Value) (ra : Nat) (g : Nat → Int) (S : Ls) (gap : Int) (ln : Nat) (hO_a : kO D H a 2 fs) (hf_a_0 : fs[0]? = some (.ref ra)) (hA_ra : kAi D H ra 514 g) (hM : MRow g S gap) (hok : LsOK S gap) (hln : ln < S.length) : Met l yX3_closes (ws_ yX3_closes cX3_closes 2 (some .boolean)) ({ frames := 4, cells := 0, slots := 0, locals := 87 } : Room) (kPre D H [.ref a, .int (kI ((ln : Nat) : Int))]) (kQb (fun (r : Bool) H' => H' = H ∧ r = ln_cl (st_ln S ln)) kNO) (0) (0) (kNO) := by
  refine Met.ofW (cc := cX3_closes) (maxL := 2) (ret := (some .boolean)) (by decide) rfl ?_
  intro p e s m args below meth c s₁ B hml hv
  obtain ⟨rfl, hH, hK⟩ := hv
  subst hH
  have hx := B.exec
  have hb := B.bytes
  have hr := B.returns
  have hts := atoms_spec (ws := ws_ yX3_closes cX3_closes 2 (some .boolean)) B.pre
  have hts : ∀ w ∈ lw_all, w.before _ s = true := fun w h => hts w (List.mem_cons_of_mem _ h)
  have hown : s.vm.findClass RX3 = some m.cls := findClass_of_methodNamed B.named
  have hlk := B.notSynchronized
  have hS : va_S kNO s.heap s.heap [] := va_S.rf
  have hB : ∀ q, kNO q → kBase D ≤ q := fun _ h => h.elim
  have hl := lv_entry ([.ref a, .int (kI ((ln : Nat) : Int))]) (n := 2) (Nat.le_of_ble_eq_true rfl)
  rw [lg_entry_eq]
  generalize (lg_sl ([.ref a, .int (kI ((ln : Nat) : Int))]) ++ List.replicate (2 - (lg_sl ([.ref a, .int (kI ((ln : Nat) : Int))])).length) Slot.unset).toArray = ls at hl ⊢
  have hl : lv_has ls 2 [(0, .ref a), (1, .int (kI ((ln : Nat) : Int)))] := hl
  have hL := hok.ln hln
  have hL60 := hL.n
  have hbg := hL.bg
  have he : 0 ≤ ln_end (st_ln S ln) ∧ ln_end (st_ln S ln) ≤ 383 := hL.pos (Nat.le_refl _)
  refine lv_aload_n hx hb dX3_closes_0 rfl (lv_at hl 0 rfl) ?_
  refine lv_iload_n hx hb dX3_closes_1 rfl (lv_at hl 1 rfl) ?_
  refine kx_iconst hx hb dX3_closes_2 ?_
  refine kx_ci0 (va_runV (As := [.int (kI ((ln : Nat) : Int)), .int (kI (2))]) (rest := []) ⟨hx, hb, hml, hown, hts⟩ (of_n l D s.heap a fs ra g S gap ln hO_a hf_a_0 hA_ra (by first | assumption | omega) (by first | assumption | omega) (by first | assumption | omega)) (cwV 2 hts (lw_V q2304 q2306 qs40 q89 q2307) rfl rfl rfl (by decide +kernel) ⟨Nat.le_of_ble_eq_true rfl, Nat.le_of_ble_eq_true rfl⟩) (kx_pv hK hS hB (kx_rc hK hO_a (C := RX3) (T := TX3) (N := 13) rfl)) rfl rfl hl.1 rfl (lv_room (Nat.le_of_ble_eq_true rfl)) dX3_closes_3 ⟨by first | exact Nat.le_of_ble_eq_true rfl | omega | (show _ ≤ _; omega) | (dsimp only [headSpec]; omega), by first | exact Nat.le_of_ble_eq_true rfl | omega | (show _ ≤ _; omega) | (dsimp only [headSpec]; omega)⟩) hS (fun z_4 locs_1 hz_3 hS_2 => ?_)
  subst z_4
  refine kx_if_le (x := ((ln_n (st_ln S ln) : Nat) : Int)) (tgt := 27) hx hb dX3_closes_6 (by decide) (by omega) (by omega) (fun c_6_5 => ?_) (fun c_6_5 => ?_)
  · -- taken at 6
    refine kx_iconst hx hb dX3_closes_27 ?_
    exact kx_zret (z := false) hx hb hr hlk (⟨rfl, by unfold ln_cl; first | (rw [decide_eq_true (by omega), decide_eq_true (by omega)]; rfl) | (rw [decide_eq_true (by omega), decide_eq_false (by omega)]; rfl) | (rw [decide_eq_false (by omega)]; rfl)⟩) hS_2 dX3_closes_28
  · -- not taken at 6
    refine lv_aload_n hx hb dX3_closes_9 rfl (lv_at hl 0 rfl) ?_
    refine lv_iload_n hx hb dX3_closes_10 rfl (lv_at hl 1 rfl) ?_
    refine kx_ci0 (va_runV (As := [.int (kI ((ln : Nat) : Int))]) (rest := []) ⟨hx, hb, hml, hown, hts⟩ (m_X3_last l D s.heap a fs ra g S gap ln hO_a hf_a_0 hA_ra (by first | assumption | omega) (by first | assumption | omega) (by first | assumption | omega)) (cwV 1 hts (lw_V q2326 q2328 qs44 q89 q2329) rfl rfl rfl (by decide +kernel) ⟨Nat.le_of_ble_eq_true rfl, Nat.le_of_ble_eq_true rfl⟩) (kx_pv hK hS_2 hB (kx_rc hK hO_a (C := RX3) (T := TX3) (N := 13) rfl)) rfl rfl hl.1 rfl (lv_room (Nat.le_of_ble_eq_true rfl)) dX3_closes_11 ⟨by first | exact Nat.le_of_ble_eq_true rfl | omega | (show _ ≤ _; omega) | (dsimp only [headSpec]; omega), by first | exact Nat.le_of_ble_eq_true rfl | omega | (show _ ≤ _; omega) | (dsimp only [headSpec]; omega)⟩) hS_2 (fun z_9 locs_6 hz_8 hS_7 => ?_)
    subst z_9
    refine lv_aload_n hx hb dX3_closes_14 rfl (lv_at hl 0 rfl) ?_
    refine lv_iload_n hx hb dX3_closes_15 rfl (lv_at hl 1 rfl) ?_
    refine kx_iconst hx hb dX3_closes_16 ?_
    refine kx_ci0 (va_runV (As := [.int (kI ((ln : Nat) : Int)), .int (kI (1))]) (rest := [.int (kI (ln_end (st_ln S ln)))]) ⟨hx, hb, hml, hown, hts⟩ (of_bg l D s.heap a fs ra g S gap ln hO_a hf_a_0 hA_ra (by first | assumption | omega) (by first | assumption | omega) (by first | assumption | omega)) (cwV 2 hts (lw_V q2304 q2306 qs40 q89 q2307) rfl rfl rfl (by decide +kernel) ⟨Nat.le_of_ble_eq_true rfl, Nat.le_of_ble_eq_true rfl⟩) (kx_pv hK hS_7 hB (kx_rc hK hO_a (C := RX3) (T := TX3) (N := 13) rfl)) rfl rfl hl.1 rfl (lv_room (Nat.le_of_ble_eq_true rfl)) dX3_closes_17 ⟨by first | exact Nat.le_of_ble_eq_true rfl | omega | (show _ ≤ _; omega) | (dsimp only [headSpec]; omega), by first | exact Nat.le_of_ble_eq_true rfl | omega | (show _ ≤ _; omega) | (dsimp only [headSpec]; omega)⟩) hS_7 (fun z_13 locs_10 hz_12 hS_11 => ?_)
    subst z_13
    refine kx_icmp_ne (x := ln_end (st_ln S ln)) (y := ln_bg (st_ln S ln)) (tgt := 27) hx hb dX3_closes_20 (by decide) (by omega) (by omega) (by omega) (by omega) (fun c_20_14 => ?_) (fun c_20_14 => ?_)
    · -- taken at 20
      refine kx_iconst hx hb dX3_closes_27 ?_
      exact kx_zret (z := false) hx hb hr hlk (⟨rfl, by unfold ln_cl; first | (rw [decide_eq_true (by omega), decide_eq_true (by omega)]; rfl) | (rw [decide_eq_true (by omega), decide_eq_false (by omega)]; rfl) | (rw [decide_eq_false (by omega)]; rfl)⟩) hS_11 dX3_closes_28
    · -- not taken at 20
      refine kx_iconst hx hb dX3_closes_23 ?_
      refine lv_goto (tgt := 28) hx hb dX3_closes_24 (by decide) ?_
      exact kx_zret (z := true) hx hb hr hlk (⟨rfl, by unfold ln_cl; first | (rw [decide_eq_true (by omega), decide_eq_true (by omega)]; rfl) | (rw [decide_eq_true (by omega), decide_eq_false (by omega)]; rfl) | (rw [decide_eq_false (by omega)]; rfl)⟩) hS_11 dX3_closes_28

