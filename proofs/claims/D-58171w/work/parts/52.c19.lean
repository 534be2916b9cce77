set_option maxHeartbeats 4000000 in
set_option maxRecDepth 100000 in
theorem m_X1_checkNumber (l : Launch) (D : kG) (H : Heap) (x : Int) (y : Int) (hr_x : -2147483648 ≤ x ∧ x ≤ 2147483647) (hr_y : -2147483648 ≤ y ∧ y ≤ 2147483647) (hxy : 0 ≤ x ∧ x < y) : Met l yX1_checkNumber (ws_ yX1_checkNumber cX1_checkNumber 2 none) ({ frames := 0, cells := 0, slots := 0, locals := 0 } : Room) (kPre D H [.int (kI (x)), .int (kI (y))]) (kQv (fun H' => H' = H ∧ True) kNO) (0) (0) (kNO) := by
  refine Met.ofW (cc := cX1_checkNumber) (maxL := 2) (ret := none) (by decide) rfl ?_
  intro p e s m args below meth c s₁ B hml hv
  obtain ⟨rfl, hH, hK⟩ := hv
  subst hH
  have hx := B.exec
  have hb := B.bytes
  have hr := B.returns
  have hts := atoms_spec (ws := ws_ yX1_checkNumber cX1_checkNumber 2 none) B.pre
  have hts : ∀ w ∈ lw_all, w.before _ s = true := fun w h => hts w (List.mem_cons_of_mem _ h)
  have hown : s.vm.findClass RX1 = some m.cls := findClass_of_methodNamed B.named
  have hlk := B.notSynchronized
  have hS : va_S kNO s.heap s.heap [] := va_S.rf
  have hB : ∀ q, kNO q → kBase D ≤ q := fun _ h => h.elim
  have hl := lv_entry ([.int (kI (x)), .int (kI (y))]) (n := 2) (Nat.le_of_ble_eq_true rfl)
  rw [lg_entry_eq]
  generalize (lg_sl ([.int (kI (x)), .int (kI (y))]) ++ List.replicate (2 - (lg_sl ([.int (kI (x)), .int (kI (y))])).length) Slot.unset).toArray = ls at hl ⊢
  have hl : lv_has ls 2 [(0, .int (kI (x))), (1, .int (kI (y)))] := hl
  refine lv_iload_n hx hb dX1_checkNumber_0 rfl (lv_at hl 0 rfl) ?_
  refine kx_if_lt (x := x) (tgt := 9) hx hb dX1_checkNumber_1 (by decide) (by omega) (by omega) (fun c_1_1 => ?_) (fun c_1_1 => ?_)
  · -- taken at 1
    exfalso; omega
  · -- not taken at 1
    refine lv_iload_n hx hb dX1_checkNumber_4 rfl (lv_at hl 0 rfl) ?_
    refine lv_iload_n hx hb dX1_checkNumber_5 rfl (lv_at hl 1 rfl) ?_
    refine kx_icmp_lt (x := x) (y := y) (tgt := 17) hx hb dX1_checkNumber_6 (by decide) (by omega) (by omega) (by omega) (by omega) (fun c_6_2 => ?_) (fun c_6_2 => ?_)
    · -- taken at 6
      exact kx_vret hx hb hr hlk (⟨rfl, trivial⟩) hS dX1_checkNumber_17
    · -- not taken at 6
      exfalso; omega

set_option maxHeartbeats 4000000 in
set_option maxRecDepth 100000 in
theorem m_X1_checkRange (l : Launch) (D : kG) (H : Heap) (x : Int) (y : Int) (z : Int) (hr_x : -2147483648 ≤ x ∧ x ≤ 2147483647) (hr_y : -2147483648 ≤ y ∧ y ≤ 2147483647) (hr_z : -2147483648 ≤ z ∧ z ≤ 2147483647) (hxy : y ≤ x ∧ x ≤ z) : Met l yX1_checkRange (ws_ yX1_checkRange cX1_checkRange 3 none) ({ frames := 0, cells := 0, slots := 0, locals := 0 } : Room) (kPre D H [.int (kI (x)), .int (kI (y)), .int (kI (z))]) (kQv (fun H' => H' = H ∧ True) kNO) (0) (0) (kNO) := by
  refine Met.ofW (cc := cX1_checkRange) (maxL := 3) (ret := none) (by decide) rfl ?_
  intro p e s m args below meth c s₁ B hml hv
  obtain ⟨rfl, hH, hK⟩ := hv
  subst hH
  have hx := B.exec
  have hb := B.bytes
  have hr := B.returns
  have hts := atoms_spec (ws := ws_ yX1_checkRange cX1_checkRange 3 none) B.pre
  have hts : ∀ w ∈ lw_all, w.before _ s = true := fun w h => hts w (List.mem_cons_of_mem _ h)
  have hown : s.vm.findClass RX1 = some m.cls := findClass_of_methodNamed B.named
  have hlk := B.notSynchronized
  have hS : va_S kNO s.heap s.heap [] := va_S.rf
  have hB : ∀ q, kNO q → kBase D ≤ q := fun _ h => h.elim
  have hl := lv_entry ([.int (kI (x)), .int (kI (y)), .int (kI (z))]) (n := 3) (Nat.le_of_ble_eq_true rfl)
  rw [lg_entry_eq]
  generalize (lg_sl ([.int (kI (x)), .int (kI (y)), .int (kI (z))]) ++ List.replicate (3 - (lg_sl ([.int (kI (x)), .int (kI (y)), .int (kI (z))])).length) Slot.unset).toArray = ls at hl ⊢
  have hl : lv_has ls 3 [(0, .int (kI (x))), (1, .int (kI (y))), (2, .int (kI (z)))] := hl
  refine lv_iload_n hx hb dX1_checkRange_0 rfl (lv_at hl 0 rfl) ?_
  refine lv_iload_n hx hb dX1_checkRange_1 rfl (lv_at hl 1 rfl) ?_
  refine kx_icmp_lt (x := x) (y := y) (tgt := 10) hx hb dX1_checkRange_2 (by decide) (by omega) (by omega) (by omega) (by omega) (fun c_2_1 => ?_) (fun c_2_1 => ?_)
  · -- taken at 2
    exfalso; omega
  · -- not taken at 2
    refine lv_iload_n hx hb dX1_checkRange_5 rfl (lv_at hl 0 rfl) ?_
    refine lv_iload_n hx hb dX1_checkRange_6 rfl (lv_at hl 2 rfl) ?_
    refine kx_icmp_le (x := x) (y := z) (tgt := 18) hx hb dX1_checkRange_7 (by decide) (by omega) (by omega) (by omega) (by omega) (fun c_7_2 => ?_) (fun c_7_2 => ?_)
    · -- taken at 7
      exact kx_vret hx hb hr hlk (⟨rfl, trivial⟩) hS dX1_checkRange_18
    · -- not taken at 7
      exfalso; omega

set_option maxHeartbeats 4000000 in
set_option maxRecDepth 100000 in
theorem m_X1_checkState (l : Launch) (D : kG) (H : Heap)  : Met l yX1_checkState (ws_ yX1_checkState cX1_checkState 1 none) ({ frames := 0, cells := 0, slots := 0, locals := 0 } : Room) (kPre D H [.int (kI (kb (true)))]) (kQv (fun H' => H' = H ∧ True) kNO) (0) (0) (kNO) := by
  refine Met.ofW (cc := cX1_checkState) (maxL := 1) (ret := none) (by decide) rfl ?_
  intro p e s m args below meth c s₁ B hml hv
  obtain ⟨rfl, hH, hK⟩ := hv
  subst hH
  have hx := B.exec
  have hb := B.bytes
  have hr := B.returns
  have hts := atoms_spec (ws := ws_ yX1_checkState cX1_checkState 1 none) B.pre
  have hts : ∀ w ∈ lw_all, w.before _ s = true := fun w h => hts w (List.mem_cons_of_mem _ h)
  have hown : s.vm.findClass RX1 = some m.cls := findClass_of_methodNamed B.named
  have hlk := B.notSynchronized
  have hS : va_S kNO s.heap s.heap [] := va_S.rf
  have hB : ∀ q, kNO q → kBase D ≤ q := fun _ h => h.elim
  have hl := lv_entry ([.int (kI (kb (true)))]) (n := 1) (Nat.le_of_ble_eq_true rfl)
  rw [lg_entry_eq]
  generalize (lg_sl ([.int (kI (kb (true)))]) ++ List.replicate (1 - (lg_sl ([.int (kI (kb (true)))])).length) Slot.unset).toArray = ls at hl ⊢
  have hl : lv_has ls 1 [(0, .int (kI (kb (true))))] := hl
  refine lv_iload_n hx hb dX1_checkState_0 rfl (lv_at hl 0 rfl) ?_
  refine kx_ifnz (tgt := 12) hx hb dX1_checkState_1 (by decide) (fun c_1_1 => ?_) (fun c_1_1 => ?_)
  · -- taken at 1
    exact kx_vret hx hb hr hlk (⟨rfl, trivial⟩) hS dX1_checkState_12
  · -- not taken at 1
    exact absurd c_1_1 (by decide)

set_option maxHeartbeats 4000000 in
set_option maxRecDepth 100000 in
theorem m_X1_checkPoint (l : Launch) (D : kG) (H : Heap) (x : Int) (hpt : 0 ≤ x ∧ x ≤ 383) : Met l yX1_checkPoint (ws_ yX1_checkPoint cX1_checkPoint 1 none) ({ frames := 1, cells := 0, slots := 0, locals := 21 } : Room) (kPre D H [.int (kI (x))]) (kQv (fun H' => H' = H ∧ True) kNO) (0) (0) (kNO) := by
  refine Met.ofW (cc := cX1_checkPoint) (maxL := 1) (ret := none) (by decide) rfl ?_
  intro p e s m args below meth c s₁ B hml hv
  obtain ⟨rfl, hH, hK⟩ := hv
  subst hH
  have hx := B.exec
  have hb := B.bytes
  have hr := B.returns
  have hts := atoms_spec (ws := ws_ yX1_checkPoint cX1_checkPoint 1 none) B.pre
  have hts : ∀ w ∈ lw_all, w.before _ s = true := fun w h => hts w (List.mem_cons_of_mem _ h)
  have hown : s.vm.findClass RX1 = some m.cls := findClass_of_methodNamed B.named
  have hlk := B.notSynchronized
  have hS : va_S kNO s.heap s.heap [] := va_S.rf
  have hB : ∀ q, kNO q → kBase D ≤ q := fun _ h => h.elim
  have hl := lv_entry ([.int (kI (x))]) (n := 1) (Nat.le_of_ble_eq_true rfl)
  rw [lg_entry_eq]
  generalize (lg_sl ([.int (kI (x))]) ++ List.replicate (1 - (lg_sl ([.int (kI (x))])).length) Slot.unset).toArray = ls at hl ⊢
  have hl : lv_has ls 1 [(0, .int (kI (x)))] := hl
  refine lv_iload_n hx hb dX1_checkPoint_0 rfl (lv_at hl 0 rfl) ?_
  refine kx_sipush hx hb (by decide) dX1_checkPoint_1 ?_
  refine kx_cv0 (va_runS (As := [.int (kI (x)), .int (kI (384))]) (rest := []) ⟨hx, hb, hml, hown, hts⟩ (m_X1_checkNumber l D s.heap x 384  (by first | assumption | omega) (by first | assumption | omega) (by first | assumption | omega)) (va_cwS 2 hts (lw_S q1820 q1821 q79 q1822) rfl rfl rfl (by decide +kernel) ⟨Nat.le_of_ble_eq_true rfl, Nat.le_of_ble_eq_true rfl⟩) (kx_ps hK hS hB) rfl rfl hl.1 rfl (lv_room (Nat.le_of_ble_eq_true rfl)) dX1_checkPoint_4 ⟨by first | exact Nat.le_of_ble_eq_true rfl | omega | (show _ ≤ _; omega) | (dsimp only [headSpec]; omega), by first | exact Nat.le_of_ble_eq_true rfl | omega | (show _ ≤ _; omega) | (dsimp only [headSpec]; omega)⟩) hS (fun locs_1 hz_3 hS_2 => ?_)
  exact kx_vret hx hb hr hlk (⟨rfl, trivial⟩) hS_2 dX1_checkPoint_7

