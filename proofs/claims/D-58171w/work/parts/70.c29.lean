set_option maxHeartbeats 4000000 in
set_option maxRecDepth 100000 in
theorem x_checkNumber (l : Launch) (hl9 : l.stackTraces = false) (D : kG) (H : Heap) (x : Int) (y : Int) (hr_x : -2147483648 ≤ x ∧ x ≤ 2147483647) (hr_y : -2147483648 ≤ y ∧ y ≤ 2147483647) (hxy : x < 0 ∨ y ≤ x) : vx_Met l yX1_checkNumber (ws_ yX1_checkNumber cX1_checkNumber 2 (Option.none : Option Jvm.ClassFile.FieldType)) ({ frames := 6, cells := 1, slots := 6, locals := 120 } : Room) (kPre D H [.int (kI (x)), .int (kI (y))]) kFl (kXC "java/lang/IndexOutOfBoundsException" (kNW H)) (1) (6) (kNW H) := by
  refine vx_ofW (cc := cX1_checkNumber) (maxL := 2) (ret := (Option.none : Option Jvm.ClassFile.FieldType)) (by decide) rfl ?_
  intro p e s m args below meth c s₁ B hml hxt hv
  obtain ⟨rfl, hH, hK⟩ := hv
  subst hH
  have hx := B.exec
  have hb := B.bytes
  have hr := B.returns
  have hts := atoms_spec (ws := ws_ yX1_checkNumber cX1_checkNumber 2 (Option.none : Option Jvm.ClassFile.FieldType)) B.pre
  have hts : ∀ w ∈ lw_all, w.before _ s = true := fun w h => hts w (List.mem_cons_of_mem _ h)
  have hown : s.vm.findClass RX1 = some m.cls := findClass_of_methodNamed B.named
  have hlk := B.notSynchronized
  have hS : va_S (kNW s.heap) s.heap s.heap [] := va_S.rf
  have hB : ∀ q, (kNW s.heap) q → kBase D ≤ q := fun q h => Nat.le_trans hK.size h
  have hl := lv_entry ([.int (kI (x)), .int (kI (y))]) (n := 2) (Nat.le_of_ble_eq_true rfl)
  rw [lg_entry_eq]
  generalize (lg_sl ([.int (kI (x)), .int (kI (y))]) ++ List.replicate (2 - (lg_sl ([.int (kI (x)), .int (kI (y))])).length) Slot.unset).toArray = ls at hl ⊢
  have hl : lv_has ls 2 [(0, .int (kI (x))), (1, .int (kI (y)))] := hl
  refine lv_iload_n hx hb dX1_checkNumber_0 rfl (lv_at hl 0 rfl) ?_
  refine kx_if_lt (x := x) (tgt := 9) hx hb dX1_checkNumber_1 (by decide) (by omega) (by omega) (fun c_1_1 => ?_) (fun c_1_1 => ?_)
  · -- taken at 1
    exact kx_throw hx hb hl9 hml hl.1 hts hown hK (by decide +kernel) (by decide +kernel) q1823 q93 ex_ix_ps ex_ix_p ex_ix_g ex_ix_o hS hB dX1_checkNumber_9 dX1_checkNumber_12 dX1_checkNumber_13 dX1_checkNumber_16 hxt hlk (by first | exact Nat.le_of_ble_eq_true rfl | omega | (show _ ≤ _; omega) | (dsimp only [headSpec]; omega)) (by first | exact Nat.le_of_ble_eq_true rfl | omega | (show _ ≤ _; omega) | (dsimp only [headSpec]; omega)) (by first | exact Nat.le_of_ble_eq_true rfl | omega | (show _ ≤ _; omega) | (dsimp only [headSpec]; omega)) (by first | exact Nat.le_of_ble_eq_true rfl | omega | (show _ ≤ _; omega) | (dsimp only [headSpec]; omega)) (by first | exact Nat.le_of_ble_eq_true rfl | omega | (show _ ≤ _; omega) | (dsimp only [headSpec]; omega)) (by first | exact Nat.le_of_ble_eq_true rfl | omega | (show _ ≤ _; omega) | (dsimp only [headSpec]; omega))
  · -- not taken at 1
    refine lv_iload_n hx hb dX1_checkNumber_4 rfl (lv_at hl 0 rfl) ?_
    refine lv_iload_n hx hb dX1_checkNumber_5 rfl (lv_at hl 1 rfl) ?_
    refine kx_icmp_lt (x := x) (y := y) (tgt := 17) hx hb dX1_checkNumber_6 (by decide) (by omega) (by omega) (by omega) (by omega) (fun c_6_2 => ?_) (fun c_6_2 => ?_)
    · -- taken at 6
      exfalso; omega
    · -- not taken at 6
      exact kx_throw hx hb hl9 hml hl.1 hts hown hK (by decide +kernel) (by decide +kernel) q1823 q93 ex_ix_ps ex_ix_p ex_ix_g ex_ix_o hS hB dX1_checkNumber_9 dX1_checkNumber_12 dX1_checkNumber_13 dX1_checkNumber_16 hxt hlk (by first | exact Nat.le_of_ble_eq_true rfl | omega | (show _ ≤ _; omega) | (dsimp only [headSpec]; omega)) (by first | exact Nat.le_of_ble_eq_true rfl | omega | (show _ ≤ _; omega) | (dsimp only [headSpec]; omega)) (by first | exact Nat.le_of_ble_eq_true rfl | omega | (show _ ≤ _; omega) | (dsimp only [headSpec]; omega)) (by first | exact Nat.le_of_ble_eq_true rfl | omega | (show _ ≤ _; omega) | (dsimp only [headSpec]; omega)) (by first | exact Nat.le_of_ble_eq_true rfl | omega | (show _ ≤ _; omega) | (dsimp only [headSpec]; omega)) (by first | exact Nat.le_of_ble_eq_true rfl | omega | (show _ ≤ _; omega) | (dsimp only [headSpec]; omega))

set_option maxHeartbeats 4000000 in
set_option maxRecDepth 100000 in
theorem x_checkRange (l : Launch) (hl9 : l.stackTraces = false) (D : kG) (H : Heap) (x : Int) (y : Int) (z : Int) (hr_x : -2147483648 ≤ x ∧ x ≤ 2147483647) (hr_y : -2147483648 ≤ y ∧ y ≤ 2147483647) (hr_z : -2147483648 ≤ z ∧ z ≤ 2147483647) (hxy : x < y ∨ z < x) : vx_Met l yX1_checkRange (ws_ yX1_checkRange cX1_checkRange 3 (Option.none : Option Jvm.ClassFile.FieldType)) ({ frames := 6, cells := 1, slots := 6, locals := 120 } : Room) (kPre D H [.int (kI (x)), .int (kI (y)), .int (kI (z))]) kFl (kXC "java/lang/IllegalArgumentException" (kNW H)) (1) (6) (kNW H) := by
  refine vx_ofW (cc := cX1_checkRange) (maxL := 3) (ret := (Option.none : Option Jvm.ClassFile.FieldType)) (by decide) rfl ?_
  intro p e s m args below meth c s₁ B hml hxt hv
  obtain ⟨rfl, hH, hK⟩ := hv
  subst hH
  have hx := B.exec
  have hb := B.bytes
  have hr := B.returns
  have hts := atoms_spec (ws := ws_ yX1_checkRange cX1_checkRange 3 (Option.none : Option Jvm.ClassFile.FieldType)) B.pre
  have hts : ∀ w ∈ lw_all, w.before _ s = true := fun w h => hts w (List.mem_cons_of_mem _ h)
  have hown : s.vm.findClass RX1 = some m.cls := findClass_of_methodNamed B.named
  have hlk := B.notSynchronized
  have hS : va_S (kNW s.heap) s.heap s.heap [] := va_S.rf
  have hB : ∀ q, (kNW s.heap) q → kBase D ≤ q := fun q h => Nat.le_trans hK.size h
  have hl := lv_entry ([.int (kI (x)), .int (kI (y)), .int (kI (z))]) (n := 3) (Nat.le_of_ble_eq_true rfl)
  rw [lg_entry_eq]
  generalize (lg_sl ([.int (kI (x)), .int (kI (y)), .int (kI (z))]) ++ List.replicate (3 - (lg_sl ([.int (kI (x)), .int (kI (y)), .int (kI (z))])).length) Slot.unset).toArray = ls at hl ⊢
  have hl : lv_has ls 3 [(0, .int (kI (x))), (1, .int (kI (y))), (2, .int (kI (z)))] := hl
  refine lv_iload_n hx hb dX1_checkRange_0 rfl (lv_at hl 0 rfl) ?_
  refine lv_iload_n hx hb dX1_checkRange_1 rfl (lv_at hl 1 rfl) ?_
  refine kx_icmp_lt (x := x) (y := y) (tgt := 10) hx hb dX1_checkRange_2 (by decide) (by omega) (by omega) (by omega) (by omega) (fun c_2_1 => ?_) (fun c_2_1 => ?_)
  · -- taken at 2
    exact kx_throw hx hb hl9 hml hl.1 hts hown hK (by decide +kernel) (by decide +kernel) q1841 q95 ex_ia_ps ex_ia_p ex_ia_g ex_ia_o hS hB dX1_checkRange_10 dX1_checkRange_13 dX1_checkRange_14 dX1_checkRange_17 hxt hlk (by first | exact Nat.le_of_ble_eq_true rfl | omega | (show _ ≤ _; omega) | (dsimp only [headSpec]; omega)) (by first | exact Nat.le_of_ble_eq_true rfl | omega | (show _ ≤ _; omega) | (dsimp only [headSpec]; omega)) (by first | exact Nat.le_of_ble_eq_true rfl | omega | (show _ ≤ _; omega) | (dsimp only [headSpec]; omega)) (by first | exact Nat.le_of_ble_eq_true rfl | omega | (show _ ≤ _; omega) | (dsimp only [headSpec]; omega)) (by first | exact Nat.le_of_ble_eq_true rfl | omega | (show _ ≤ _; omega) | (dsimp only [headSpec]; omega)) (by first | exact Nat.le_of_ble_eq_true rfl | omega | (show _ ≤ _; omega) | (dsimp only [headSpec]; omega))
  · -- not taken at 2
    refine lv_iload_n hx hb dX1_checkRange_5 rfl (lv_at hl 0 rfl) ?_
    refine lv_iload_n hx hb dX1_checkRange_6 rfl (lv_at hl 2 rfl) ?_
    refine kx_icmp_le (x := x) (y := z) (tgt := 18) hx hb dX1_checkRange_7 (by decide) (by omega) (by omega) (by omega) (by omega) (fun c_7_2 => ?_) (fun c_7_2 => ?_)
    · -- taken at 7
      exfalso; omega
    · -- not taken at 7
      exact kx_throw hx hb hl9 hml hl.1 hts hown hK (by decide +kernel) (by decide +kernel) q1841 q95 ex_ia_ps ex_ia_p ex_ia_g ex_ia_o hS hB dX1_checkRange_10 dX1_checkRange_13 dX1_checkRange_14 dX1_checkRange_17 hxt hlk (by first | exact Nat.le_of_ble_eq_true rfl | omega | (show _ ≤ _; omega) | (dsimp only [headSpec]; omega)) (by first | exact Nat.le_of_ble_eq_true rfl | omega | (show _ ≤ _; omega) | (dsimp only [headSpec]; omega)) (by first | exact Nat.le_of_ble_eq_true rfl | omega | (show _ ≤ _; omega) | (dsimp only [headSpec]; omega)) (by first | exact Nat.le_of_ble_eq_true rfl | omega | (show _ ≤ _; omega) | (dsimp only [headSpec]; omega)) (by first | exact Nat.le_of_ble_eq_true rfl | omega | (show _ ≤ _; omega) | (dsimp only [headSpec]; omega)) (by first | exact Nat.le_of_ble_eq_true rfl | omega | (show _ ≤ _; omega) | (dsimp only [headSpec]; omega))

set_option maxHeartbeats 4000000 in
set_option maxRecDepth 100000 in
theorem x_checkState (l : Launch) (hl9 : l.stackTraces = false) (D : kG) (H : Heap)  : vx_Met l yX1_checkState (ws_ yX1_checkState cX1_checkState 1 (Option.none : Option Jvm.ClassFile.FieldType)) ({ frames := 6, cells := 1, slots := 6, locals := 120 } : Room) (kPre D H [.int (kI (kb (false)))]) kFl (kXC "java/lang/IllegalStateException" (kNW H)) (1) (6) (kNW H) := by
  refine vx_ofW (cc := cX1_checkState) (maxL := 1) (ret := (Option.none : Option Jvm.ClassFile.FieldType)) (by decide) rfl ?_
  intro p e s m args below meth c s₁ B hml hxt hv
  obtain ⟨rfl, hH, hK⟩ := hv
  subst hH
  have hx := B.exec
  have hb := B.bytes
  have hr := B.returns
  have hts := atoms_spec (ws := ws_ yX1_checkState cX1_checkState 1 (Option.none : Option Jvm.ClassFile.FieldType)) B.pre
  have hts : ∀ w ∈ lw_all, w.before _ s = true := fun w h => hts w (List.mem_cons_of_mem _ h)
  have hown : s.vm.findClass RX1 = some m.cls := findClass_of_methodNamed B.named
  have hlk := B.notSynchronized
  have hS : va_S (kNW s.heap) s.heap s.heap [] := va_S.rf
  have hB : ∀ q, (kNW s.heap) q → kBase D ≤ q := fun q h => Nat.le_trans hK.size h
  have hl := lv_entry ([.int (kI (kb (false)))]) (n := 1) (Nat.le_of_ble_eq_true rfl)
  rw [lg_entry_eq]
  generalize (lg_sl ([.int (kI (kb (false)))]) ++ List.replicate (1 - (lg_sl ([.int (kI (kb (false)))])).length) Slot.unset).toArray = ls at hl ⊢
  have hl : lv_has ls 1 [(0, .int (kI (kb (false))))] := hl
  refine lv_iload_n hx hb dX1_checkState_0 rfl (lv_at hl 0 rfl) ?_
  refine kx_ifnz (tgt := 12) hx hb dX1_checkState_1 (by decide) (fun c_1_1 => ?_) (fun c_1_1 => ?_)
  · -- taken at 1
    exact absurd c_1_1 (by decide)
  · -- not taken at 1
    exact kx_throw hx hb hl9 hml hl.1 hts hown hK (by decide +kernel) (by decide +kernel) q1847 q98 ex_is_ps ex_is_p ex_is_g ex_is_o hS hB dX1_checkState_4 dX1_checkState_7 dX1_checkState_8 dX1_checkState_11 hxt hlk (by first | exact Nat.le_of_ble_eq_true rfl | omega | (show _ ≤ _; omega) | (dsimp only [headSpec]; omega)) (by first | exact Nat.le_of_ble_eq_true rfl | omega | (show _ ≤ _; omega) | (dsimp only [headSpec]; omega)) (by first | exact Nat.le_of_ble_eq_true rfl | omega | (show _ ≤ _; omega) | (dsimp only [headSpec]; omega)) (by first | exact Nat.le_of_ble_eq_true rfl | omega | (show _ ≤ _; omega) | (dsimp only [headSpec]; omega)) (by first | exact Nat.le_of_ble_eq_true rfl | omega | (show _ ≤ _; omega) | (dsimp only [headSpec]; omega)) (by first | exact Nat.le_of_ble_eq_true rfl | omega | (show _ ≤ _; omega) | (dsimp only [headSpec]; omega))

set_option maxHeartbeats 4000000 in
set_option maxRecDepth 100000 in
theorem x_checkPoint (l : Launch) (hl9 : l.stackTraces = false) (D : kG) (H : Heap) (x : Int) (hr_x : -2147483648 ≤ x ∧ x ≤ 2147483647) (hpt : x < 0 ∨ 384 ≤ x) : vx_Met l yX1_checkPoint (ws_ yX1_checkPoint cX1_checkPoint 1 (Option.none : Option Jvm.ClassFile.FieldType)) ({ frames := 7, cells := 1, slots := 6, locals := 141 } : Room) (kPre D H [.int (kI (x))]) kFl (kXC "java/lang/IndexOutOfBoundsException" (kNW H)) (1) (6) (kNW H) := by
  refine vx_ofW (cc := cX1_checkPoint) (maxL := 1) (ret := (Option.none : Option Jvm.ClassFile.FieldType)) (by decide) rfl ?_
  intro p e s m args below meth c s₁ B hml hxt hv
  obtain ⟨rfl, hH, hK⟩ := hv
  subst hH
  have hx := B.exec
  have hb := B.bytes
  have hr := B.returns
  have hts := atoms_spec (ws := ws_ yX1_checkPoint cX1_checkPoint 1 (Option.none : Option Jvm.ClassFile.FieldType)) B.pre
  have hts : ∀ w ∈ lw_all, w.before _ s = true := fun w h => hts w (List.mem_cons_of_mem _ h)
  have hown : s.vm.findClass RX1 = some m.cls := findClass_of_methodNamed B.named
  have hlk := B.notSynchronized
  have hS : va_S (kNW s.heap) s.heap s.heap [] := va_S.rf
  have hB : ∀ q, (kNW s.heap) q → kBase D ≤ q := fun q h => Nat.le_trans hK.size h
  have hl := lv_entry ([.int (kI (x))]) (n := 1) (Nat.le_of_ble_eq_true rfl)
  rw [lg_entry_eq]
  generalize (lg_sl ([.int (kI (x))]) ++ List.replicate (1 - (lg_sl ([.int (kI (x))])).length) Slot.unset).toArray = ls at hl ⊢
  have hl : lv_has ls 1 [(0, .int (kI (x)))] := hl
  refine lv_iload_n hx hb dX1_checkPoint_0 rfl (lv_at hl 0 rfl) ?_
  refine kx_sipush hx hb (by decide) dX1_checkPoint_1 ?_
  exact kx_thr (vx_runS (As := [.int (kI (x)), .int (kI (384))]) (rest := []) ⟨hx, hb, hml, hown, hts⟩ (x_checkNumber l hl9 D s.heap x 384  (by first | assumption | omega) (by first | assumption | omega) (by first | assumption | omega)) (va_cwS 2 hts (lw_S q1820 q1821 q79 q1822) rfl rfl rfl (by decide +kernel) ⟨Nat.le_of_ble_eq_true rfl, Nat.le_of_ble_eq_true rfl⟩) (kx_ps hK hS hB) rfl rfl hl.1 rfl (lv_room (Nat.le_of_ble_eq_true rfl)) dX1_checkPoint_4 ⟨by first | exact Nat.le_of_ble_eq_true rfl | omega | (show _ ≤ _; omega) | (dsimp only [headSpec]; omega), by first | exact Nat.le_of_ble_eq_true rfl | omega | (show _ ≤ _; omega) | (dsimp only [headSpec]; omega)⟩) hS (fun q _ h => by have h9 := hS.1; (try dsimp only at h); (try dsimp only); (try simp only [kNW] at h); (try simp only [kNW]); omega) (fun q h => by have h9 := hS.1; (try dsimp only at h); (try dsimp only); (try simp only [kNW] at h); (try simp only [kNW]); omega) hxt hlk (by first | exact Nat.le_of_ble_eq_true rfl | omega | (show _ ≤ _; omega) | (dsimp only [headSpec]; omega)) (by first | exact Nat.le_of_ble_eq_true rfl | omega | (show _ ≤ _; omega) | (dsimp only [headSpec]; omega))

set_option maxHeartbeats 4000000 in
set_option maxRecDepth 100000 in
theorem x_line (l : Launch) (hl9 : l.stackTraces = false) (D : kG) (H : Heap) (x1 : Nat) (snp : Option Nat) (hi : Nat) (bu : Nat) (st : Nat) (la : Nat) (mc : Int) (ea : Nat) (F : Fts) (S : Ls) (gap : Int) (li : Int) (hO_x1 : kO D H x1 0 [.ref st, va_rf (snp), .ref hi, .ref bu]) (hO_st : kO D H st 1 [.ref la, .int (kI (gap))]) (hO_la : kO D H la 9 [.int (kI (mc)), .ref ea, .int (kI ((S.length : Nat) : Int))]) (hP_kLs_ea : kLs D H ea S.length F) (hP_kLn_F : kLn D H F S) (hok : LsOK S gap) (hr_li : -2147483648 ≤ li ∧ li ≤ 2147483647) (hnl : li < 0 ∨ (S.length : Int) ≤ li) : vx_Met l yX1_line (ws_ yX1_line cX1_line 2 (Option.some (Jvm.ClassFile.FieldType.object "ContourLabels$Line"))) ({ frames := 7, cells := 1, slots := 6, locals := 141 } : Room) (kPre D H [.ref x1, .int (kI (li))]) kFl (kXC "java/lang/IndexOutOfBoundsException" (kNW H)) (1) (6) (kNW H) := by
  refine vx_ofW (cc := cX1_line) (maxL := 2) (ret := (Option.some (Jvm.ClassFile.FieldType.object "ContourLabels$Line"))) (by decide) rfl ?_
  intro p e s m args below meth c s₁ B hml hxt hv
  obtain ⟨rfl, hH, hK⟩ := hv
  subst hH
  have hx := B.exec
  have hb := B.bytes
  have hr := B.returns
  have hts := atoms_spec (ws := ws_ yX1_line cX1_line 2 (Option.some (Jvm.ClassFile.FieldType.object "ContourLabels$Line"))) B.pre
  have hts : ∀ w ∈ lw_all, w.before _ s = true := fun w h => hts w (List.mem_cons_of_mem _ h)
  have hown : s.vm.findClass RX1 = some m.cls := findClass_of_methodNamed B.named
  have hlk := B.notSynchronized
  have hS : va_S (kNW s.heap) s.heap s.heap [] := va_S.rf
  have hB : ∀ q, (kNW s.heap) q → kBase D ≤ q := fun q h => Nat.le_trans hK.size h
  have hl := lv_entry ([.ref x1, .int (kI (li))]) (n := 2) (Nat.le_of_ble_eq_true rfl)
  rw [lg_entry_eq]
  generalize (lg_sl ([.ref x1, .int (kI (li))]) ++ List.replicate (2 - (lg_sl ([.ref x1, .int (kI (li))])).length) Slot.unset).toArray = ls at hl ⊢
  have hl : lv_has ls 2 [(0, .ref x1), (1, .int (kI (li)))] := hl
  have hL8 := hok.1
  refine lv_iload_n hx hb dX1_line_0 rfl (lv_at hl 1 rfl) ?_
  refine lv_aload_n hx hb dX1_line_1 rfl (lv_at hl 0 rfl) ?_
  refine kx_get (v := .ref st) (C := RX1) (T := TX1) (N := 4) hx hb hts in_X1 hown hK hO_x1 rfl 0 (by decide) q229 (fun _ h9 => h9) rfl dX1_line_2 ?_
  refine kx_get (v := .ref la) (C := RX2) (T := TX2) (N := 2) hx hb hts in_X2 hown hK hO_st rfl 0 (by decide) q168 (fun _ h9 => h9) rfl dX1_line_5 ?_
  refine kx_cFi0 (va_runF (C := RJ2) (As := []) (rest := [.int (kI (li))]) (hK.at (ci := 9) rfl) ⟨hx, hb, hml, hown, hts⟩ (m_J2_size l D s.heap la mc ea S.length hO_la ) (va_cwF (x := ({ cls := "java/util/List", name := "size", desc := "()I" } : Jvm.MethodName)) 0 hts (lw_F q1267 q283 q285 q83 q287) rfl rfl rfl (hK.fw (by decide)) (by decide +kernel) ⟨Nat.le_of_ble_eq_true rfl, Nat.le_of_ble_eq_true rfl⟩) (kx_pv hK hS hB (kx_rc hK hO_la (C := RJ2) (T := TJ2) (N := 3) rfl)) rfl rfl hl.1 rfl (lv_room (Nat.le_of_ble_eq_true rfl)) dX1_line_8 ⟨by first | exact Nat.le_of_ble_eq_true rfl | omega | (show _ ≤ _; omega) | (dsimp only [headSpec]; omega), by first | exact Nat.le_of_ble_eq_true rfl | omega | (show _ ≤ _; omega) | (dsimp only [headSpec]; omega)⟩) hS (fun z_4 locs_1 hz_3 hS_2 => ?_)
  subst z_4
  exact kx_thr (vx_runS (As := [.int (kI (li)), .int (kI ((S.length : Nat) : Int))]) (rest := []) ⟨hx, hb, hml, hown, hts⟩ (x_checkNumber l hl9 D s.heap li (((S.length : Nat) : Int))  (by first | assumption | omega) (by first | assumption | omega) (by first | assumption | omega)) (va_cwS 2 hts (lw_S q1820 q1821 q79 q1822) rfl rfl rfl (by decide +kernel) ⟨Nat.le_of_ble_eq_true rfl, Nat.le_of_ble_eq_true rfl⟩) (kx_ps hK hS_2 hB) rfl rfl hl.1 rfl (lv_room (Nat.le_of_ble_eq_true rfl)) dX1_line_13 ⟨by first | exact Nat.le_of_ble_eq_true rfl | omega | (show _ ≤ _; omega) | (dsimp only [headSpec]; omega), by first | exact Nat.le_of_ble_eq_true rfl | omega | (show _ ≤ _; omega) | (dsimp only [headSpec]; omega)⟩) hS_2 (fun q _ h => by have h9 := hS_2.1; (try dsimp only at h); (try dsimp only); (try simp only [kNW] at h); (try simp only [kNW]); omega) (fun q h => by have h9 := hS_2.1; (try dsimp only at h); (try dsimp only); (try simp only [kNW] at h); (try simp only [kNW]); omega) hxt hlk (by first | exact Nat.le_of_ble_eq_true rfl | omega | (show _ ≤ _; omega) | (dsimp only [headSpec]; omega)) (by first | exact Nat.le_of_ble_eq_true rfl | omega | (show _ ≤ _; omega) | (dsimp only [headSpec]; omega))

set_option maxHeartbeats 4000000 in
set_option maxRecDepth 100000 in
theorem x_levelOf (l : Launch) (hl9 : l.stackTraces = false) (D : kG) (H : Heap) (x1 : Nat) (snp : Option Nat) (hi : Nat) (bu : Nat) (st : Nat) (la : Nat) (mc : Int) (ea : Nat) (F : Fts) (S : Ls) (gap : Int) (li : Int) (hO_x1 : kO D H x1 0 [.ref st, va_rf (snp), .ref hi, .ref bu]) (hO_st : kO D H st 1 [.ref la, .int (kI (gap))]) (hO_la : kO D H la 9 [.int (kI (mc)), .ref ea, .int (kI ((S.length : Nat) : Int))]) (hP_kLs_ea : kLs D H ea S.length F) (hP_kLn_F : kLn D H F S) (hok : LsOK S gap) (hr_li : -2147483648 ≤ li ∧ li ≤ 2147483647) (hnl : li < 0 ∨ (S.length : Int) ≤ li) : vx_Met l yX1_levelOf (ws_ yX1_levelOf cX1_levelOf 2 (Option.some Jvm.ClassFile.FieldType.int)) ({ frames := 8, cells := 1, slots := 6, locals := 162 } : Room) (kPre D H [.ref x1, .int (kI (li))]) kFl (kXC "java/lang/IndexOutOfBoundsException" (kNW H)) (1) (6) (kNW H) := by
  refine vx_ofW (cc := cX1_levelOf) (maxL := 2) (ret := (Option.some Jvm.ClassFile.FieldType.int)) (by decide) rfl ?_
  intro p e s m args below meth c s₁ B hml hxt hv
  obtain ⟨rfl, hH, hK⟩ := hv
  subst hH
  have hx := B.exec
  have hb := B.bytes
  have hr := B.returns
  have hts := atoms_spec (ws := ws_ yX1_levelOf cX1_levelOf 2 (Option.some Jvm.ClassFile.FieldType.int)) B.pre
  have hts : ∀ w ∈ lw_all, w.before _ s = true := fun w h => hts w (List.mem_cons_of_mem _ h)
  have hown : s.vm.findClass RX1 = some m.cls := findClass_of_methodNamed B.named
  have hlk := B.notSynchronized
  have hS : va_S (kNW s.heap) s.heap s.heap [] := va_S.rf
  have hB : ∀ q, (kNW s.heap) q → kBase D ≤ q := fun q h => Nat.le_trans hK.size h
  have hl := lv_entry ([.ref x1, .int (kI (li))]) (n := 2) (Nat.le_of_ble_eq_true rfl)
  rw [lg_entry_eq]
  generalize (lg_sl ([.ref x1, .int (kI (li))]) ++ List.replicate (2 - (lg_sl ([.ref x1, .int (kI (li))])).length) Slot.unset).toArray = ls at hl ⊢
  have hl : lv_has ls 2 [(0, .ref x1), (1, .int (kI (li)))] := hl
  have hL8 := hok.1
  refine lv_aload_n hx hb dX1_levelOf_0 rfl (lv_at hl 0 rfl) ?_
  refine lv_iload_n hx hb dX1_levelOf_1 rfl (lv_at hl 1 rfl) ?_
  exact kx_thr (vx_runV (As := [.int (kI (li))]) (rest := []) ⟨hx, hb, hml, hown, hts⟩ (x_line l hl9 D s.heap x1 snp hi bu st la mc ea F S gap li hO_x1 hO_st hO_la hP_kLs_ea hP_kLn_F (by first | assumption | omega) (by first | assumption | omega) (by first | assumption | omega)) (cwV 1 hts (lw_V q1864 q1866 qs35 q79 q1867) rfl rfl rfl (by decide +kernel) ⟨Nat.le_of_ble_eq_true rfl, Nat.le_of_ble_eq_true rfl⟩) (kx_pv hK hS hB (kx_rc hK hO_x1 (C := RX1) (T := TX1) (N := 4) rfl)) rfl rfl hl.1 rfl (lv_room (Nat.le_of_ble_eq_true rfl)) dX1_levelOf_2 ⟨by first | exact Nat.le_of_ble_eq_true rfl | omega | (show _ ≤ _; omega) | (dsimp only [headSpec]; omega), by first | exact Nat.le_of_ble_eq_true rfl | omega | (show _ ≤ _; omega) | (dsimp only [headSpec]; omega)⟩) hS (fun q _ h => by have h9 := hS.1; (try dsimp only at h); (try dsimp only); (try simp only [kNW] at h); (try simp only [kNW]); omega) (fun q h => by have h9 := hS.1; (try dsimp only at h); (try dsimp only); (try simp only [kNW] at h); (try simp only [kNW]); omega) hxt hlk (by first | exact Nat.le_of_ble_eq_true rfl | omega | (show _ ≤ _; omega) | (dsimp only [headSpec]; omega)) (by first | exact Nat.le_of_ble_eq_true rfl | omega | (show _ ≤ _; omega) | (dsimp only [headSpec]; omega))

set_option maxHeartbeats 4000000 in
set_option maxRecDepth 100000 in
theorem x_stepsOf (l : Launch) (hl9 : l.stackTraces = false) (D : kG) (H : Heap) (x1 : Nat) (snp : Option Nat) (hi : Nat) (bu : Nat) (st : Nat) (la : Nat) (mc : Int) (ea : Nat) (F : Fts) (S : Ls) (gap : Int) (li : Int) (hO_x1 : kO D H x1 0 [.ref st, va_rf (snp), .ref hi, .ref bu]) (hO_st : kO D H st 1 [.ref la, .int (kI (gap))]) (hO_la : kO D H la 9 [.int (kI (mc)), .ref ea, .int (kI ((S.length : Nat) : Int))]) (hP_kLs_ea : kLs D H ea S.length F) (hP_kLn_F : kLn D H F S) (hok : LsOK S gap) (hr_li : -2147483648 ≤ li ∧ li ≤ 2147483647) (hnl : li < 0 ∨ (S.length : Int) ≤ li) : vx_Met l yX1_stepsOf (ws_ yX1_stepsOf cX1_stepsOf 2 (Option.some Jvm.ClassFile.FieldType.int)) ({ frames := 8, cells := 1, slots := 6, locals := 162 } : Room) (kPre D H [.ref x1, .int (kI (li))]) kFl (kXC "java/lang/IndexOutOfBoundsException" (kNW H)) (1) (6) (kNW H) := by
  refine vx_ofW (cc := cX1_stepsOf) (maxL := 2) (ret := (Option.some Jvm.ClassFile.FieldType.int)) (by decide) rfl ?_
  intro p e s m args below meth c s₁ B hml hxt hv
  obtain ⟨rfl, hH, hK⟩ := hv
  subst hH
  have hx := B.exec
  have hb := B.bytes
  have hr := B.returns
  have hts := atoms_spec (ws := ws_ yX1_stepsOf cX1_stepsOf 2 (Option.some Jvm.ClassFile.FieldType.int)) B.pre
  have hts : ∀ w ∈ lw_all, w.before _ s = true := fun w h => hts w (List.mem_cons_of_mem _ h)
  have hown : s.vm.findClass RX1 = some m.cls := findClass_of_methodNamed B.named
  have hlk := B.notSynchronized
  have hS : va_S (kNW s.heap) s.heap s.heap [] := va_S.rf
  have hB : ∀ q, (kNW s.heap) q → kBase D ≤ q := fun q h => Nat.le_trans hK.size h
  have hl := lv_entry ([.ref x1, .int (kI (li))]) (n := 2) (Nat.le_of_ble_eq_true rfl)
  rw [lg_entry_eq]
  generalize (lg_sl ([.ref x1, .int (kI (li))]) ++ List.replicate (2 - (lg_sl ([.ref x1, .int (kI (li))])).length) Slot.unset).toArray = ls at hl ⊢
  have hl : lv_has ls 2 [(0, .ref x1), (1, .int (kI (li)))] := hl
  have hL8 := hok.1
  refine lv_aload_n hx hb dX1_stepsOf_0 rfl (lv_at hl 0 rfl) ?_
  refine lv_iload_n hx hb dX1_stepsOf_1 rfl (lv_at hl 1 rfl) ?_
  exact kx_thr (vx_runV (As := [.int (kI (li))]) (rest := []) ⟨hx, hb, hml, hown, hts⟩ (x_line l hl9 D s.heap x1 snp hi bu st la mc ea F S gap li hO_x1 hO_st hO_la hP_kLs_ea hP_kLn_F (by first | assumption | omega) (by first | assumption | omega) (by first | assumption | omega)) (cwV 1 hts (lw_V q1864 q1866 qs35 q79 q1867) rfl rfl rfl (by decide +kernel) ⟨Nat.le_of_ble_eq_true rfl, Nat.le_of_ble_eq_true rfl⟩) (kx_pv hK hS hB (kx_rc hK hO_x1 (C := RX1) (T := TX1) (N := 4) rfl)) rfl rfl hl.1 rfl (lv_room (Nat.le_of_ble_eq_true rfl)) dX1_stepsOf_2 ⟨by first | exact Nat.le_of_ble_eq_true rfl | omega | (show _ ≤ _; omega) | (dsimp only [headSpec]; omega), by first | exact Nat.le_of_ble_eq_true rfl | omega | (show _ ≤ _; omega) | (dsimp only [headSpec]; omega)⟩) hS (fun q _ h => by have h9 := hS.1; (try dsimp only at h); (try dsimp only); (try simp only [kNW] at h); (try simp only [kNW]); omega) (fun q h => by have h9 := hS.1; (try dsimp only at h); (try dsimp only); (try simp only [kNW] at h); (try simp only [kNW]); omega) hxt hlk (by first | exact Nat.le_of_ble_eq_true rfl | omega | (show _ ≤ _; omega) | (dsimp only [headSpec]; omega)) (by first | exact Nat.le_of_ble_eq_true rfl | omega | (show _ ≤ _; omega) | (dsimp only [headSpec]; omega))

set_option maxHeartbeats 4000000 in
set_option maxRecDepth 100000 in
theorem x_labelOf (l : Launch) (hl9 : l.stackTraces = false) (D : kG) (H : Heap) (x1 : Nat) (snp : Option Nat) (hi : Nat) (bu : Nat) (st : Nat) (la : Nat) (mc : Int) (ea : Nat) (F : Fts) (S : Ls) (gap : Int) (li : Int) (hO_x1 : kO D H x1 0 [.ref st, va_rf (snp), .ref hi, .ref bu]) (hO_st : kO D H st 1 [.ref la, .int (kI (gap))]) (hO_la : kO D H la 9 [.int (kI (mc)), .ref ea, .int (kI ((S.length : Nat) : Int))]) (hP_kLs_ea : kLs D H ea S.length F) (hP_kLn_F : kLn D H F S) (hok : LsOK S gap) (hr_li : -2147483648 ≤ li ∧ li ≤ 2147483647) (hnl : li < 0 ∨ (S.length : Int) ≤ li) : vx_Met l yX1_labelOf (ws_ yX1_labelOf cX1_labelOf 2 (Option.some Jvm.ClassFile.FieldType.int)) ({ frames := 8, cells := 1, slots := 6, locals := 162 } : Room) (kPre D H [.ref x1, .int (kI (li))]) kFl (kXC "java/lang/IndexOutOfBoundsException" (kNW H)) (1) (6) (kNW H) := by
  refine vx_ofW (cc := cX1_labelOf) (maxL := 2) (ret := (Option.some Jvm.ClassFile.FieldType.int)) (by decide) rfl ?_
  intro p e s m args below meth c s₁ B hml hxt hv
  obtain ⟨rfl, hH, hK⟩ := hv
  subst hH
  have hx := B.exec
  have hb := B.bytes
  have hr := B.returns
  have hts := atoms_spec (ws := ws_ yX1_labelOf cX1_labelOf 2 (Option.some Jvm.ClassFile.FieldType.int)) B.pre
  have hts : ∀ w ∈ lw_all, w.before _ s = true := fun w h => hts w (List.mem_cons_of_mem _ h)
  have hown : s.vm.findClass RX1 = some m.cls := findClass_of_methodNamed B.named
  have hlk := B.notSynchronized
  have hS : va_S (kNW s.heap) s.heap s.heap [] := va_S.rf
  have hB : ∀ q, (kNW s.heap) q → kBase D ≤ q := fun q h => Nat.le_trans hK.size h
  have hl := lv_entry ([.ref x1, .int (kI (li))]) (n := 2) (Nat.le_of_ble_eq_true rfl)
  rw [lg_entry_eq]
  generalize (lg_sl ([.ref x1, .int (kI (li))]) ++ List.replicate (2 - (lg_sl ([.ref x1, .int (kI (li))])).length) Slot.unset).toArray = ls at hl ⊢
  have hl : lv_has ls 2 [(0, .ref x1), (1, .int (kI (li)))] := hl
  have hL8 := hok.1
  refine lv_aload_n hx hb dX1_labelOf_0 rfl (lv_at hl 0 rfl) ?_
  refine lv_iload_n hx hb dX1_labelOf_1 rfl (lv_at hl 1 rfl) ?_
  exact kx_thr (vx_runV (As := [.int (kI (li))]) (rest := []) ⟨hx, hb, hml, hown, hts⟩ (x_line l hl9 D s.heap x1 snp hi bu st la mc ea F S gap li hO_x1 hO_st hO_la hP_kLs_ea hP_kLn_F (by first | assumption | omega) (by first | assumption | omega) (by first | assumption | omega)) (cwV 1 hts (lw_V q1864 q1866 qs35 q79 q1867) rfl rfl rfl (by decide +kernel) ⟨Nat.le_of_ble_eq_true rfl, Nat.le_of_ble_eq_true rfl⟩) (kx_pv hK hS hB (kx_rc hK hO_x1 (C := RX1) (T := TX1) (N := 4) rfl)) rfl rfl hl.1 rfl (lv_room (Nat.le_of_ble_eq_true rfl)) dX1_labelOf_2 ⟨by first | exact Nat.le_of_ble_eq_true rfl | omega | (show _ ≤ _; omega) | (dsimp only [headSpec]; omega), by first | exact Nat.le_of_ble_eq_true rfl | omega | (show _ ≤ _; omega) | (dsimp only [headSpec]; omega)⟩) hS (fun q _ h => by have h9 := hS.1; (try dsimp only at h); (try dsimp only); (try simp only [kNW] at h); (try simp only [kNW]); omega) (fun q h => by have h9 := hS.1; (try dsimp only at h); (try dsimp only); (try simp only [kNW] at h); (try simp only [kNW]); omega) hxt hlk (by first | exact Nat.le_of_ble_eq_true rfl | omega | (show _ ≤ _; omega) | (dsimp only [headSpec]; omega)) (by first | exact Nat.le_of_ble_eq_true rfl | omega | (show _ ≤ _; omega) | (dsimp only [headSpec]; omega))

set_option maxHeartbeats 4000000 in
set_option maxRecDepth 100000 in
theorem x_isClosed (l : Launch) (hl9 : l.stackTraces = false) (D : kG) (H : Heap) (x1 : Nat) (snp : Option Nat) (hi : Nat) (bu : Nat) (st : Nat) (la : Nat) (mc : Int) (ea : Nat) (F : Fts) (S : Ls) (gap : Int) (li : Int) (hO_x1 : kO D H x1 0 [.ref st, va_rf (snp), .ref hi, .ref bu]) (hO_st : kO D H st 1 [.ref la, .int (kI (gap))]) (hO_la : kO D H la 9 [.int (kI (mc)), .ref ea, .int (kI ((S.length : Nat) : Int))]) (hP_kLs_ea : kLs D H ea S.length F) (hP_kLn_F : kLn D H F S) (hok : LsOK S gap) (hr_li : -2147483648 ≤ li ∧ li ≤ 2147483647) (hnl : li < 0 ∨ (S.length : Int) ≤ li) : vx_Met l yX1_isClosed (ws_ yX1_isClosed cX1_isClosed 2 (Option.some Jvm.ClassFile.FieldType.boolean)) ({ frames := 8, cells := 1, slots := 6, locals := 162 } : Room) (kPre D H [.ref x1, .int (kI (li))]) kFl (kXC "java/lang/IndexOutOfBoundsException" (kNW H)) (1) (6) (kNW H) := by
  refine vx_ofW (cc := cX1_isClosed) (maxL := 2) (ret := (Option.some Jvm.ClassFile.FieldType.boolean)) (by decide) rfl ?_
  intro p e s m args below meth c s₁ B hml hxt hv
  obtain ⟨rfl, hH, hK⟩ := hv
  subst hH
  have hx := B.exec
  have hb := B.bytes
  have hr := B.returns
  have hts := atoms_spec (ws := ws_ yX1_isClosed cX1_isClosed 2 (Option.some Jvm.ClassFile.FieldType.boolean)) B.pre
  have hts : ∀ w ∈ lw_all, w.before _ s = true := fun w h => hts w (List.mem_cons_of_mem _ h)
  have hown : s.vm.findClass RX1 = some m.cls := findClass_of_methodNamed B.named
  have hlk := B.notSynchronized
  have hS : va_S (kNW s.heap) s.heap s.heap [] := va_S.rf
  have hB : ∀ q, (kNW s.heap) q → kBase D ≤ q := fun q h => Nat.le_trans hK.size h
  have hl := lv_entry ([.ref x1, .int (kI (li))]) (n := 2) (Nat.le_of_ble_eq_true rfl)
  rw [lg_entry_eq]
  generalize (lg_sl ([.ref x1, .int (kI (li))]) ++ List.replicate (2 - (lg_sl ([.ref x1, .int (kI (li))])).length) Slot.unset).toArray = ls at hl ⊢
  have hl : lv_has ls 2 [(0, .ref x1), (1, .int (kI (li)))] := hl
  have hL8 := hok.1
  refine lv_aload_n hx hb dX1_isClosed_0 rfl (lv_at hl 0 rfl) ?_
  refine lv_iload_n hx hb dX1_isClosed_1 rfl (lv_at hl 1 rfl) ?_
  exact kx_thr (vx_runV (As := [.int (kI (li))]) (rest := []) ⟨hx, hb, hml, hown, hts⟩ (x_line l hl9 D s.heap x1 snp hi bu st la mc ea F S gap li hO_x1 hO_st hO_la hP_kLs_ea hP_kLn_F (by first | assumption | omega) (by first | assumption | omega) (by first | assumption | omega)) (cwV 1 hts (lw_V q1864 q1866 qs35 q79 q1867) rfl rfl rfl (by decide +kernel) ⟨Nat.le_of_ble_eq_true rfl, Nat.le_of_ble_eq_true rfl⟩) (kx_pv hK hS hB (kx_rc hK hO_x1 (C := RX1) (T := TX1) (N := 4) rfl)) rfl rfl hl.1 rfl (lv_room (Nat.le_of_ble_eq_true rfl)) dX1_isClosed_2 ⟨by first | exact Nat.le_of_ble_eq_true rfl | omega | (show _ ≤ _; omega) | (dsimp only [headSpec]; omega), by first | exact Nat.le_of_ble_eq_true rfl | omega | (show _ ≤ _; omega) | (dsimp only [headSpec]; omega)⟩) hS (fun q _ h => by have h9 := hS.1; (try dsimp only at h); (try dsimp only); (try simp only [kNW] at h); (try simp only [kNW]); omega) (fun q h => by have h9 := hS.1; (try dsimp only at h); (try dsimp only); (try simp only [kNW] at h); (try simp only [kNW]); omega) hxt hlk (by first | exact Nat.le_of_ble_eq_true rfl | omega | (show _ ≤ _; omega) | (dsimp only [headSpec]; omega)) (by first | exact Nat.le_of_ble_eq_true rfl | omega | (show _ ≤ _; omega) | (dsimp only [headSpec]; omega))

set_option maxHeartbeats 4000000 in
set_option maxRecDepth 100000 in
theorem x_lengthByKinds (l : Launch) (hl9 : l.stackTraces = false) (D : kG) (H : Heap) (x1 : Nat) (snp : Option Nat) (hi : Nat) (bu : Nat) (st : Nat) (la : Nat) (mc : Int) (ea : Nat) (F : Fts) (S : Ls) (gap : Int) (li : Int) (hO_x1 : kO D H x1 0 [.ref st, va_rf (snp), .ref hi, .ref bu]) (hO_st : kO D H st 1 [.ref la, .int (kI (gap))]) (hO_la : kO D H la 9 [.int (kI (mc)), .ref ea, .int (kI ((S.length : Nat) : Int))]) (hP_kLs_ea : kLs D H ea S.length F) (hP_kLn_F : kLn D H F S) (hok : LsOK S gap) (hr_li : -2147483648 ≤ li ∧ li ≤ 2147483647) (hnl : li < 0 ∨ (S.length : Int) ≤ li) : vx_Met l yX1_lengthByKinds (ws_ yX1_lengthByKinds cX1_lengthByKinds 4 (Option.some Jvm.ClassFile.FieldType.double)) ({ frames := 8, cells := 1, slots := 6, locals := 162 } : Room) (kPre D H [.ref x1, .int (kI (li))]) kFl (kXC "java/lang/IndexOutOfBoundsException" (kNW H)) (1) (6) (kNW H) := by
  refine vx_ofW (cc := cX1_lengthByKinds) (maxL := 4) (ret := (Option.some Jvm.ClassFile.FieldType.double)) (by decide) rfl ?_
  intro p e s m args below meth c s₁ B hml hxt hv
  obtain ⟨rfl, hH, hK⟩ := hv
  subst hH
  have hx := B.exec
  have hb := B.bytes
  have hr := B.returns
  have hts := atoms_spec (ws := ws_ yX1_lengthByKinds cX1_lengthByKinds 4 (Option.some Jvm.ClassFile.FieldType.double)) B.pre
  have hts : ∀ w ∈ lw_all, w.before _ s = true := fun w h => hts w (List.mem_cons_of_mem _ h)
  have hown : s.vm.findClass RX1 = some m.cls := findClass_of_methodNamed B.named
  have hlk := B.notSynchronized
  have hS : va_S (kNW s.heap) s.heap s.heap [] := va_S.rf
  have hB : ∀ q, (kNW s.heap) q → kBase D ≤ q := fun q h => Nat.le_trans hK.size h
  have hl := lv_entry ([.ref x1, .int (kI (li))]) (n := 4) (Nat.le_of_ble_eq_true rfl)
  rw [lg_entry_eq]
  generalize (lg_sl ([.ref x1, .int (kI (li))]) ++ List.replicate (4 - (lg_sl ([.ref x1, .int (kI (li))])).length) Slot.unset).toArray = ls at hl ⊢
  have hl : lv_has ls 4 [(0, .ref x1), (1, .int (kI (li)))] := hl
  have hL8 := hok.1
  refine lv_aload_n hx hb dX1_lengthByKinds_0 rfl (lv_at hl 0 rfl) ?_
  refine lv_iload_n hx hb dX1_lengthByKinds_1 rfl (lv_at hl 1 rfl) ?_
  exact kx_thr (vx_runV (As := [.int (kI (li))]) (rest := []) ⟨hx, hb, hml, hown, hts⟩ (x_line l hl9 D s.heap x1 snp hi bu st la mc ea F S gap li hO_x1 hO_st hO_la hP_kLs_ea hP_kLn_F (by first | assumption | omega) (by first | assumption | omega) (by first | assumption | omega)) (cwV 1 hts (lw_V q1864 q1866 qs35 q79 q1867) rfl rfl rfl (by decide +kernel) ⟨Nat.le_of_ble_eq_true rfl, Nat.le_of_ble_eq_true rfl⟩) (kx_pv hK hS hB (kx_rc hK hO_x1 (C := RX1) (T := TX1) (N := 4) rfl)) rfl rfl hl.1 rfl (lv_room (Nat.le_of_ble_eq_true rfl)) dX1_lengthByKinds_2 ⟨by first | exact Nat.le_of_ble_eq_true rfl | omega | (show _ ≤ _; omega) | (dsimp only [headSpec]; omega), by first | exact Nat.le_of_ble_eq_true rfl | omega | (show _ ≤ _; omega) | (dsimp only [headSpec]; omega)⟩) hS (fun q _ h => by have h9 := hS.1; (try dsimp only at h); (try dsimp only); (try simp only [kNW] at h); (try simp only [kNW]); omega) (fun q h => by have h9 := hS.1; (try dsimp only at h); (try dsimp only); (try simp only [kNW] at h); (try simp only [kNW]); omega) hxt hlk (by first | exact Nat.le_of_ble_eq_true rfl | omega | (show _ ≤ _; omega) | (dsimp only [headSpec]; omega)) (by first | exact Nat.le_of_ble_eq_true rfl | omega | (show _ ≤ _; omega) | (dsimp only [headSpec]; omega))

set_option maxHeartbeats 4000000 in
set_option maxRecDepth 100000 in
theorem x_lengthBySteps (l : Launch) (hl9 : l.stackTraces = false) (D : kG) (H : Heap) (x1 : Nat) (snp : Option Nat) (hi : Nat) (bu : Nat) (st : Nat) (la : Nat) (mc : Int) (ea : Nat) (F : Fts) (S : Ls) (gap : Int) (li : Int) (hO_x1 : kO D H x1 0 [.ref st, va_rf (snp), .ref hi, .ref bu]) (hO_st : kO D H st 1 [.ref la, .int (kI (gap))]) (hO_la : kO D H la 9 [.int (kI (mc)), .ref ea, .int (kI ((S.length : Nat) : Int))]) (hP_kLs_ea : kLs D H ea S.length F) (hP_kLn_F : kLn D H F S) (hok : LsOK S gap) (hr_li : -2147483648 ≤ li ∧ li ≤ 2147483647) (hnl : li < 0 ∨ (S.length : Int) ≤ li) : vx_Met l yX1_lengthBySteps (ws_ yX1_lengthBySteps cX1_lengthBySteps 2 (Option.some Jvm.ClassFile.FieldType.double)) ({ frames := 8, cells := 1, slots := 6, locals := 162 } : Room) (kPre D H [.ref x1, .int (kI (li))]) kFl (kXC "java/lang/IndexOutOfBoundsException" (kNW H)) (1) (6) (kNW H) := by
  refine vx_ofW (cc := cX1_lengthBySteps) (maxL := 2) (ret := (Option.some Jvm.ClassFile.FieldType.double)) (by decide) rfl ?_
  intro p e s m args below meth c s₁ B hml hxt hv
  obtain ⟨rfl, hH, hK⟩ := hv
  subst hH
  have hx := B.exec
  have hb := B.bytes
  have hr := B.returns
  have hts := atoms_spec (ws := ws_ yX1_lengthBySteps cX1_lengthBySteps 2 (Option.some Jvm.ClassFile.FieldType.double)) B.pre
  have hts : ∀ w ∈ lw_all, w.before _ s = true := fun w h => hts w (List.mem_cons_of_mem _ h)
  have hown : s.vm.findClass RX1 = some m.cls := findClass_of_methodNamed B.named
  have hlk := B.notSynchronized
  have hS : va_S (kNW s.heap) s.heap s.heap [] := va_S.rf
  have hB : ∀ q, (kNW s.heap) q → kBase D ≤ q := fun q h => Nat.le_trans hK.size h
  have hl := lv_entry ([.ref x1, .int (kI (li))]) (n := 2) (Nat.le_of_ble_eq_true rfl)
  rw [lg_entry_eq]
  generalize (lg_sl ([.ref x1, .int (kI (li))]) ++ List.replicate (2 - (lg_sl ([.ref x1, .int (kI (li))])).length) Slot.unset).toArray = ls at hl ⊢
  have hl : lv_has ls 2 [(0, .ref x1), (1, .int (kI (li)))] := hl
  have hL8 := hok.1
  refine lv_aload_n hx hb dX1_lengthBySteps_0 rfl (lv_at hl 0 rfl) ?_
  refine lv_iload_n hx hb dX1_lengthBySteps_1 rfl (lv_at hl 1 rfl) ?_
  exact kx_thr (vx_runV (As := [.int (kI (li))]) (rest := []) ⟨hx, hb, hml, hown, hts⟩ (x_line l hl9 D s.heap x1 snp hi bu st la mc ea F S gap li hO_x1 hO_st hO_la hP_kLs_ea hP_kLn_F (by first | assumption | omega) (by first | assumption | omega) (by first | assumption | omega)) (cwV 1 hts (lw_V q1864 q1866 qs35 q79 q1867) rfl rfl rfl (by decide +kernel) ⟨Nat.le_of_ble_eq_true rfl, Nat.le_of_ble_eq_true rfl⟩) (kx_pv hK hS hB (kx_rc hK hO_x1 (C := RX1) (T := TX1) (N := 4) rfl)) rfl rfl hl.1 rfl (lv_room (Nat.le_of_ble_eq_true rfl)) dX1_lengthBySteps_2 ⟨by first | exact Nat.le_of_ble_eq_true rfl | omega | (show _ ≤ _; omega) | (dsimp only [headSpec]; omega), by first | exact Nat.le_of_ble_eq_true rfl | omega | (show _ ≤ _; omega) | (dsimp only [headSpec]; omega)⟩) hS (fun q _ h => by have h9 := hS.1; (try dsimp only at h); (try dsimp only); (try simp only [kNW] at h); (try simp only [kNW]); omega) (fun q h => by have h9 := hS.1; (try dsimp only at h); (try dsimp only); (try simp only [kNW] at h); (try simp only [kNW]); omega) hxt hlk (by first | exact Nat.le_of_ble_eq_true rfl | omega | (show _ ≤ _; omega) | (dsimp only [headSpec]; omega)) (by first | exact Nat.le_of_ble_eq_true rfl | omega | (show _ ≤ _; omega) | (dsimp only [headSpec]; omega))

set_option maxHeartbeats 4000000 in
set_option maxRecDepth 100000 in
theorem x_isTurned (l : Launch) (hl9 : l.stackTraces = false) (D : kG) (H : Heap) (x1 : Nat) (snp : Option Nat) (hi : Nat) (bu : Nat) (st : Nat) (la : Nat) (mc : Int) (ea : Nat) (F : Fts) (S : Ls) (gap : Int) (li : Int) (hO_x1 : kO D H x1 0 [.ref st, va_rf (snp), .ref hi, .ref bu]) (hO_st : kO D H st 1 [.ref la, .int (kI (gap))]) (hO_la : kO D H la 9 [.int (kI (mc)), .ref ea, .int (kI ((S.length : Nat) : Int))]) (hP_kLs_ea : kLs D H ea S.length F) (hP_kLn_F : kLn D H F S) (hok : LsOK S gap) (hr_li : -2147483648 ≤ li ∧ li ≤ 2147483647) (hnl : li < 0 ∨ (S.length : Int) ≤ li) : vx_Met l yX1_isTurned (ws_ yX1_isTurned cX1_isTurned 2 (Option.some Jvm.ClassFile.FieldType.boolean)) ({ frames := 8, cells := 1, slots := 6, locals := 162 } : Room) (kPre D H [.ref x1, .int (kI (li))]) kFl (kXC "java/lang/IndexOutOfBoundsException" (kNW H)) (1) (6) (kNW H) := by
  refine vx_ofW (cc := cX1_isTurned) (maxL := 2) (ret := (Option.some Jvm.ClassFile.FieldType.boolean)) (by decide) rfl ?_
  intro p e s m args below meth c s₁ B hml hxt hv
  obtain ⟨rfl, hH, hK⟩ := hv
  subst hH
  have hx := B.exec
  have hb := B.bytes
  have hr := B.returns
  have hts := atoms_spec (ws := ws_ yX1_isTurned cX1_isTurned 2 (Option.some Jvm.ClassFile.FieldType.boolean)) B.pre
  have hts : ∀ w ∈ lw_all, w.before _ s = true := fun w h => hts w (List.mem_cons_of_mem _ h)
  have hown : s.vm.findClass RX1 = some m.cls := findClass_of_methodNamed B.named
  have hlk := B.notSynchronized
  have hS : va_S (kNW s.heap) s.heap s.heap [] := va_S.rf
  have hB : ∀ q, (kNW s.heap) q → kBase D ≤ q := fun q h => Nat.le_trans hK.size h
  have hl := lv_entry ([.ref x1, .int (kI (li))]) (n := 2) (Nat.le_of_ble_eq_true rfl)
  rw [lg_entry_eq]
  generalize (lg_sl ([.ref x1, .int (kI (li))]) ++ List.replicate (2 - (lg_sl ([.ref x1, .int (kI (li))])).length) Slot.unset).toArray = ls at hl ⊢
  have hl : lv_has ls 2 [(0, .ref x1), (1, .int (kI (li)))] := hl
  have hL8 := hok.1
  refine lv_aload_n hx hb dX1_isTurned_0 rfl (lv_at hl 0 rfl) ?_
  refine lv_iload_n hx hb dX1_isTurned_1 rfl (lv_at hl 1 rfl) ?_
  exact kx_thr (vx_runV (As := [.int (kI (li))]) (rest := []) ⟨hx, hb, hml, hown, hts⟩ (x_line l hl9 D s.heap x1 snp hi bu st la mc ea F S gap li hO_x1 hO_st hO_la hP_kLs_ea hP_kLn_F (by first | assumption | omega) (by first | assumption | omega) (by first | assumption | omega)) (cwV 1 hts (lw_V q1864 q1866 qs35 q79 q1867) rfl rfl rfl (by decide +kernel) ⟨Nat.le_of_ble_eq_true rfl, Nat.le_of_ble_eq_true rfl⟩) (kx_pv hK hS hB (kx_rc hK hO_x1 (C := RX1) (T := TX1) (N := 4) rfl)) rfl rfl hl.1 rfl (lv_room (Nat.le_of_ble_eq_true rfl)) dX1_isTurned_2 ⟨by first | exact Nat.le_of_ble_eq_true rfl | omega | (show _ ≤ _; omega) | (dsimp only [headSpec]; omega), by first | exact Nat.le_of_ble_eq_true rfl | omega | (show _ ≤ _; omega) | (dsimp only [headSpec]; omega)⟩) hS (fun q _ h => by have h9 := hS.1; (try dsimp only at h); (try dsimp only); (try simp only [kNW] at h); (try simp only [kNW]); omega) (fun q h => by have h9 := hS.1; (try dsimp only at h); (try dsimp only); (try simp only [kNW] at h); (try simp only [kNW]); omega) hxt hlk (by first | exact Nat.le_of_ble_eq_true rfl | omega | (show _ ≤ _; omega) | (dsimp only [headSpec]; omega)) (by first | exact Nat.le_of_ble_eq_true rfl | omega | (show _ ≤ _; omega) | (dsimp only [headSpec]; omega))

set_option maxHeartbeats 4000000 in
set_option maxRecDepth 100000 in
theorem x_readFrom (l : Launch) (hl9 : l.stackTraces = false) (D : kG) (H : Heap) (x1 : Nat) (snp : Option Nat) (hi : Nat) (bu : Nat) (st : Nat) (la : Nat) (mc : Int) (ea : Nat) (F : Fts) (S : Ls) (gap : Int) (li : Int) (hO_x1 : kO D H x1 0 [.ref st, va_rf (snp), .ref hi, .ref bu]) (hO_st : kO D H st 1 [.ref la, .int (kI (gap))]) (hO_la : kO D H la 9 [.int (kI (mc)), .ref ea, .int (kI ((S.length : Nat) : Int))]) (hP_kLs_ea : kLs D H ea S.length F) (hP_kLn_F : kLn D H F S) (hok : LsOK S gap) (hr_li : -2147483648 ≤ li ∧ li ≤ 2147483647) (hnl : li < 0 ∨ (S.length : Int) ≤ li) : vx_Met l yX1_readFrom (ws_ yX1_readFrom cX1_readFrom 2 (Option.some Jvm.ClassFile.FieldType.int)) ({ frames := 8, cells := 1, slots := 6, locals := 162 } : Room) (kPre D H [.ref x1, .int (kI (li))]) kFl (kXC "java/lang/IndexOutOfBoundsException" (kNW H)) (1) (6) (kNW H) := by
  refine vx_ofW (cc := cX1_readFrom) (maxL := 2) (ret := (Option.some Jvm.ClassFile.FieldType.int)) (by decide) rfl ?_
  intro p e s m args below meth c s₁ B hml hxt hv
  obtain ⟨rfl, hH, hK⟩ := hv
  subst hH
  have hx := B.exec
  have hb := B.bytes
  have hr := B.returns
  have hts := atoms_spec (ws := ws_ yX1_readFrom cX1_readFrom 2 (Option.some Jvm.ClassFile.FieldType.int)) B.pre
  have hts : ∀ w ∈ lw_all, w.before _ s = true := fun w h => hts w (List.mem_cons_of_mem _ h)
  have hown : s.vm.findClass RX1 = some m.cls := findClass_of_methodNamed B.named
  have hlk := B.notSynchronized
  have hS : va_S (kNW s.heap) s.heap s.heap [] := va_S.rf
  have hB : ∀ q, (kNW s.heap) q → kBase D ≤ q := fun q h => Nat.le_trans hK.size h
  have hl := lv_entry ([.ref x1, .int (kI (li))]) (n := 2) (Nat.le_of_ble_eq_true rfl)
  rw [lg_entry_eq]
  generalize (lg_sl ([.ref x1, .int (kI (li))]) ++ List.replicate (2 - (lg_sl ([.ref x1, .int (kI (li))])).length) Slot.unset).toArray = ls at hl ⊢
  have hl : lv_has ls 2 [(0, .ref x1), (1, .int (kI (li)))] := hl
  have hL8 := hok.1
  refine lv_aload_n hx hb dX1_readFrom_0 rfl (lv_at hl 0 rfl) ?_
  refine lv_iload_n hx hb dX1_readFrom_1 rfl (lv_at hl 1 rfl) ?_
  exact kx_thr (vx_runV (As := [.int (kI (li))]) (rest := []) ⟨hx, hb, hml, hown, hts⟩ (x_line l hl9 D s.heap x1 snp hi bu st la mc ea F S gap li hO_x1 hO_st hO_la hP_kLs_ea hP_kLn_F (by first | assumption | omega) (by first | assumption | omega) (by first | assumption | omega)) (cwV 1 hts (lw_V q1864 q1866 qs35 q79 q1867) rfl rfl rfl (by decide +kernel) ⟨Nat.le_of_ble_eq_true rfl, Nat.le_of_ble_eq_true rfl⟩) (kx_pv hK hS hB (kx_rc hK hO_x1 (C := RX1) (T := TX1) (N := 4) rfl)) rfl rfl hl.1 rfl (lv_room (Nat.le_of_ble_eq_true rfl)) dX1_readFrom_2 ⟨by first | exact Nat.le_of_ble_eq_true rfl | omega | (show _ ≤ _; omega) | (dsimp only [headSpec]; omega), by first | exact Nat.le_of_ble_eq_true rfl | omega | (show _ ≤ _; omega) | (dsimp only [headSpec]; omega)⟩) hS (fun q _ h => by have h9 := hS.1; (try dsimp only at h); (try dsimp only); (try simp only [kNW] at h); (try simp only [kNW]); omega) (fun q h => by have h9 := hS.1; (try dsimp only at h); (try dsimp only); (try simp only [kNW] at h); (try simp only [kNW]); omega) hxt hlk (by first | exact Nat.le_of_ble_eq_true rfl | omega | (show _ ≤ _; omega) | (dsimp only [headSpec]; omega)) (by first | exact Nat.le_of_ble_eq_true rfl | omega | (show _ ≤ _; omega) | (dsimp only [headSpec]; omega))

set_option maxHeartbeats 4000000 in
set_option maxRecDepth 100000 in
theorem x_sizeOf (l : Launch) (hl9 : l.stackTraces = false) (D : kG) (H : Heap) (x1 : Nat) (snp : Option Nat) (hi : Nat) (bu : Nat) (st : Nat) (la : Nat) (mc : Int) (ea : Nat) (F : Fts) (S : Ls) (gap : Int) (li : Int) (hO_x1 : kO D H x1 0 [.ref st, va_rf (snp), .ref hi, .ref bu]) (hO_st : kO D H st 1 [.ref la, .int (kI (gap))]) (hO_la : kO D H la 9 [.int (kI (mc)), .ref ea, .int (kI ((S.length : Nat) : Int))]) (hP_kLs_ea : kLs D H ea S.length F) (hP_kLn_F : kLn D H F S) (hok : LsOK S gap) (hr_li : -2147483648 ≤ li ∧ li ≤ 2147483647) (hnl : li < 0 ∨ (S.length : Int) ≤ li) : vx_Met l yX1_sizeOf (ws_ yX1_sizeOf cX1_sizeOf 2 (Option.some Jvm.ClassFile.FieldType.int)) ({ frames := 8, cells := 1, slots := 6, locals := 162 } : Room) (kPre D H [.ref x1, .int (kI (li))]) kFl (kXC "java/lang/IndexOutOfBoundsException" (kNW H)) (1) (6) (kNW H) := by
  refine vx_ofW (cc := cX1_sizeOf) (maxL := 2) (ret := (Option.some Jvm.ClassFile.FieldType.int)) (by decide) rfl ?_
  intro p e s m args below meth c s₁ B hml hxt hv
  obtain ⟨rfl, hH, hK⟩ := hv
  subst hH
  have hx := B.exec
  have hb := B.bytes
  have hr := B.returns
  have hts := atoms_spec (ws := ws_ yX1_sizeOf cX1_sizeOf 2 (Option.some Jvm.ClassFile.FieldType.int)) B.pre
  have hts : ∀ w ∈ lw_all, w.before _ s = true := fun w h => hts w (List.mem_cons_of_mem _ h)
  have hown : s.vm.findClass RX1 = some m.cls := findClass_of_methodNamed B.named
  have hlk := B.notSynchronized
  have hS : va_S (kNW s.heap) s.heap s.heap [] := va_S.rf
  have hB : ∀ q, (kNW s.heap) q → kBase D ≤ q := fun q h => Nat.le_trans hK.size h
  have hl := lv_entry ([.ref x1, .int (kI (li))]) (n := 2) (Nat.le_of_ble_eq_true rfl)
  rw [lg_entry_eq]
  generalize (lg_sl ([.ref x1, .int (kI (li))]) ++ List.replicate (2 - (lg_sl ([.ref x1, .int (kI (li))])).length) Slot.unset).toArray = ls at hl ⊢
  have hl : lv_has ls 2 [(0, .ref x1), (1, .int (kI (li)))] := hl
  have hL8 := hok.1
  refine lv_aload_n hx hb dX1_sizeOf_0 rfl (lv_at hl 0 rfl) ?_
  refine lv_iload_n hx hb dX1_sizeOf_1 rfl (lv_at hl 1 rfl) ?_
  exact kx_thr (vx_runV (As := [.int (kI (li))]) (rest := []) ⟨hx, hb, hml, hown, hts⟩ (x_line l hl9 D s.heap x1 snp hi bu st la mc ea F S gap li hO_x1 hO_st hO_la hP_kLs_ea hP_kLn_F (by first | assumption | omega) (by first | assumption | omega) (by first | assumption | omega)) (cwV 1 hts (lw_V q1864 q1866 qs35 q79 q1867) rfl rfl rfl (by decide +kernel) ⟨Nat.le_of_ble_eq_true rfl, Nat.le_of_ble_eq_true rfl⟩) (kx_pv hK hS hB (kx_rc hK hO_x1 (C := RX1) (T := TX1) (N := 4) rfl)) rfl rfl hl.1 rfl (lv_room (Nat.le_of_ble_eq_true rfl)) dX1_sizeOf_2 ⟨by first | exact Nat.le_of_ble_eq_true rfl | omega | (show _ ≤ _; omega) | (dsimp only [headSpec]; omega), by first | exact Nat.le_of_ble_eq_true rfl | omega | (show _ ≤ _; omega) | (dsimp only [headSpec]; omega)⟩) hS (fun q _ h => by have h9 := hS.1; (try dsimp only at h); (try dsimp only); (try simp only [kNW] at h); (try simp only [kNW]); omega) (fun q h => by have h9 := hS.1; (try dsimp only at h); (try dsimp only); (try simp only [kNW] at h); (try simp only [kNW]); omega) hxt hlk (by first | exact Nat.le_of_ble_eq_true rfl | omega | (show _ ≤ _; omega) | (dsimp only [headSpec]; omega)) (by first | exact Nat.le_of_ble_eq_true rfl | omega | (show _ ≤ _; omega) | (dsimp only [headSpec]; omega))

set_option maxHeartbeats 4000000 in
set_option maxRecDepth 100000 in
theorem x_placesOf (l : Launch) (hl9 : l.stackTraces = false) (D : kG) (H : Heap) (x1 : Nat) (snp : Option Nat) (hi : Nat) (bu : Nat) (st : Nat) (la : Nat) (mc : Int) (ea : Nat) (F : Fts) (S : Ls) (gap : Int) (li : Int) (hO_x1 : kO D H x1 0 [.ref st, va_rf (snp), .ref hi, .ref bu]) (hO_st : kO D H st 1 [.ref la, .int (kI (gap))]) (hO_la : kO D H la 9 [.int (kI (mc)), .ref ea, .int (kI ((S.length : Nat) : Int))]) (hP_kLs_ea : kLs D H ea S.length F) (hP_kLn_F : kLn D H F S) (hok : LsOK S gap) (hr_li : -2147483648 ≤ li ∧ li ≤ 2147483647) (hnl : li < 0 ∨ (S.length : Int) ≤ li) : vx_Met l yX1_placesOf (ws_ yX1_placesOf cX1_placesOf 2 (Option.some Jvm.ClassFile.FieldType.int)) ({ frames := 8, cells := 1, slots := 6, locals := 162 } : Room) (kPre D H [.ref x1, .int (kI (li))]) kFl (kXC "java/lang/IndexOutOfBoundsException" (kNW H)) (1) (6) (kNW H) := by
  refine vx_ofW (cc := cX1_placesOf) (maxL := 2) (ret := (Option.some Jvm.ClassFile.FieldType.int)) (by decide) rfl ?_
  intro p e s m args below meth c s₁ B hml hxt hv
  obtain ⟨rfl, hH, hK⟩ := hv
  subst hH
  have hx := B.exec
  have hb := B.bytes
  have hr := B.returns
  have hts := atoms_spec (ws := ws_ yX1_placesOf cX1_placesOf 2 (Option.some Jvm.ClassFile.FieldType.int)) B.pre
  have hts : ∀ w ∈ lw_all, w.before _ s = true := fun w h => hts w (List.mem_cons_of_mem _ h)
  have hown : s.vm.findClass RX1 = some m.cls := findClass_of_methodNamed B.named
  have hlk := B.notSynchronized
  have hS : va_S (kNW s.heap) s.heap s.heap [] := va_S.rf
  have hB : ∀ q, (kNW s.heap) q → kBase D ≤ q := fun q h => Nat.le_trans hK.size h
  have hl := lv_entry ([.ref x1, .int (kI (li))]) (n := 2) (Nat.le_of_ble_eq_true rfl)
  rw [lg_entry_eq]
  generalize (lg_sl ([.ref x1, .int (kI (li))]) ++ List.replicate (2 - (lg_sl ([.ref x1, .int (kI (li))])).length) Slot.unset).toArray = ls at hl ⊢
  have hl : lv_has ls 2 [(0, .ref x1), (1, .int (kI (li)))] := hl
  have hL8 := hok.1
  refine lv_aload_n hx hb dX1_placesOf_0 rfl (lv_at hl 0 rfl) ?_
  refine lv_iload_n hx hb dX1_placesOf_1 rfl (lv_at hl 1 rfl) ?_
  exact kx_thr (vx_runV (As := [.int (kI (li))]) (rest := []) ⟨hx, hb, hml, hown, hts⟩ (x_line l hl9 D s.heap x1 snp hi bu st la mc ea F S gap li hO_x1 hO_st hO_la hP_kLs_ea hP_kLn_F (by first | assumption | omega) (by first | assumption | omega) (by first | assumption | omega)) (cwV 1 hts (lw_V q1864 q1866 qs35 q79 q1867) rfl rfl rfl (by decide +kernel) ⟨Nat.le_of_ble_eq_true rfl, Nat.le_of_ble_eq_true rfl⟩) (kx_pv hK hS hB (kx_rc hK hO_x1 (C := RX1) (T := TX1) (N := 4) rfl)) rfl rfl hl.1 rfl (lv_room (Nat.le_of_ble_eq_true rfl)) dX1_placesOf_2 ⟨by first | exact Nat.le_of_ble_eq_true rfl | omega | (show _ ≤ _; omega) | (dsimp only [headSpec]; omega), by first | exact Nat.le_of_ble_eq_true rfl | omega | (show _ ≤ _; omega) | (dsimp only [headSpec]; omega)⟩) hS (fun q _ h => by have h9 := hS.1; (try dsimp only at h); (try dsimp only); (try simp only [kNW] at h); (try simp only [kNW]); omega) (fun q h => by have h9 := hS.1; (try dsimp only at h); (try dsimp only); (try simp only [kNW] at h); (try simp only [kNW]); omega) hxt hlk (by first | exact Nat.le_of_ble_eq_true rfl | omega | (show _ ≤ _; omega) | (dsimp only [headSpec]; omega)) (by first | exact Nat.le_of_ble_eq_true rfl | omega | (show _ ≤ _; omega) | (dsimp only [headSpec]; omega))

set_option maxHeartbeats 4000000 in
set_option maxRecDepth 100000 in
theorem x_bestPlace (l : Launch) (hl9 : l.stackTraces = false) (D : kG) (H : Heap) (x1 : Nat) (snp : Option Nat) (hi : Nat) (bu : Nat) (st : Nat) (la : Nat) (mc : Int) (ea : Nat) (F : Fts) (S : Ls) (gap : Int) (li : Int) (hO_x1 : kO D H x1 0 [.ref st, va_rf (snp), .ref hi, .ref bu]) (hO_st : kO D H st 1 [.ref la, .int (kI (gap))]) (hO_la : kO D H la 9 [.int (kI (mc)), .ref ea, .int (kI ((S.length : Nat) : Int))]) (hP_kLs_ea : kLs D H ea S.length F) (hP_kLn_F : kLn D H F S) (hok : LsOK S gap) (hr_li : -2147483648 ≤ li ∧ li ≤ 2147483647) (hnl : li < 0 ∨ (S.length : Int) ≤ li) : vx_Met l yX1_bestPlace (ws_ yX1_bestPlace cX1_bestPlace 2 (Option.some Jvm.ClassFile.FieldType.int)) ({ frames := 8, cells := 1, slots := 6, locals := 162 } : Room) (kPre D H [.ref x1, .int (kI (li))]) kFl (kXC "java/lang/IndexOutOfBoundsException" (kNW H)) (1) (6) (kNW H) := by
  refine vx_ofW (cc := cX1_bestPlace) (maxL := 2) (ret := (Option.some Jvm.ClassFile.FieldType.int)) (by decide) rfl ?_
  intro p e s m args below meth c s₁ B hml hxt hv
  obtain ⟨rfl, hH, hK⟩ := hv
  subst hH
  have hx := B.exec
  have hb := B.bytes
  have hr := B.returns
  have hts := atoms_spec (ws := ws_ yX1_bestPlace cX1_bestPlace 2 (Option.some Jvm.ClassFile.FieldType.int)) B.pre
  have hts : ∀ w ∈ lw_all, w.before _ s = true := fun w h => hts w (List.mem_cons_of_mem _ h)
  have hown : s.vm.findClass RX1 = some m.cls := findClass_of_methodNamed B.named
  have hlk := B.notSynchronized
  have hS : va_S (kNW s.heap) s.heap s.heap [] := va_S.rf
  have hB : ∀ q, (kNW s.heap) q → kBase D ≤ q := fun q h => Nat.le_trans hK.size h
  have hl := lv_entry ([.ref x1, .int (kI (li))]) (n := 2) (Nat.le_of_ble_eq_true rfl)
  rw [lg_entry_eq]
  generalize (lg_sl ([.ref x1, .int (kI (li))]) ++ List.replicate (2 - (lg_sl ([.ref x1, .int (kI (li))])).length) Slot.unset).toArray = ls at hl ⊢
  have hl : lv_has ls 2 [(0, .ref x1), (1, .int (kI (li)))] := hl
  have hL8 := hok.1
  refine lv_aload_n hx hb dX1_bestPlace_0 rfl (lv_at hl 0 rfl) ?_
  refine lv_iload_n hx hb dX1_bestPlace_1 rfl (lv_at hl 1 rfl) ?_
  exact kx_thr (vx_runV (As := [.int (kI (li))]) (rest := []) ⟨hx, hb, hml, hown, hts⟩ (x_line l hl9 D s.heap x1 snp hi bu st la mc ea F S gap li hO_x1 hO_st hO_la hP_kLs_ea hP_kLn_F (by first | assumption | omega) (by first | assumption | omega) (by first | assumption | omega)) (cwV 1 hts (lw_V q1864 q1866 qs35 q79 q1867) rfl rfl rfl (by decide +kernel) ⟨Nat.le_of_ble_eq_true rfl, Nat.le_of_ble_eq_true rfl⟩) (kx_pv hK hS hB (kx_rc hK hO_x1 (C := RX1) (T := TX1) (N := 4) rfl)) rfl rfl hl.1 rfl (lv_room (Nat.le_of_ble_eq_true rfl)) dX1_bestPlace_2 ⟨by first | exact Nat.le_of_ble_eq_true rfl | omega | (show _ ≤ _; omega) | (dsimp only [headSpec]; omega), by first | exact Nat.le_of_ble_eq_true rfl | omega | (show _ ≤ _; omega) | (dsimp only [headSpec]; omega)⟩) hS (fun q _ h => by have h9 := hS.1; (try dsimp only at h); (try dsimp only); (try simp only [kNW] at h); (try simp only [kNW]); omega) (fun q h => by have h9 := hS.1; (try dsimp only at h); (try dsimp only); (try simp only [kNW] at h); (try simp only [kNW]); omega) hxt hlk (by first | exact Nat.le_of_ble_eq_true rfl | omega | (show _ ≤ _; omega) | (dsimp only [headSpec]; omega)) (by first | exact Nat.le_of_ble_eq_true rfl | omega | (show _ ≤ _; omega) | (dsimp only [headSpec]; omega))

set_option maxHeartbeats 4000000 in
set_option maxRecDepth 100000 in
theorem x_pointsWithin (l : Launch) (hl9 : l.stackTraces = false) (D : kG) (H : Heap) (x1 : Nat) (snp : Option Nat) (hi : Nat) (bu : Nat) (st : Nat) (la : Nat) (mc : Int) (ea : Nat) (F : Fts) (S : Ls) (gap : Int) (li : Int) (hO_x1 : kO D H x1 0 [.ref st, va_rf (snp), .ref hi, .ref bu]) (hO_st : kO D H st 1 [.ref la, .int (kI (gap))]) (hO_la : kO D H la 9 [.int (kI (mc)), .ref ea, .int (kI ((S.length : Nat) : Int))]) (hP_kLs_ea : kLs D H ea S.length F) (hP_kLn_F : kLn D H F S) (hok : LsOK S gap) (hr_li : -2147483648 ≤ li ∧ li ≤ 2147483647) (hnl : li < 0 ∨ (S.length : Int) ≤ li) : vx_Met l yX1_pointsWithin (ws_ yX1_pointsWithin cX1_pointsWithin 2 (Option.some Jvm.ClassFile.FieldType.int)) ({ frames := 8, cells := 1, slots := 6, locals := 162 } : Room) (kPre D H [.ref x1, .int (kI (li))]) kFl (kXC "java/lang/IndexOutOfBoundsException" (kNW H)) (1) (6) (kNW H) := by
  refine vx_ofW (cc := cX1_pointsWithin) (maxL := 2) (ret := (Option.some Jvm.ClassFile.FieldType.int)) (by decide) rfl ?_
  intro p e s m args below meth c s₁ B hml hxt hv
  obtain ⟨rfl, hH, hK⟩ := hv
  subst hH
  have hx := B.exec
  have hb := B.bytes
  have hr := B.returns
  have hts := atoms_spec (ws := ws_ yX1_pointsWithin cX1_pointsWithin 2 (Option.some Jvm.ClassFile.FieldType.int)) B.pre
  have hts : ∀ w ∈ lw_all, w.before _ s = true := fun w h => hts w (List.mem_cons_of_mem _ h)
  have hown : s.vm.findClass RX1 = some m.cls := findClass_of_methodNamed B.named
  have hlk := B.notSynchronized
  have hS : va_S (kNW s.heap) s.heap s.heap [] := va_S.rf
  have hB : ∀ q, (kNW s.heap) q → kBase D ≤ q := fun q h => Nat.le_trans hK.size h
  have hl := lv_entry ([.ref x1, .int (kI (li))]) (n := 2) (Nat.le_of_ble_eq_true rfl)
  rw [lg_entry_eq]
  generalize (lg_sl ([.ref x1, .int (kI (li))]) ++ List.replicate (2 - (lg_sl ([.ref x1, .int (kI (li))])).length) Slot.unset).toArray = ls at hl ⊢
  have hl : lv_has ls 2 [(0, .ref x1), (1, .int (kI (li)))] := hl
  have hL8 := hok.1
  refine lv_aload_n hx hb dX1_pointsWithin_0 rfl (lv_at hl 0 rfl) ?_
  refine lv_iload_n hx hb dX1_pointsWithin_1 rfl (lv_at hl 1 rfl) ?_
  exact kx_thr (vx_runV (As := [.int (kI (li))]) (rest := []) ⟨hx, hb, hml, hown, hts⟩ (x_line l hl9 D s.heap x1 snp hi bu st la mc ea F S gap li hO_x1 hO_st hO_la hP_kLs_ea hP_kLn_F (by first | assumption | omega) (by first | assumption | omega) (by first | assumption | omega)) (cwV 1 hts (lw_V q1864 q1866 qs35 q79 q1867) rfl rfl rfl (by decide +kernel) ⟨Nat.le_of_ble_eq_true rfl, Nat.le_of_ble_eq_true rfl⟩) (kx_pv hK hS hB (kx_rc hK hO_x1 (C := RX1) (T := TX1) (N := 4) rfl)) rfl rfl hl.1 rfl (lv_room (Nat.le_of_ble_eq_true rfl)) dX1_pointsWithin_2 ⟨by first | exact Nat.le_of_ble_eq_true rfl | omega | (show _ ≤ _; omega) | (dsimp only [headSpec]; omega), by first | exact Nat.le_of_ble_eq_true rfl | omega | (show _ ≤ _; omega) | (dsimp only [headSpec]; omega)⟩) hS (fun q _ h => by have h9 := hS.1; (try dsimp only at h); (try dsimp only); (try simp only [kNW] at h); (try simp only [kNW]); omega) (fun q h => by have h9 := hS.1; (try dsimp only at h); (try dsimp only); (try simp only [kNW] at h); (try simp only [kNW]); omega) hxt hlk (by first | exact Nat.le_of_ble_eq_true rfl | omega | (show _ ≤ _; omega) | (dsimp only [headSpec]; omega)) (by first | exact Nat.le_of_ble_eq_true rfl | omega | (show _ ≤ _; omega) | (dsimp only [headSpec]; omega))

set_option maxHeartbeats 4000000 in
set_option maxRecDepth 100000 in
theorem x_lineRound (l : Launch) (hl9 : l.stackTraces = false) (D : kG) (H : Heap) (x1 : Nat) (snp : Option Nat) (hi : Nat) (bu : Nat) (st : Nat) (la : Nat) (mc : Int) (ea : Nat) (F : Fts) (S : Ls) (gap : Int) (li : Int) (hO_x1 : kO D H x1 0 [.ref st, va_rf (snp), .ref hi, .ref bu]) (hO_st : kO D H st 1 [.ref la, .int (kI (gap))]) (hO_la : kO D H la 9 [.int (kI (mc)), .ref ea, .int (kI ((S.length : Nat) : Int))]) (hP_kLs_ea : kLs D H ea S.length F) (hP_kLn_F : kLn D H F S) (hok : LsOK S gap) (hr_li : -2147483648 ≤ li ∧ li ≤ 2147483647) (hnl : li < 0 ∨ (S.length : Int) ≤ li) : vx_Met l yX1_lineRound (ws_ yX1_lineRound cX1_lineRound 2 (Option.some Jvm.ClassFile.FieldType.int)) ({ frames := 8, cells := 1, slots := 6, locals := 162 } : Room) (kPre D H [.ref x1, .int (kI (li))]) kFl (kXC "java/lang/IndexOutOfBoundsException" (kNW H)) (1) (6) (kNW H) := by
  refine vx_ofW (cc := cX1_lineRound) (maxL := 2) (ret := (Option.some Jvm.ClassFile.FieldType.int)) (by decide) rfl ?_
  intro p e s m args below meth c s₁ B hml hxt hv
  obtain ⟨rfl, hH, hK⟩ := hv
  subst hH
  have hx := B.exec
  have hb := B.bytes
  have hr := B.returns
  have hts := atoms_spec (ws := ws_ yX1_lineRound cX1_lineRound 2 (Option.some Jvm.ClassFile.FieldType.int)) B.pre
  have hts : ∀ w ∈ lw_all, w.before _ s = true := fun w h => hts w (List.mem_cons_of_mem _ h)
  have hown : s.vm.findClass RX1 = some m.cls := findClass_of_methodNamed B.named
  have hlk := B.notSynchronized
  have hS : va_S (kNW s.heap) s.heap s.heap [] := va_S.rf
  have hB : ∀ q, (kNW s.heap) q → kBase D ≤ q := fun q h => Nat.le_trans hK.size h
  have hl := lv_entry ([.ref x1, .int (kI (li))]) (n := 2) (Nat.le_of_ble_eq_true rfl)
  rw [lg_entry_eq]
  generalize (lg_sl ([.ref x1, .int (kI (li))]) ++ List.replicate (2 - (lg_sl ([.ref x1, .int (kI (li))])).length) Slot.unset).toArray = ls at hl ⊢
  have hl : lv_has ls 2 [(0, .ref x1), (1, .int (kI (li)))] := hl
  have hL8 := hok.1
  refine lv_aload_n hx hb dX1_lineRound_0 rfl (lv_at hl 0 rfl) ?_
  refine lv_iload_n hx hb dX1_lineRound_1 rfl (lv_at hl 1 rfl) ?_
  exact kx_thr (vx_runV (As := [.int (kI (li))]) (rest := []) ⟨hx, hb, hml, hown, hts⟩ (x_line l hl9 D s.heap x1 snp hi bu st la mc ea F S gap li hO_x1 hO_st hO_la hP_kLs_ea hP_kLn_F (by first | assumption | omega) (by first | assumption | omega) (by first | assumption | omega)) (cwV 1 hts (lw_V q1864 q1866 qs35 q79 q1867) rfl rfl rfl (by decide +kernel) ⟨Nat.le_of_ble_eq_true rfl, Nat.le_of_ble_eq_true rfl⟩) (kx_pv hK hS hB (kx_rc hK hO_x1 (C := RX1) (T := TX1) (N := 4) rfl)) rfl rfl hl.1 rfl (lv_room (Nat.le_of_ble_eq_true rfl)) dX1_lineRound_2 ⟨by first | exact Nat.le_of_ble_eq_true rfl | omega | (show _ ≤ _; omega) | (dsimp only [headSpec]; omega), by first | exact Nat.le_of_ble_eq_true rfl | omega | (show _ ≤ _; omega) | (dsimp only [headSpec]; omega)⟩) hS (fun q _ h => by have h9 := hS.1; (try dsimp only at h); (try dsimp only); (try simp only [kNW] at h); (try simp only [kNW]); omega) (fun q h => by have h9 := hS.1; (try dsimp only at h); (try dsimp only); (try simp only [kNW] at h); (try simp only [kNW]); omega) hxt hlk (by first | exact Nat.le_of_ble_eq_true rfl | omega | (show _ ≤ _; omega) | (dsimp only [headSpec]; omega)) (by first | exact Nat.le_of_ble_eq_true rfl | omega | (show _ ≤ _; omega) | (dsimp only [headSpec]; omega))

set_option maxHeartbeats 4000000 in
set_option maxRecDepth 100000 in
theorem x_isSteady (l : Launch) (hl9 : l.stackTraces = false) (D : kG) (H : Heap) (x1 : Nat) (snp : Option Nat) (hi : Nat) (bu : Nat) (st : Nat) (la : Nat) (mc : Int) (ea : Nat) (F : Fts) (S : Ls) (gap : Int) (li : Int) (hO_x1 : kO D H x1 0 [.ref st, va_rf (snp), .ref hi, .ref bu]) (hO_st : kO D H st 1 [.ref la, .int (kI (gap))]) (hO_la : kO D H la 9 [.int (kI (mc)), .ref ea, .int (kI ((S.length : Nat) : Int))]) (hP_kLs_ea : kLs D H ea S.length F) (hP_kLn_F : kLn D H F S) (hok : LsOK S gap) (hr_li : -2147483648 ≤ li ∧ li ≤ 2147483647) (hnl : li < 0 ∨ (S.length : Int) ≤ li) : vx_Met l yX1_isSteady (ws_ yX1_isSteady cX1_isSteady 2 (Option.some Jvm.ClassFile.FieldType.boolean)) ({ frames := 8, cells := 1, slots := 6, locals := 162 } : Room) (kPre D H [.ref x1, .int (kI (li))]) kFl (kXC "java/lang/IndexOutOfBoundsException" (kNW H)) (1) (6) (kNW H) := by
  refine vx_ofW (cc := cX1_isSteady) (maxL := 2) (ret := (Option.some Jvm.ClassFile.FieldType.boolean)) (by decide) rfl ?_
  intro p e s m args below meth c s₁ B hml hxt hv
  obtain ⟨rfl, hH, hK⟩ := hv
  subst hH
  have hx := B.exec
  have hb := B.bytes
  have hr := B.returns
  have hts := atoms_spec (ws := ws_ yX1_isSteady cX1_isSteady 2 (Option.some Jvm.ClassFile.FieldType.boolean)) B.pre
  have hts : ∀ w ∈ lw_all, w.before _ s = true := fun w h => hts w (List.mem_cons_of_mem _ h)
  have hown : s.vm.findClass RX1 = some m.cls := findClass_of_methodNamed B.named
  have hlk := B.notSynchronized
  have hS : va_S (kNW s.heap) s.heap s.heap [] := va_S.rf
  have hB : ∀ q, (kNW s.heap) q → kBase D ≤ q := fun q h => Nat.le_trans hK.size h
  have hl := lv_entry ([.ref x1, .int (kI (li))]) (n := 2) (Nat.le_of_ble_eq_true rfl)
  rw [lg_entry_eq]
  generalize (lg_sl ([.ref x1, .int (kI (li))]) ++ List.replicate (2 - (lg_sl ([.ref x1, .int (kI (li))])).length) Slot.unset).toArray = ls at hl ⊢
  have hl : lv_has ls 2 [(0, .ref x1), (1, .int (kI (li)))] := hl
  have hL8 := hok.1
  refine lv_aload_n hx hb dX1_isSteady_0 rfl (lv_at hl 0 rfl) ?_
  refine lv_iload_n hx hb dX1_isSteady_1 rfl (lv_at hl 1 rfl) ?_
  exact kx_thr (vx_runV (As := [.int (kI (li))]) (rest := []) ⟨hx, hb, hml, hown, hts⟩ (x_line l hl9 D s.heap x1 snp hi bu st la mc ea F S gap li hO_x1 hO_st hO_la hP_kLs_ea hP_kLn_F (by first | assumption | omega) (by first | assumption | omega) (by first | assumption | omega)) (cwV 1 hts (lw_V q1864 q1866 qs35 q79 q1867) rfl rfl rfl (by decide +kernel) ⟨Nat.le_of_ble_eq_true rfl, Nat.le_of_ble_eq_true rfl⟩) (kx_pv hK hS hB (kx_rc hK hO_x1 (C := RX1) (T := TX1) (N := 4) rfl)) rfl rfl hl.1 rfl (lv_room (Nat.le_of_ble_eq_true rfl)) dX1_isSteady_2 ⟨by first | exact Nat.le_of_ble_eq_true rfl | omega | (show _ ≤ _; omega) | (dsimp only [headSpec]; omega), by first | exact Nat.le_of_ble_eq_true rfl | omega | (show _ ≤ _; omega) | (dsimp only [headSpec]; omega)⟩) hS (fun q _ h => by have h9 := hS.1; (try dsimp only at h); (try dsimp only); (try simp only [kNW] at h); (try simp only [kNW]); omega) (fun q h => by have h9 := hS.1; (try dsimp only at h); (try dsimp only); (try simp only [kNW] at h); (try simp only [kNW]); omega) hxt hlk (by first | exact Nat.le_of_ble_eq_true rfl | omega | (show _ ≤ _; omega) | (dsimp only [headSpec]; omega)) (by first | exact Nat.le_of_ble_eq_true rfl | omega | (show _ ≤ _; omega) | (dsimp only [headSpec]; omega))

set_option maxHeartbeats 4000000 in
set_option maxRecDepth 100000 in
theorem x_wipe (l : Launch) (hl9 : l.stackTraces = false) (D : kG) (H : Heap) (x1 : Nat) (snp : Option Nat) (hi : Nat) (bu : Nat) (st : Nat) (la : Nat) (mc : Int) (ea : Nat) (F : Fts) (S : Ls) (gap : Int) (li : Int) (hO_x1 : kO D H x1 0 [.ref st, va_rf (snp), .ref hi, .ref bu]) (hO_st : kO D H st 1 [.ref la, .int (kI (gap))]) (hO_la : kO D H la 9 [.int (kI (mc)), .ref ea, .int (kI ((S.length : Nat) : Int))]) (hP_kLs_ea : kLs D H ea S.length F) (hP_kLn_F : kLn D H F S) (hok : LsOK S gap) (hr_li : -2147483648 ≤ li ∧ li ≤ 2147483647) (hnl : li < 0 ∨ (S.length : Int) ≤ li) : vx_Met l yX1_wipe (ws_ yX1_wipe cX1_wipe 2 (Option.some Jvm.ClassFile.FieldType.int)) ({ frames := 8, cells := 1, slots := 6, locals := 162 } : Room) (kPre D H [.ref x1, .int (kI (li))]) kFl (kXC "java/lang/IndexOutOfBoundsException" (kNW H)) (1) (6) (kNW H) := by
  refine vx_ofW (cc := cX1_wipe) (maxL := 2) (ret := (Option.some Jvm.ClassFile.FieldType.int)) (by decide) rfl ?_
  intro p e s m args below meth c s₁ B hml hxt hv
  obtain ⟨rfl, hH, hK⟩ := hv
  subst hH
  have hx := B.exec
  have hb := B.bytes
  have hr := B.returns
  have hts := atoms_spec (ws := ws_ yX1_wipe cX1_wipe 2 (Option.some Jvm.ClassFile.FieldType.int)) B.pre
  have hts : ∀ w ∈ lw_all, w.before _ s = true := fun w h => hts w (List.mem_cons_of_mem _ h)
  have hown : s.vm.findClass RX1 = some m.cls := findClass_of_methodNamed B.named
  have hlk := B.notSynchronized
  have hS : va_S (kNW s.heap) s.heap s.heap [] := va_S.rf
  have hB : ∀ q, (kNW s.heap) q → kBase D ≤ q := fun q h => Nat.le_trans hK.size h
  have hl := lv_entry ([.ref x1, .int (kI (li))]) (n := 2) (Nat.le_of_ble_eq_true rfl)
  rw [lg_entry_eq]
  generalize (lg_sl ([.ref x1, .int (kI (li))]) ++ List.replicate (2 - (lg_sl ([.ref x1, .int (kI (li))])).length) Slot.unset).toArray = ls at hl ⊢
  have hl : lv_has ls 2 [(0, .ref x1), (1, .int (kI (li)))] := hl
  have hL8 := hok.1
  refine lv_aload_n hx hb dX1_wipe_0 rfl (lv_at hl 0 rfl) ?_
  refine lv_iload_n hx hb dX1_wipe_1 rfl (lv_at hl 1 rfl) ?_
  exact kx_thr (vx_runV (As := [.int (kI (li))]) (rest := []) ⟨hx, hb, hml, hown, hts⟩ (x_line l hl9 D s.heap x1 snp hi bu st la mc ea F S gap li hO_x1 hO_st hO_la hP_kLs_ea hP_kLn_F (by first | assumption | omega) (by first | assumption | omega) (by first | assumption | omega)) (cwV 1 hts (lw_V q1864 q1866 qs35 q79 q1867) rfl rfl rfl (by decide +kernel) ⟨Nat.le_of_ble_eq_true rfl, Nat.le_of_ble_eq_true rfl⟩) (kx_pv hK hS hB (kx_rc hK hO_x1 (C := RX1) (T := TX1) (N := 4) rfl)) rfl rfl hl.1 rfl (lv_room (Nat.le_of_ble_eq_true rfl)) dX1_wipe_2 ⟨by first | exact Nat.le_of_ble_eq_true rfl | omega | (show _ ≤ _; omega) | (dsimp only [headSpec]; omega), by first | exact Nat.le_of_ble_eq_true rfl | omega | (show _ ≤ _; omega) | (dsimp only [headSpec]; omega)⟩) hS (fun q _ h => by have h9 := hS.1; (try dsimp only at h); (try dsimp only); (try simp only [kNW] at h); (try simp only [kNW]); omega) (fun q h => by have h9 := hS.1; (try dsimp only at h); (try dsimp only); (try simp only [kNW] at h); (try simp only [kNW]); omega) hxt hlk (by first | exact Nat.le_of_ble_eq_true rfl | omega | (show _ ≤ _; omega) | (dsimp only [headSpec]; omega)) (by first | exact Nat.le_of_ble_eq_true rfl | omega | (show _ ≤ _; omega) | (dsimp only [headSpec]; omega))

set_option maxHeartbeats 4000000 in
set_option maxRecDepth 100000 in
theorem x_unlabel (l : Launch) (hl9 : l.stackTraces = false) (D : kG) (H : Heap) (x1 : Nat) (snp : Option Nat) (hi : Nat) (bu : Nat) (st : Nat) (la : Nat) (mc : Int) (ea : Nat) (F : Fts) (S : Ls) (gap : Int) (li : Int) (hO_x1 : kO D H x1 0 [.ref st, va_rf (snp), .ref hi, .ref bu]) (hO_st : kO D H st 1 [.ref la, .int (kI (gap))]) (hO_la : kO D H la 9 [.int (kI (mc)), .ref ea, .int (kI ((S.length : Nat) : Int))]) (hP_kLs_ea : kLs D H ea S.length F) (hP_kLn_F : kLn D H F S) (hok : LsOK S gap) (hr_li : -2147483648 ≤ li ∧ li ≤ 2147483647) (hnl : li < 0 ∨ (S.length : Int) ≤ li) : vx_Met l yX1_unlabel (ws_ yX1_unlabel cX1_unlabel 3 (Option.some Jvm.ClassFile.FieldType.int)) ({ frames := 8, cells := 1, slots := 6, locals := 162 } : Room) (kPre D H [.ref x1, .int (kI (li))]) kFl (kXC "java/lang/IndexOutOfBoundsException" (kNW H)) (1) (6) (kNW H) := by
  refine vx_ofW (cc := cX1_unlabel) (maxL := 3) (ret := (Option.some Jvm.ClassFile.FieldType.int)) (by decide) rfl ?_
  intro p e s m args below meth c s₁ B hml hxt hv
  obtain ⟨rfl, hH, hK⟩ := hv
  subst hH
  have hx := B.exec
  have hb := B.bytes
  have hr := B.returns
  have hts := atoms_spec (ws := ws_ yX1_unlabel cX1_unlabel 3 (Option.some Jvm.ClassFile.FieldType.int)) B.pre
  have hts : ∀ w ∈ lw_all, w.before _ s = true := fun w h => hts w (List.mem_cons_of_mem _ h)
  have hown : s.vm.findClass RX1 = some m.cls := findClass_of_methodNamed B.named
  have hlk := B.notSynchronized
  have hS : va_S (kNW s.heap) s.heap s.heap [] := va_S.rf
  have hB : ∀ q, (kNW s.heap) q → kBase D ≤ q := fun q h => Nat.le_trans hK.size h
  have hl := lv_entry ([.ref x1, .int (kI (li))]) (n := 3) (Nat.le_of_ble_eq_true rfl)
  rw [lg_entry_eq]
  generalize (lg_sl ([.ref x1, .int (kI (li))]) ++ List.replicate (3 - (lg_sl ([.ref x1, .int (kI (li))])).length) Slot.unset).toArray = ls at hl ⊢
  have hl : lv_has ls 3 [(0, .ref x1), (1, .int (kI (li)))] := hl
  have hL8 := hok.1
  refine lv_aload_n hx hb dX1_unlabel_0 rfl (lv_at hl 0 rfl) ?_
  refine lv_iload_n hx hb dX1_unlabel_1 rfl (lv_at hl 1 rfl) ?_
  exact kx_thr (vx_runV (As := [.int (kI (li))]) (rest := []) ⟨hx, hb, hml, hown, hts⟩ (x_line l hl9 D s.heap x1 snp hi bu st la mc ea F S gap li hO_x1 hO_st hO_la hP_kLs_ea hP_kLn_F (by first | assumption | omega) (by first | assumption | omega) (by first | assumption | omega)) (cwV 1 hts (lw_V q1864 q1866 qs35 q79 q1867) rfl rfl rfl (by decide +kernel) ⟨Nat.le_of_ble_eq_true rfl, Nat.le_of_ble_eq_true rfl⟩) (kx_pv hK hS hB (kx_rc hK hO_x1 (C := RX1) (T := TX1) (N := 4) rfl)) rfl rfl hl.1 rfl (lv_room (Nat.le_of_ble_eq_true rfl)) dX1_unlabel_2 ⟨by first | exact Nat.le_of_ble_eq_true rfl | omega | (show _ ≤ _; omega) | (dsimp only [headSpec]; omega), by first | exact Nat.le_of_ble_eq_true rfl | omega | (show _ ≤ _; omega) | (dsimp only [headSpec]; omega)⟩) hS (fun q _ h => by have h9 := hS.1; (try dsimp only at h); (try dsimp only); (try simp only [kNW] at h); (try simp only [kNW]); omega) (fun q h => by have h9 := hS.1; (try dsimp only at h); (try dsimp only); (try simp only [kNW] at h); (try simp only [kNW]); omega) hxt hlk (by first | exact Nat.le_of_ble_eq_true rfl | omega | (show _ ≤ _; omega) | (dsimp only [headSpec]; omega)) (by first | exact Nat.le_of_ble_eq_true rfl | omega | (show _ ≤ _; omega) | (dsimp only [headSpec]; omega))

set_option maxHeartbeats 4000000 in
set_option maxRecDepth 100000 in
theorem x_labelBest (l : Launch) (hl9 : l.stackTraces = false) (D : kG) (H : Heap) (x1 : Nat) (snp : Option Nat) (hi : Nat) (bu : Nat) (st : Nat) (la : Nat) (mc : Int) (ea : Nat) (F : Fts) (S : Ls) (gap : Int) (li : Int) (hO_x1 : kO D H x1 0 [.ref st, va_rf (snp), .ref hi, .ref bu]) (hO_st : kO D H st 1 [.ref la, .int (kI (gap))]) (hO_la : kO D H la 9 [.int (kI (mc)), .ref ea, .int (kI ((S.length : Nat) : Int))]) (hP_kLs_ea : kLs D H ea S.length F) (hP_kLn_F : kLn D H F S) (hok : LsOK S gap) (hr_li : -2147483648 ≤ li ∧ li ≤ 2147483647) (hnl : li < 0 ∨ (S.length : Int) ≤ li) : vx_Met l yX1_labelBest (ws_ yX1_labelBest cX1_labelBest 2 (Option.some Jvm.ClassFile.FieldType.int)) ({ frames := 8, cells := 1, slots := 6, locals := 162 } : Room) (kPre D H [.ref x1, .int (kI (li))]) kFl (kXC "java/lang/IndexOutOfBoundsException" (kNW H)) (1) (6) (kNW H) := by
  refine vx_ofW (cc := cX1_labelBest) (maxL := 2) (ret := (Option.some Jvm.ClassFile.FieldType.int)) (by decide) rfl ?_
  intro p e s m args below meth c s₁ B hml hxt hv
  obtain ⟨rfl, hH, hK⟩ := hv
  subst hH
  have hx := B.exec
  have hb := B.bytes
  have hr := B.returns
  have hts := atoms_spec (ws := ws_ yX1_labelBest cX1_labelBest 2 (Option.some Jvm.ClassFile.FieldType.int)) B.pre
  have hts : ∀ w ∈ lw_all, w.before _ s = true := fun w h => hts w (List.mem_cons_of_mem _ h)
  have hown : s.vm.findClass RX1 = some m.cls := findClass_of_methodNamed B.named
  have hlk := B.notSynchronized
  have hS : va_S (kNW s.heap) s.heap s.heap [] := va_S.rf
  have hB : ∀ q, (kNW s.heap) q → kBase D ≤ q := fun q h => Nat.le_trans hK.size h
  have hl := lv_entry ([.ref x1, .int (kI (li))]) (n := 2) (Nat.le_of_ble_eq_true rfl)
  rw [lg_entry_eq]
  generalize (lg_sl ([.ref x1, .int (kI (li))]) ++ List.replicate (2 - (lg_sl ([.ref x1, .int (kI (li))])).length) Slot.unset).toArray = ls at hl ⊢
  have hl : lv_has ls 2 [(0, .ref x1), (1, .int (kI (li)))] := hl
  have hL8 := hok.1
  refine lv_aload_n hx hb dX1_labelBest_0 rfl (lv_at hl 0 rfl) ?_
  refine lv_iload_n hx hb dX1_labelBest_1 rfl (lv_at hl 1 rfl) ?_
  exact kx_thr (vx_runV (As := [.int (kI (li))]) (rest := []) ⟨hx, hb, hml, hown, hts⟩ (x_line l hl9 D s.heap x1 snp hi bu st la mc ea F S gap li hO_x1 hO_st hO_la hP_kLs_ea hP_kLn_F (by first | assumption | omega) (by first | assumption | omega) (by first | assumption | omega)) (cwV 1 hts (lw_V q1864 q1866 qs35 q79 q1867) rfl rfl rfl (by decide +kernel) ⟨Nat.le_of_ble_eq_true rfl, Nat.le_of_ble_eq_true rfl⟩) (kx_pv hK hS hB (kx_rc hK hO_x1 (C := RX1) (T := TX1) (N := 4) rfl)) rfl rfl hl.1 rfl (lv_room (Nat.le_of_ble_eq_true rfl)) dX1_labelBest_2 ⟨by first | exact Nat.le_of_ble_eq_true rfl | omega | (show _ ≤ _; omega) | (dsimp only [headSpec]; omega), by first | exact Nat.le_of_ble_eq_true rfl | omega | (show _ ≤ _; omega) | (dsimp only [headSpec]; omega)⟩) hS (fun q _ h => by have h9 := hS.1; (try dsimp only at h); (try dsimp only); (try simp only [kNW] at h); (try simp only [kNW]); omega) (fun q h => by have h9 := hS.1; (try dsimp only at h); (try dsimp only); (try simp only [kNW] at h); (try simp only [kNW]); omega) hxt hlk (by first | exact Nat.le_of_ble_eq_true rfl | omega | (show _ ≤ _; omega) | (dsimp only [headSpec]; omega)) (by first | exact Nat.le_of_ble_eq_true rfl | omega | (show _ ≤ _; omega) | (dsimp only [headSpec]; omega))

set_option maxHeartbeats 4000000 in
set_option maxRecDepth 100000 in
theorem x_setLevel (l : Launch) (hl9 : l.stackTraces = false) (D : kG) (H : Heap) (x1 : Nat) (snp : Option Nat) (hi : Nat) (bu : Nat) (st : Nat) (la : Nat) (mc : Int) (ea : Nat) (F : Fts) (S : Ls) (gap : Int) (li : Int) (lv : Int) (hO_x1 : kO D H x1 0 [.ref st, va_rf (snp), .ref hi, .ref bu]) (hO_st : kO D H st 1 [.ref la, .int (kI (gap))]) (hO_la : kO D H la 9 [.int (kI (mc)), .ref ea, .int (kI ((S.length : Nat) : Int))]) (hP_kLs_ea : kLs D H ea S.length F) (hP_kLn_F : kLn D H F S) (hok : LsOK S gap) (hr_li : -2147483648 ≤ li ∧ li ≤ 2147483647) (hnl : li < 0 ∨ (S.length : Int) ≤ li) : vx_Met l yX1_setLevel (ws_ yX1_setLevel cX1_setLevel 4 (Option.some Jvm.ClassFile.FieldType.int)) ({ frames := 8, cells := 1, slots := 6, locals := 162 } : Room) (kPre D H [.ref x1, .int (kI (li)), .int (kI (lv))]) kFl (kXC "java/lang/IndexOutOfBoundsException" (kNW H)) (1) (6) (kNW H) := by
  refine vx_ofW (cc := cX1_setLevel) (maxL := 4) (ret := (Option.some Jvm.ClassFile.FieldType.int)) (by decide) rfl ?_
  intro p e s m args below meth c s₁ B hml hxt hv
  obtain ⟨rfl, hH, hK⟩ := hv
  subst hH
  have hx := B.exec
  have hb := B.bytes
  have hr := B.returns
  have hts := atoms_spec (ws := ws_ yX1_setLevel cX1_setLevel 4 (Option.some Jvm.ClassFile.FieldType.int)) B.pre
  have hts : ∀ w ∈ lw_all, w.before _ s = true := fun w h => hts w (List.mem_cons_of_mem _ h)
  have hown : s.vm.findClass RX1 = some m.cls := findClass_of_methodNamed B.named
  have hlk := B.notSynchronized
  have hS : va_S (kNW s.heap) s.heap s.heap [] := va_S.rf
  have hB : ∀ q, (kNW s.heap) q → kBase D ≤ q := fun q h => Nat.le_trans hK.size h
  have hl := lv_entry ([.ref x1, .int (kI (li)), .int (kI (lv))]) (n := 4) (Nat.le_of_ble_eq_true rfl)
  rw [lg_entry_eq]
  generalize (lg_sl ([.ref x1, .int (kI (li)), .int (kI (lv))]) ++ List.replicate (4 - (lg_sl ([.ref x1, .int (kI (li)), .int (kI (lv))])).length) Slot.unset).toArray = ls at hl ⊢
  have hl : lv_has ls 4 [(0, .ref x1), (1, .int (kI (li))), (2, .int (kI (lv)))] := hl
  have hL8 := hok.1
  refine lv_aload_n hx hb dX1_setLevel_0 rfl (lv_at hl 0 rfl) ?_
  refine lv_iload_n hx hb dX1_setLevel_1 rfl (lv_at hl 1 rfl) ?_
  exact kx_thr (vx_runV (As := [.int (kI (li))]) (rest := []) ⟨hx, hb, hml, hown, hts⟩ (x_line l hl9 D s.heap x1 snp hi bu st la mc ea F S gap li hO_x1 hO_st hO_la hP_kLs_ea hP_kLn_F (by first | assumption | omega) (by first | assumption | omega) (by first | assumption | omega)) (cwV 1 hts (lw_V q1864 q1866 qs35 q79 q1867) rfl rfl rfl (by decide +kernel) ⟨Nat.le_of_ble_eq_true rfl, Nat.le_of_ble_eq_true rfl⟩) (kx_pv hK hS hB (kx_rc hK hO_x1 (C := RX1) (T := TX1) (N := 4) rfl)) rfl rfl hl.1 rfl (lv_room (Nat.le_of_ble_eq_true rfl)) dX1_setLevel_2 ⟨by first | exact Nat.le_of_ble_eq_true rfl | omega | (show _ ≤ _; omega) | (dsimp only [headSpec]; omega), by first | exact Nat.le_of_ble_eq_true rfl | omega | (show _ ≤ _; omega) | (dsimp only [headSpec]; omega)⟩) hS (fun q _ h => by have h9 := hS.1; (try dsimp only at h); (try dsimp only); (try simp only [kNW] at h); (try simp only [kNW]); omega) (fun q h => by have h9 := hS.1; (try dsimp only at h); (try dsimp only); (try simp only [kNW] at h); (try simp only [kNW]); omega) hxt hlk (by first | exact Nat.le_of_ble_eq_true rfl | omega | (show _ ≤ _; omega) | (dsimp only [headSpec]; omega)) (by first | exact Nat.le_of_ble_eq_true rfl | omega | (show _ ≤ _; omega) | (dsimp only [headSpec]; omega))

set_option maxHeartbeats 4000000 in
set_option maxRecDepth 100000 in
theorem x_isWithinByRays (l : Launch) (hl9 : l.stackTraces = false) (D : kG) (H : Heap) (x1 : Nat) (snp : Option Nat) (hi : Nat) (bu : Nat) (st : Nat) (la : Nat) (mc : Int) (ea : Nat) (F : Fts) (S : Ls) (gap : Int) (li : Int) (x : Int) (hO_x1 : kO D H x1 0 [.ref st, va_rf (snp), .ref hi, .ref bu]) (hO_st : kO D H st 1 [.ref la, .int (kI (gap))]) (hO_la : kO D H la 9 [.int (kI (mc)), .ref ea, .int (kI ((S.length : Nat) : Int))]) (hP_kLs_ea : kLs D H ea S.length F) (hP_kLn_F : kLn D H F S) (hok : LsOK S gap) (hr_li : -2147483648 ≤ li ∧ li ≤ 2147483647) (hnl : li < 0 ∨ (S.length : Int) ≤ li) : vx_Met l yX1_isWithinByRays (ws_ yX1_isWithinByRays cX1_isWithinByRays 3 (Option.some Jvm.ClassFile.FieldType.boolean)) ({ frames := 8, cells := 1, slots := 6, locals := 162 } : Room) (kPre D H [.ref x1, .int (kI (li)), .int (kI (x))]) kFl (kXC "java/lang/IndexOutOfBoundsException" (kNW H)) (1) (6) (kNW H) := by
  refine vx_ofW (cc := cX1_isWithinByRays) (maxL := 3) (ret := (Option.some Jvm.ClassFile.FieldType.boolean)) (by decide) rfl ?_
  intro p e s m args below meth c s₁ B hml hxt hv
  obtain ⟨rfl, hH, hK⟩ := hv
  subst hH
  have hx := B.exec
  have hb := B.bytes
  have hr := B.returns
  have hts := atoms_spec (ws := ws_ yX1_isWithinByRays cX1_isWithinByRays 3 (Option.some Jvm.ClassFile.FieldType.boolean)) B.pre
  have hts : ∀ w ∈ lw_all, w.before _ s = true := fun w h => hts w (List.mem_cons_of_mem _ h)
  have hown : s.vm.findClass RX1 = some m.cls := findClass_of_methodNamed B.named
  have hlk := B.notSynchronized
  have hS : va_S (kNW s.heap) s.heap s.heap [] := va_S.rf
  have hB : ∀ q, (kNW s.heap) q → kBase D ≤ q := fun q h => Nat.le_trans hK.size h
  have hl := lv_entry ([.ref x1, .int (kI (li)), .int (kI (x))]) (n := 3) (Nat.le_of_ble_eq_true rfl)
  rw [lg_entry_eq]
  generalize (lg_sl ([.ref x1, .int (kI (li)), .int (kI (x))]) ++ List.replicate (3 - (lg_sl ([.ref x1, .int (kI (li)), .int (kI (x))])).length) Slot.unset).toArray = ls at hl ⊢
  have hl : lv_has ls 3 [(0, .ref x1), (1, .int (kI (li))), (2, .int (kI (x)))] := hl
  have hL8 := hok.1
  refine lv_aload_n hx hb dX1_isWithinByRays_0 rfl (lv_at hl 0 rfl) ?_
  refine lv_iload_n hx hb dX1_isWithinByRays_1 rfl (lv_at hl 1 rfl) ?_
  exact kx_thr (vx_runV (As := [.int (kI (li))]) (rest := []) ⟨hx, hb, hml, hown, hts⟩ (x_line l hl9 D s.heap x1 snp hi bu st la mc ea F S gap li hO_x1 hO_st hO_la hP_kLs_ea hP_kLn_F (by first | assumption | omega) (by first | assumption | omega) (by first | assumption | omega)) (cwV 1 hts (lw_V q1864 q1866 qs35 q79 q1867) rfl rfl rfl (by decide +kernel) ⟨Nat.le_of_ble_eq_true rfl, Nat.le_of_ble_eq_true rfl⟩) (kx_pv hK hS hB (kx_rc hK hO_x1 (C := RX1) (T := TX1) (N := 4) rfl)) rfl rfl hl.1 rfl (lv_room (Nat.le_of_ble_eq_true rfl)) dX1_isWithinByRays_2 ⟨by first | exact Nat.le_of_ble_eq_true rfl | omega | (show _ ≤ _; omega) | (dsimp only [headSpec]; omega), by first | exact Nat.le_of_ble_eq_true rfl | omega | (show _ ≤ _; omega) | (dsimp only [headSpec]; omega)⟩) hS (fun q _ h => by have h9 := hS.1; (try dsimp only at h); (try dsimp only); (try simp only [kNW] at h); (try simp only [kNW]); omega) (fun q h => by have h9 := hS.1; (try dsimp only at h); (try dsimp only); (try simp only [kNW] at h); (try simp only [kNW]); omega) hxt hlk (by first | exact Nat.le_of_ble_eq_true rfl | omega | (show _ ≤ _; omega) | (dsimp only [headSpec]; omega)) (by first | exact Nat.le_of_ble_eq_true rfl | omega | (show _ ≤ _; omega) | (dsimp only [headSpec]; omega))

set_option maxHeartbeats 4000000 in
set_option maxRecDepth 100000 in
theorem x_isWithinBySpreading (l : Launch) (hl9 : l.stackTraces = false) (D : kG) (H : Heap) (x1 : Nat) (snp : Option Nat) (hi : Nat) (bu : Nat) (st : Nat) (la : Nat) (mc : Int) (ea : Nat) (F : Fts) (S : Ls) (gap : Int) (li : Int) (x : Int) (hO_x1 : kO D H x1 0 [.ref st, va_rf (snp), .ref hi, .ref bu]) (hO_st : kO D H st 1 [.ref la, .int (kI (gap))]) (hO_la : kO D H la 9 [.int (kI (mc)), .ref ea, .int (kI ((S.length : Nat) : Int))]) (hP_kLs_ea : kLs D H ea S.length F) (hP_kLn_F : kLn D H F S) (hok : LsOK S gap) (hr_li : -2147483648 ≤ li ∧ li ≤ 2147483647) (hnl : li < 0 ∨ (S.length : Int) ≤ li) : vx_Met l yX1_isWithinBySpreading (ws_ yX1_isWithinBySpreading cX1_isWithinBySpreading 3 (Option.some Jvm.ClassFile.FieldType.boolean)) ({ frames := 8, cells := 1, slots := 6, locals := 162 } : Room) (kPre D H [.ref x1, .int (kI (li)), .int (kI (x))]) kFl (kXC "java/lang/IndexOutOfBoundsException" (kNW H)) (1) (6) (kNW H) := by
  refine vx_ofW (cc := cX1_isWithinBySpreading) (maxL := 3) (ret := (Option.some Jvm.ClassFile.FieldType.boolean)) (by decide) rfl ?_
  intro p e s m args below meth c s₁ B hml hxt hv
  obtain ⟨rfl, hH, hK⟩ := hv
  subst hH
  have hx := B.exec
  have hb := B.bytes
  have hr := B.returns
  have hts := atoms_spec (ws := ws_ yX1_isWithinBySpreading cX1_isWithinBySpreading 3 (Option.some Jvm.ClassFile.FieldType.boolean)) B.pre
  have hts : ∀ w ∈ lw_all, w.before _ s = true := fun w h => hts w (List.mem_cons_of_mem _ h)
  have hown : s.vm.findClass RX1 = some m.cls := findClass_of_methodNamed B.named
  have hlk := B.notSynchronized
  have hS : va_S (kNW s.heap) s.heap s.heap [] := va_S.rf
  have hB : ∀ q, (kNW s.heap) q → kBase D ≤ q := fun q h => Nat.le_trans hK.size h
  have hl := lv_entry ([.ref x1, .int (kI (li)), .int (kI (x))]) (n := 3) (Nat.le_of_ble_eq_true rfl)
  rw [lg_entry_eq]
  generalize (lg_sl ([.ref x1, .int (kI (li)), .int (kI (x))]) ++ List.replicate (3 - (lg_sl ([.ref x1, .int (kI (li)), .int (kI (x))])).length) Slot.unset).toArray = ls at hl ⊢
  have hl : lv_has ls 3 [(0, .ref x1), (1, .int (kI (li))), (2, .int (kI (x)))] := hl
  have hL8 := hok.1
  refine lv_aload_n hx hb dX1_isWithinBySpreading_0 rfl (lv_at hl 0 rfl) ?_
  refine lv_iload_n hx hb dX1_isWithinBySpreading_1 rfl (lv_at hl 1 rfl) ?_
  exact kx_thr (vx_runV (As := [.int (kI (li))]) (rest := []) ⟨hx, hb, hml, hown, hts⟩ (x_line l hl9 D s.heap x1 snp hi bu st la mc ea F S gap li hO_x1 hO_st hO_la hP_kLs_ea hP_kLn_F (by first | assumption | omega) (by first | assumption | omega) (by first | assumption | omega)) (cwV 1 hts (lw_V q1864 q1866 qs35 q79 q1867) rfl rfl rfl (by decide +kernel) ⟨Nat.le_of_ble_eq_true rfl, Nat.le_of_ble_eq_true rfl⟩) (kx_pv hK hS hB (kx_rc hK hO_x1 (C := RX1) (T := TX1) (N := 4) rfl)) rfl rfl hl.1 rfl (lv_room (Nat.le_of_ble_eq_true rfl)) dX1_isWithinBySpreading_2 ⟨by first | exact Nat.le_of_ble_eq_true rfl | omega | (show _ ≤ _; omega) | (dsimp only [headSpec]; omega), by first | exact Nat.le_of_ble_eq_true rfl | omega | (show _ ≤ _; omega) | (dsimp only [headSpec]; omega)⟩) hS (fun q _ h => by have h9 := hS.1; (try dsimp only at h); (try dsimp only); (try simp only [kNW] at h); (try simp only [kNW]); omega) (fun q h => by have h9 := hS.1; (try dsimp only at h); (try dsimp only); (try simp only [kNW] at h); (try simp only [kNW]); omega) hxt hlk (by first | exact Nat.le_of_ble_eq_true rfl | omega | (show _ ≤ _; omega) | (dsimp only [headSpec]; omega)) (by first | exact Nat.le_of_ble_eq_true rfl | omega | (show _ ≤ _; omega) | (dsimp only [headSpec]; omega))

set_option maxHeartbeats 4000000 in
set_option maxRecDepth 100000 in
theorem x_whyNotStepped (l : Launch) (hl9 : l.stackTraces = false) (D : kG) (H : Heap) (x1 : Nat) (snp : Option Nat) (hi : Nat) (bu : Nat) (st : Nat) (la : Nat) (mc : Int) (ea : Nat) (F : Fts) (S : Ls) (gap : Int) (li : Int) (d : Int) (hO_x1 : kO D H x1 0 [.ref st, va_rf (snp), .ref hi, .ref bu]) (hO_st : kO D H st 1 [.ref la, .int (kI (gap))]) (hO_la : kO D H la 9 [.int (kI (mc)), .ref ea, .int (kI ((S.length : Nat) : Int))]) (hP_kLs_ea : kLs D H ea S.length F) (hP_kLn_F : kLn D H F S) (hok : LsOK S gap) (hr_li : -2147483648 ≤ li ∧ li ≤ 2147483647) (hnl : li < 0 ∨ (S.length : Int) ≤ li) : vx_Met l yX1_whyNotStepped (ws_ yX1_whyNotStepped cX1_whyNotStepped 3 (Option.some Jvm.ClassFile.FieldType.int)) ({ frames := 8, cells := 1, slots := 6, locals := 162 } : Room) (kPre D H [.ref x1, .int (kI (li)), .int (kI (d))]) kFl (kXC "java/lang/IndexOutOfBoundsException" (kNW H)) (1) (6) (kNW H) := by
  refine vx_ofW (cc := cX1_whyNotStepped) (maxL := 3) (ret := (Option.some Jvm.ClassFile.FieldType.int)) (by decide) rfl ?_
  intro p e s m args below meth c s₁ B hml hxt hv
  obtain ⟨rfl, hH, hK⟩ := hv
  subst hH
  have hx := B.exec
  have hb := B.bytes
  have hr := B.returns
  have hts := atoms_spec (ws := ws_ yX1_whyNotStepped cX1_whyNotStepped 3 (Option.some Jvm.ClassFile.FieldType.int)) B.pre
  have hts : ∀ w ∈ lw_all, w.before _ s = true := fun w h => hts w (List.mem_cons_of_mem _ h)
  have hown : s.vm.findClass RX1 = some m.cls := findClass_of_methodNamed B.named
  have hlk := B.notSynchronized
  have hS : va_S (kNW s.heap) s.heap s.heap [] := va_S.rf
  have hB : ∀ q, (kNW s.heap) q → kBase D ≤ q := fun q h => Nat.le_trans hK.size h
  have hl := lv_entry ([.ref x1, .int (kI (li)), .int (kI (d))]) (n := 3) (Nat.le_of_ble_eq_true rfl)
  rw [lg_entry_eq]
  generalize (lg_sl ([.ref x1, .int (kI (li)), .int (kI (d))]) ++ List.replicate (3 - (lg_sl ([.ref x1, .int (kI (li)), .int (kI (d))])).length) Slot.unset).toArray = ls at hl ⊢
  have hl : lv_has ls 3 [(0, .ref x1), (1, .int (kI (li))), (2, .int (kI (d)))] := hl
  have hL8 := hok.1
  refine lv_aload_n hx hb dX1_whyNotStepped_0 rfl (lv_at hl 0 rfl) ?_
  refine lv_iload_n hx hb dX1_whyNotStepped_1 rfl (lv_at hl 1 rfl) ?_
  exact kx_thr (vx_runV (As := [.int (kI (li))]) (rest := []) ⟨hx, hb, hml, hown, hts⟩ (x_line l hl9 D s.heap x1 snp hi bu st la mc ea F S gap li hO_x1 hO_st hO_la hP_kLs_ea hP_kLn_F (by first | assumption | omega) (by first | assumption | omega) (by first | assumption | omega)) (cwV 1 hts (lw_V q1864 q1866 qs35 q79 q1867) rfl rfl rfl (by decide +kernel) ⟨Nat.le_of_ble_eq_true rfl, Nat.le_of_ble_eq_true rfl⟩) (kx_pv hK hS hB (kx_rc hK hO_x1 (C := RX1) (T := TX1) (N := 4) rfl)) rfl rfl hl.1 rfl (lv_room (Nat.le_of_ble_eq_true rfl)) dX1_whyNotStepped_2 ⟨by first | exact Nat.le_of_ble_eq_true rfl | omega | (show _ ≤ _; omega) | (dsimp only [headSpec]; omega), by first | exact Nat.le_of_ble_eq_true rfl | omega | (show _ ≤ _; omega) | (dsimp only [headSpec]; omega)⟩) hS (fun q _ h => by have h9 := hS.1; (try dsimp only at h); (try dsimp only); (try simp only [kNW] at h); (try simp only [kNW]); omega) (fun q h => by have h9 := hS.1; (try dsimp only at h); (try dsimp only); (try simp only [kNW] at h); (try simp only [kNW]); omega) hxt hlk (by first | exact Nat.le_of_ble_eq_true rfl | omega | (show _ ≤ _; omega) | (dsimp only [headSpec]; omega)) (by first | exact Nat.le_of_ble_eq_true rfl | omega | (show _ ≤ _; omega) | (dsimp only [headSpec]; omega))

