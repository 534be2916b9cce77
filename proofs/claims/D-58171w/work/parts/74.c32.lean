set_option maxHeartbeats 4000000 in
set_option maxRecDepth 100000 in
theorem m_J4_length (l : Launch) (D : kG) (H : Heap) (bu : Nat) (vb : Nat) (ml : Bool) (cn : Nat) (hO_bu : kO D H bu 11 [.ref vb, .int (kI (0)), .int (kI (kb (ml))), .int (kI ((cn : Nat) : Int))]) : Met l yJ4_length (ws_ yJ4_length cJ4_length 1 (some .int)) ({ frames := 0, cells := 0, slots := 0, locals := 0 } : Room) (kPre D H [.ref bu]) (kQi (fun (r : Int) H' => H' = H ∧ r = ((cn : Nat) : Int)) kNO) (0) (0) (kNO) := by
  refine Met.ofW (cc := cJ4_length) (maxL := 1) (ret := (some .int)) (by decide) rfl ?_
  intro p e s m args below meth c s₁ B hml hv
  obtain ⟨rfl, hH, hK⟩ := hv
  subst hH
  have hx := B.exec
  have hb := B.bytes
  have hr := B.returns
  have hts := atoms_spec (ws := ws_ yJ4_length cJ4_length 1 (some .int)) B.pre
  have hts : ∀ w ∈ lw_all, w.before _ s = true := fun w h => hts w (List.mem_cons_of_mem _ h)
  have hown : s.vm.findClass RJ4 = some m.cls := findClass_of_methodNamed B.named
  have hlk := B.notSynchronized
  have hS : va_S kNO s.heap s.heap [] := va_S.rf
  have hB : ∀ q, kNO q → kBase D ≤ q := fun _ h => h.elim
  have hl := lv_entry ([.ref bu]) (n := 1) (Nat.le_of_ble_eq_true rfl)
  rw [lg_entry_eq]
  generalize (lg_sl ([.ref bu]) ++ List.replicate (1 - (lg_sl ([.ref bu])).length) Slot.unset).toArray = ls at hl ⊢
  have hl : lv_has ls 1 [(0, .ref bu)] := hl
  refine lv_aload_n hx hb dJ4_length_0 rfl (lv_at hl 0 rfl) ?_
  refine kx_get (v := .int (kI ((cn : Nat) : Int))) (C := RJ5) (T := TJ5) (N := 4) hx hb hts in_J5 hown hK hO_bu rfl 3 (by decide) q218 (fun _ h9 => h9) rfl dJ4_length_1 ?_
  exact kx_iret (z := ((cn : Nat) : Int)) hx hb hr hlk (⟨rfl, by first | rfl | omega | grind⟩) hS dJ4_length_4

set_option maxHeartbeats 4000000 in
set_option maxRecDepth 100000 in
theorem m_J5_length (l : Launch) (D : kG) (H : Heap) (bu : Nat) (vb : Nat) (ml : Bool) (cn : Nat) (hO_bu : kO D H bu 11 [.ref vb, .int (kI (0)), .int (kI (kb (ml))), .int (kI ((cn : Nat) : Int))]) : Met l yJ5_length (ws_ yJ5_length cJ5_length 1 (some .int)) ({ frames := 1, cells := 0, slots := 0, locals := 20 } : Room) (kPre D H [.ref bu]) (kQi (fun (r : Int) H' => H' = H ∧ r = ((cn : Nat) : Int)) kNO) (0) (0) (kNO) := by
  refine Met.ofW (cc := cJ5_length) (maxL := 1) (ret := (some .int)) (by decide) rfl ?_
  intro p e s m args below meth c s₁ B hml hv
  obtain ⟨rfl, hH, hK⟩ := hv
  subst hH
  have hx := B.exec
  have hb := B.bytes
  have hr := B.returns
  have hts := atoms_spec (ws := ws_ yJ5_length cJ5_length 1 (some .int)) B.pre
  have hts : ∀ w ∈ lw_all, w.before _ s = true := fun w h => hts w (List.mem_cons_of_mem _ h)
  have hown : s.vm.findClass RJ5 = some m.cls := findClass_of_methodNamed B.named
  have hlk := B.notSynchronized
  have hS : va_S kNO s.heap s.heap [] := va_S.rf
  have hB : ∀ q, kNO q → kBase D ≤ q := fun _ h => h.elim
  have hl := lv_entry ([.ref bu]) (n := 1) (Nat.le_of_ble_eq_true rfl)
  rw [lg_entry_eq]
  generalize (lg_sl ([.ref bu]) ++ List.replicate (1 - (lg_sl ([.ref bu])).length) Slot.unset).toArray = ls at hl ⊢
  have hl : lv_has ls 1 [(0, .ref bu)] := hl
  refine lv_aload_n hx hb dJ5_length_0 rfl (lv_at hl 0 rfl) ?_
  refine kx_ci0 (va_runSU (C := RJ5) (As := []) (rest := []) (hK.at (ci := 11) rfl) ⟨hx, hb, hml, hown, hts⟩ (m_J4_length l D s.heap bu vb ml cn hO_bu ) (va_cwSU 0 hts (lw_SU q1296 q2649 q227 q1297 q85 q1298) rfl rfl rfl (by decide +kernel) ⟨Nat.le_of_ble_eq_true rfl, Nat.le_of_ble_eq_true rfl⟩) (kx_pv hK hS hB (kx_rc hK hO_bu (C := RJ5) (T := TJ5) (N := 4) rfl)) rfl rfl hl.1 rfl (lv_room (Nat.le_of_ble_eq_true rfl)) dJ5_length_1 ⟨by first | exact Nat.le_of_ble_eq_true rfl | omega | (show _ ≤ _; omega) | (dsimp only [headSpec]; omega), by first | exact Nat.le_of_ble_eq_true rfl | omega | (show _ ≤ _; omega) | (dsimp only [headSpec]; omega)⟩) hS (fun z_4 locs_1 hz_3 hS_2 => ?_)
  subst z_4
  exact kx_iret (z := ((cn : Nat) : Int)) hx hb hr hlk (⟨rfl, by first | rfl | omega | grind⟩) hS_2 dJ5_length_4

set_option maxHeartbeats 4000000 in
set_option maxRecDepth 100000 in
theorem m_J4_isLatin1 (l : Launch) (D : kG) (H : Heap) (bu : Nat) (vb : Nat) (ml : Bool) (cn : Nat) (hO_bu : kO D H bu 11 [.ref vb, .int (kI (0)), .int (kI (kb (ml))), .int (kI ((cn : Nat) : Int))]) : Met l yJ4_isLatin1 (ws_ yJ4_isLatin1 cJ4_isLatin1 1 (some .boolean)) ({ frames := 0, cells := 0, slots := 0, locals := 0 } : Room) (kPre D H [.ref bu]) (kQb (fun (r : Bool) H' => H' = H ∧ r = true) kNO) (0) (0) (kNO) := by
  refine Met.ofW (cc := cJ4_isLatin1) (maxL := 1) (ret := (some .boolean)) (by decide) rfl ?_
  intro p e s m args below meth c s₁ B hml hv
  obtain ⟨rfl, hH, hK⟩ := hv
  subst hH
  have hx := B.exec
  have hb := B.bytes
  have hr := B.returns
  have hts := atoms_spec (ws := ws_ yJ4_isLatin1 cJ4_isLatin1 1 (some .boolean)) B.pre
  have hts : ∀ w ∈ lw_all, w.before _ s = true := fun w h => hts w (List.mem_cons_of_mem _ h)
  have hown : s.vm.findClass RJ4 = some m.cls := findClass_of_methodNamed B.named
  have hlk := B.notSynchronized
  have hS : va_S kNO s.heap s.heap [] := va_S.rf
  have hB : ∀ q, kNO q → kBase D ≤ q := fun _ h => h.elim
  have hl := lv_entry ([.ref bu]) (n := 1) (Nat.le_of_ble_eq_true rfl)
  rw [lg_entry_eq]
  generalize (lg_sl ([.ref bu]) ++ List.replicate (1 - (lg_sl ([.ref bu])).length) Slot.unset).toArray = ls at hl ⊢
  have hl : lv_has ls 1 [(0, .ref bu)] := hl
  refine kx_gets (v := .int (kI (1))) hx hb hts hK.sCS hS hB hown q205 (fun _ h9 => h9) dJ4_isLatin1_0 ?_
  refine kx_if_eq (x := 1) (tgt := 17) hx hb dJ4_isLatin1_3 (by decide) (by omega) (by omega) (fun c_3_1 => ?_) (fun c_3_1 => ?_)
  · -- taken at 3
    exfalso; omega
  · -- not taken at 3
    refine lv_aload_n hx hb dJ4_isLatin1_6 rfl (lv_at hl 0 rfl) ?_
    refine kx_get (v := .int (kI (0))) (C := RJ5) (T := TJ5) (N := 4) hx hb hts in_J5 hown hK hO_bu rfl 1 (by decide) q215 (fun _ h9 => h9) rfl dJ4_isLatin1_7 ?_
    refine kx_if_ne (x := 0) (tgt := 17) hx hb dJ4_isLatin1_10 (by decide) (by omega) (by omega) (fun c_10_2 => ?_) (fun c_10_2 => ?_)
    · -- taken at 10
      exfalso; omega
    · -- not taken at 10
      refine kx_iconst hx hb dJ4_isLatin1_13 ?_
      refine lv_goto (tgt := 18) hx hb dJ4_isLatin1_14 (by decide) ?_
      exact kx_zret (z := true) hx hb hr hlk (⟨rfl, by first | rfl | exact (decide_eq_true (by omega)).symm | exact (decide_eq_false (by omega)).symm | grind⟩) hS dJ4_isLatin1_18

set_option maxHeartbeats 4000000 in
set_option maxRecDepth 100000 in
theorem m_J24_canEncode_2 (l : Launch) (D : kG) (H : Heap) (x : Int) (hxr : 0 ≤ x ∧ x < 128) : Met l yJ24_canEncode_2 (ws_ yJ24_canEncode_2 cJ24_canEncode_2 1 (some .boolean)) ({ frames := 0, cells := 0, slots := 0, locals := 0 } : Room) (kPre D H [.int (kI (x))]) (kQb (fun (r : Bool) H' => H' = H ∧ r = true) kNO) (0) (0) (kNO) := by
  refine Met.ofW (cc := cJ24_canEncode_2) (maxL := 1) (ret := (some .boolean)) (by decide) rfl ?_
  intro p e s m args below meth c s₁ B hml hv
  obtain ⟨rfl, hH, hK⟩ := hv
  subst hH
  have hx := B.exec
  have hb := B.bytes
  have hr := B.returns
  have hts := atoms_spec (ws := ws_ yJ24_canEncode_2 cJ24_canEncode_2 1 (some .boolean)) B.pre
  have hts : ∀ w ∈ lw_all, w.before _ s = true := fun w h => hts w (List.mem_cons_of_mem _ h)
  have hown : s.vm.findClass RJ24 = some m.cls := findClass_of_methodNamed B.named
  have hlk := B.notSynchronized
  have hS : va_S kNO s.heap s.heap [] := va_S.rf
  have hB : ∀ q, kNO q → kBase D ≤ q := fun _ h => h.elim
  have hl := lv_entry ([.int (kI (x))]) (n := 1) (Nat.le_of_ble_eq_true rfl)
  rw [lg_entry_eq]
  generalize (lg_sl ([.int (kI (x))]) ++ List.replicate (1 - (lg_sl ([.int (kI (x))])).length) Slot.unset).toArray = ls at hl ⊢
  have hl : lv_has ls 1 [(0, .int (kI (x)))] := hl
  refine lv_iload_n hx hb dJ24_canEncode_2_0 rfl (lv_at hl 0 rfl) ?_
  refine kx_sipush hx hb (by decide) dJ24_canEncode_2_1 ?_
  refine kx_icmp_gt (x := x) (y := 255) (tgt := 11) hx hb dJ24_canEncode_2_4 (by decide) (by omega) (by omega) (by omega) (by omega) (fun c_4_1 => ?_) (fun c_4_1 => ?_)
  · -- taken at 4
    exfalso; omega
  · -- not taken at 4
    refine kx_iconst hx hb dJ24_canEncode_2_7 ?_
    refine lv_goto (tgt := 12) hx hb dJ24_canEncode_2_8 (by decide) ?_
    exact kx_zret (z := true) hx hb hr hlk (⟨rfl, by first | rfl | exact (decide_eq_true (by omega)).symm | exact (decide_eq_false (by omega)).symm | grind⟩) hS dJ24_canEncode_2_12

set_option maxHeartbeats 4000000 in
set_option maxRecDepth 100000 in
theorem m_J17_newLength (l : Launch) (D : kG) (H : Heap) (x : Int) (y : Int) (hxr : x = 1) (hy : y = 18) : Met l yJ17_newLength (ws_ yJ17_newLength cJ17_newLength 4 (some .int)) ({ frames := 1, cells := 0, slots := 0, locals := 30 } : Room) (kPre D H [.int (kI ((16 : Nat) : Int)), .int (kI (x)), .int (kI (y))]) (kQi (fun (r : Int) H' => H' = H ∧ r = 34) kNO) (0) (0) (kNO) := by
  refine Met.ofW (cc := cJ17_newLength) (maxL := 4) (ret := (some .int)) (by decide) rfl ?_
  intro p e s m args below meth c s₁ B hml hv
  obtain ⟨rfl, hH, hK⟩ := hv
  subst hH
  have hx := B.exec
  have hb := B.bytes
  have hr := B.returns
  have hts := atoms_spec (ws := ws_ yJ17_newLength cJ17_newLength 4 (some .int)) B.pre
  have hts : ∀ w ∈ lw_all, w.before _ s = true := fun w h => hts w (List.mem_cons_of_mem _ h)
  have hown : s.vm.findClass RJ17 = some m.cls := findClass_of_methodNamed B.named
  have hlk := B.notSynchronized
  have hS : va_S kNO s.heap s.heap [] := va_S.rf
  have hB : ∀ q, kNO q → kBase D ≤ q := fun _ h => h.elim
  have hl := lv_entry ([.int (kI ((16 : Nat) : Int)), .int (kI (x)), .int (kI (y))]) (n := 4) (Nat.le_of_ble_eq_true rfl)
  rw [lg_entry_eq]
  generalize (lg_sl ([.int (kI ((16 : Nat) : Int)), .int (kI (x)), .int (kI (y))]) ++ List.replicate (4 - (lg_sl ([.int (kI ((16 : Nat) : Int)), .int (kI (x)), .int (kI (y))])).length) Slot.unset).toArray = ls at hl ⊢
  have hl : lv_has ls 4 [(0, .int (kI ((16 : Nat) : Int))), (1, .int (kI (x))), (2, .int (kI (y)))] := hl
  refine lv_iload_n hx hb dJ17_newLength_0 rfl (lv_at hl 0 rfl) ?_
  refine lv_iload_n hx hb dJ17_newLength_1 rfl (lv_at hl 1 rfl) ?_
  refine lv_iload_n hx hb dJ17_newLength_2 rfl (lv_at hl 2 rfl) ?_
  refine kx_mmax (x := x) (y := y) hx hb hml hl.1 hts hown q388 q389 q102 q390 (by first | exact Nat.le_of_ble_eq_true rfl | omega | (show _ ≤ _; omega) | (dsimp only [headSpec]; omega)) (by first | exact Nat.le_of_ble_eq_true rfl | omega | (show _ ≤ _; omega) | (dsimp only [headSpec]; omega)) (by first | exact Nat.le_of_ble_eq_true rfl | omega | (show _ ≤ _; omega) | (dsimp only [headSpec]; omega)) (by first | exact Nat.le_of_ble_eq_true rfl | omega | (show _ ≤ _; omega) | (dsimp only [headSpec]; omega)) (by omega) (by omega) (by omega) (by omega) dJ17_newLength_3 ?_
  refine kx_iadd hx hb dJ17_newLength_6 ?_
  refine lv_istore_n (lv' := [(3, .int (kI ((((16 : Nat) : Int) + (if x < y then y else x))))), (0, .int (kI ((16 : Nat) : Int))), (1, .int (kI (x))), (2, .int (kI (y)))]) hx hb dJ17_newLength_7 rfl hl (by decide) rfl (fun ls hl => ?_)
  refine kx_iconst hx hb dJ17_newLength_8 ?_
  refine lv_iload_n hx hb dJ17_newLength_9 rfl (lv_at hl 0 rfl) ?_
  refine kx_icmp_ge (x := 0) (y := (((16 : Nat) : Int) + (if x < y then y else x))) (tgt := 21) hx hb dJ17_newLength_10 (by decide) (by omega) (by omega) (by omega) (by omega) (fun c_10_1 => ?_) (fun c_10_1 => ?_)
  · -- taken at 10
    exfalso; omega
  · -- not taken at 10
    refine lv_iload_n hx hb dJ17_newLength_13 rfl (lv_at hl 0 rfl) ?_
    refine kx_ldc (z := 2147483639) hx hb hown (hts _ q391) (by decide) dJ17_newLength_14 ?_
    refine kx_icmp_gt (x := (((16 : Nat) : Int) + (if x < y then y else x))) (y := 2147483639) (tgt := 21) hx hb dJ17_newLength_16 (by decide) (by omega) (by omega) (by omega) (by omega) (fun c_16_2 => ?_) (fun c_16_2 => ?_)
    · -- taken at 16
      exfalso; omega
    · -- not taken at 16
      refine lv_iload_n hx hb dJ17_newLength_19 rfl (lv_at hl 0 rfl) ?_
      exact kx_iret (z := (((16 : Nat) : Int) + (if x < y then y else x))) hx hb hr hlk (⟨rfl, by split <;> omega⟩) hS dJ17_newLength_20

set_option maxHeartbeats 4000000 in
set_option maxRecDepth 100000 in
theorem m_J4_newCapacity (l : Launch) (D : kG) (H : Heap) (bu : Nat) (vb : Nat) (ml : Bool) (cn : Nat) (g : Nat → Int) (x : Int) (hO_bu : kO D H bu 11 [.ref vb, .int (kI (0)), .int (kI (kb (ml))), .int (kI ((cn : Nat) : Int))]) (hA_vb : kAb D H vb 16 g) (hxr : x = 17) : Met l yJ4_newCapacity (ws_ yJ4_newCapacity cJ4_newCapacity 6 (some .int)) ({ frames := 2, cells := 0, slots := 0, locals := 53 } : Room) (kPre D H [.ref bu, .int (kI (x))]) (kQi (fun (r : Int) H' => H' = H ∧ r = 34) kNO) (0) (0) (kNO) := by
  refine Met.ofW (cc := cJ4_newCapacity) (maxL := 6) (ret := (some .int)) (by decide) rfl ?_
  intro p e s m args below meth c s₁ B hml hv
  obtain ⟨rfl, hH, hK⟩ := hv
  subst hH
  have hx := B.exec
  have hb := B.bytes
  have hr := B.returns
  have hts := atoms_spec (ws := ws_ yJ4_newCapacity cJ4_newCapacity 6 (some .int)) B.pre
  have hts : ∀ w ∈ lw_all, w.before _ s = true := fun w h => hts w (List.mem_cons_of_mem _ h)
  have hown : s.vm.findClass RJ4 = some m.cls := findClass_of_methodNamed B.named
  have hlk := B.notSynchronized
  have hS : va_S kNO s.heap s.heap [] := va_S.rf
  have hB : ∀ q, kNO q → kBase D ≤ q := fun _ h => h.elim
  have hl := lv_entry ([.ref bu, .int (kI (x))]) (n := 6) (Nat.le_of_ble_eq_true rfl)
  rw [lg_entry_eq]
  generalize (lg_sl ([.ref bu, .int (kI (x))]) ++ List.replicate (6 - (lg_sl ([.ref bu, .int (kI (x))])).length) Slot.unset).toArray = ls at hl ⊢
  have hl : lv_has ls 6 [(0, .ref bu), (1, .int (kI (x)))] := hl
  refine lv_aload_n hx hb dJ4_newCapacity_0 rfl (lv_at hl 0 rfl) ?_
  refine kx_get (v := .ref vb) (C := RJ5) (T := TJ5) (N := 4) hx hb hts in_J5 hown hK hO_bu rfl 0 (by decide) q214 (fun _ h9 => h9) rfl dJ4_newCapacity_1 ?_
  refine kx_alen hx hb hK hA_vb rfl dJ4_newCapacity_4 ?_
  refine lv_istore_n (lv' := [(2, .int (kI ((16 : Nat) : Int))), (0, .ref bu), (1, .int (kI (x)))]) hx hb dJ4_newCapacity_5 rfl hl (by decide) rfl (fun ls hl => ?_)
  refine lv_iload_n hx hb dJ4_newCapacity_6 rfl (lv_at hl 2 rfl) ?_
  refine lv_aload_n hx hb dJ4_newCapacity_7 rfl (lv_at hl 1 rfl) ?_
  refine kx_get (v := .int (kI (0))) (C := RJ5) (T := TJ5) (N := 4) hx hb hts in_J5 hown hK hO_bu rfl 1 (by decide) q215 (fun _ h9 => h9) rfl dJ4_newCapacity_8 ?_
  refine kx_ishl0 hx hb (z := x) dJ4_newCapacity_11 ?_
  refine lv_istore_n (lv' := [(3, .int (kI (x))), (2, .int (kI ((16 : Nat) : Int))), (0, .ref bu), (1, .int (kI (x)))]) hx hb dJ4_newCapacity_12 rfl hl (by decide) rfl (fun ls hl => ?_)
  refine lv_iload_n hx hb dJ4_newCapacity_13 rfl (lv_at hl 0 rfl) ?_
  refine lv_iload_n hx hb dJ4_newCapacity_14 rfl (lv_at hl 1 rfl) ?_
  refine kx_isub hx hb dJ4_newCapacity_15 ?_
  refine lv_istore (lv' := [(4, .int (kI ((x - ((16 : Nat) : Int))))), (3, .int (kI (x))), (2, .int (kI ((16 : Nat) : Int))), (0, .ref bu), (1, .int (kI (x)))]) hx hb dJ4_newCapacity_16 hl (by decide) rfl (fun ls hl => ?_)
  refine lv_iload_n hx hb dJ4_newCapacity_18 rfl (lv_at hl 2 rfl) ?_
  refine lv_iload hx hb dJ4_newCapacity_19 (lv_at hl 0 rfl) ?_
  refine lv_iload_n hx hb dJ4_newCapacity_21 rfl (lv_at hl 2 rfl) ?_
  refine kx_iconst hx hb dJ4_newCapacity_22 ?_
  refine lv_aload_n hx hb dJ4_newCapacity_23 rfl (lv_at hl 3 rfl) ?_
  refine kx_get (v := .int (kI (0))) (C := RJ5) (T := TJ5) (N := 4) hx hb hts in_J5 hown hK hO_bu rfl 1 (by decide) q215 (fun _ h9 => h9) rfl dJ4_newCapacity_24 ?_
  refine kx_ishl0 hx hb (z := 2) dJ4_newCapacity_27 ?_
  refine kx_iadd hx hb dJ4_newCapacity_28 ?_
  refine kx_ci0 (va_runS (As := [.int (kI ((16 : Nat) : Int)), .int (kI ((x - ((16 : Nat) : Int)))), .int (kI ((((16 : Nat) : Int) + 2)))]) (rest := []) ⟨hx, hb, hml, hown, hts⟩ (m_J17_newLength l D s.heap ((x - ((16 : Nat) : Int))) ((((16 : Nat) : Int) + 2))  (by first | assumption | omega) (by first | assumption | omega)) (va_cwS 3 hts (lw_S q1333 q386 q101 q387) rfl rfl rfl (by decide +kernel) ⟨Nat.le_of_ble_eq_true rfl, Nat.le_of_ble_eq_true rfl⟩) (kx_ps hK hS hB) rfl rfl hl.1 rfl (lv_room (Nat.le_of_ble_eq_true rfl)) dJ4_newCapacity_29 ⟨by first | exact Nat.le_of_ble_eq_true rfl | omega | (show _ ≤ _; omega) | (dsimp only [headSpec]; omega), by first | exact Nat.le_of_ble_eq_true rfl | omega | (show _ ≤ _; omega) | (dsimp only [headSpec]; omega)⟩) hS (fun z_4 locs_1 hz_3 hS_2 => ?_)
  subst z_4
  refine lv_istore (lv' := [(5, .int (kI (34))), (4, .int (kI ((x - ((16 : Nat) : Int))))), (3, .int (kI (x))), (2, .int (kI ((16 : Nat) : Int))), (0, .ref bu), (1, .int (kI (x)))]) hx hb dJ4_newCapacity_32 hl (by decide) rfl (fun ls hl => ?_)
  refine lv_iload hx hb dJ4_newCapacity_34 (lv_at hl 0 rfl) ?_
  refine kx_ldc (z := 2147483647) hx hb hown (hts _ q1334) (by decide) dJ4_newCapacity_36 ?_
  refine kx_icmp_ne (x := 34) (y := 2147483647) (tgt := 51) hx hb dJ4_newCapacity_38 (by decide) (by omega) (by omega) (by omega) (by omega) (fun c_38_5 => ?_) (fun c_38_5 => ?_)
  · -- taken at 38
    refine lv_iload hx hb dJ4_newCapacity_51 (lv_at hl 0 rfl) ?_
    refine lv_aload_n hx hb dJ4_newCapacity_53 rfl (lv_at hl 4 rfl) ?_
    refine kx_get (v := .int (kI (0))) (C := RJ5) (T := TJ5) (N := 4) hx hb hts in_J5 hown hK hO_bu rfl 1 (by decide) q215 (fun _ h9 => h9) rfl dJ4_newCapacity_54 ?_
    refine kx_ishr0 hx hb (z := 34) dJ4_newCapacity_57 ?_
    exact kx_iret (z := 34) hx hb hr hlk (⟨rfl, by first | rfl | omega | grind⟩) hS_2 dJ4_newCapacity_58
  · -- not taken at 38
    exfalso; omega

set_option maxHeartbeats 4000000 in
set_option maxRecDepth 100000 in
theorem m_J19_copyOf_3 (l : Launch) (D : kG) (H : Heap) (vb : Nat) (g : Nat → Int) (hA_vb : kAb D H vb 16 g) (hg : ∀ j, j < 16 → 0 ≤ g j ∧ g j < 128) : Met l yJ19_copyOf_3 (ws_ yJ19_copyOf_3 cJ19_copyOf_3 3 (some (.array .byte))) ({ frames := 1, cells := 1, slots := 34, locals := 60 } : Room) (kPre D H [.ref vb, .int (kI (34))]) (kQr (fun (r : Nat) H' => (kAb D H' r 34 ((fun j => if j < 16 then g j else 0))) ∧ (H.size ≤ r)) (kNW H)) (1) (34) ((kNW H)) := by
  refine Met.ofW (cc := cJ19_copyOf_3) (maxL := 3) (ret := (some (.array .byte))) (by decide) rfl ?_
  intro p e s m args below meth c s₁ B hml hv
  obtain ⟨rfl, hH, hK⟩ := hv
  subst hH
  have hx := B.exec
  have hb := B.bytes
  have hr := B.returns
  have hts := atoms_spec (ws := ws_ yJ19_copyOf_3 cJ19_copyOf_3 3 (some (.array .byte))) B.pre
  have hts : ∀ w ∈ lw_all, w.before _ s = true := fun w h => hts w (List.mem_cons_of_mem _ h)
  have hown : s.vm.findClass RJ19 = some m.cls := findClass_of_methodNamed B.named
  have hlk := B.notSynchronized
  have hS : va_S (kNW s.heap) s.heap s.heap [] := va_S.rf
  have hB : ∀ q, (kNW s.heap) q → kBase D ≤ q := fun q h => Nat.le_trans hK.size h
  have hl := lv_entry ([.ref vb, .int (kI (34))]) (n := 3) (Nat.le_of_ble_eq_true rfl)
  rw [lg_entry_eq]
  generalize (lg_sl ([.ref vb, .int (kI (34))]) ++ List.replicate (3 - (lg_sl ([.ref vb, .int (kI (34))])).length) Slot.unset).toArray = ls at hl ⊢
  have hl : lv_has ls 3 [(0, .ref vb), (1, .int (kI (34)))] := hl
  have hlt0 := hA_vb.lt
  refine lv_iload_n hx hb dJ19_copyOf_3_0 rfl (lv_at hl 1 rfl) ?_
  refine lv_aload_n hx hb dJ19_copyOf_3_1 rfl (lv_at hl 0 rfl) ?_
  refine kx_alen hx hb hK hA_vb rfl dJ19_copyOf_3_2 ?_
  refine kx_icmp_ne (x := 34) (y := ((16 : Nat) : Int)) (tgt := 14) hx hb dJ19_copyOf_3_3 (by decide) (by omega) (by omega) (by omega) (by omega) (fun c_3_1 => ?_) (fun c_3_1 => ?_)
  · -- taken at 3
    refine lv_iload_n hx hb dJ19_copyOf_3_14 rfl (lv_at hl 1 rfl) ?_
    refine kx_newa (atype := .byte) (ty := .byte) (t := 1) (a0 := (34, .inl (fun j => kI ((fun _ => 0 : Nat → Int) j)))) (N' := 34) hx hb hts q228 rfl hK rfl (fun _ h => by cases h) hS (by first | rfl | omega) (by omega) (fun cA => rfl) (by first | decide | (simp only [componentBytes]; omega)) (by first | exact Nat.le_of_ble_eq_true rfl | omega | (show _ ≤ _; omega) | (dsimp only [headSpec]; omega)) (by first | exact Nat.le_of_ble_eq_true rfl | omega | (show _ ≤ _; omega) | (dsimp only [headSpec]; omega)) dJ19_copyOf_3_15 (fun nb H_2 hq_3 hz_4 hA_5 hE_6 hS_7 => ?_)
    have hge_nb : s.heap.size ≤ nb := by rw [hq_3]; exact hS.1
    refine W.widen (k := 1) (n := 34) (Nat.le_of_ble_eq_true rfl) (Nat.le_of_ble_eq_true rfl) ?_
    refine lv_astore_n (lv' := [(2, .ref nb), (0, .ref vb), (1, .int (kI (34)))]) hx hb dJ19_copyOf_3_17 rfl hl (by decide) rfl (fun ls hl => ?_)
    refine lv_aload_n hx hb dJ19_copyOf_3_18 rfl (lv_at hl 1 rfl) ?_
    refine kx_iconst hx hb dJ19_copyOf_3_19 ?_
    refine lv_aload_n hx hb dJ19_copyOf_3_20 rfl (lv_at hl 0 rfl) ?_
    refine kx_iconst hx hb dJ19_copyOf_3_21 ?_
    refine lv_aload_n hx hb dJ19_copyOf_3_22 rfl (lv_at hl 1 rfl) ?_
    have h_8 := hA_vb.ex hE_6
    refine kx_alen hx hb hK h_8 rfl dJ19_copyOf_3_23 ?_
    refine lv_iload_n hx hb dJ19_copyOf_3_24 rfl (lv_at hl 2 rfl) ?_
    refine kx_mmin (x := ((16 : Nat) : Int)) (y := 34) hx hb hml hl.1 hts hown q432 q433 q102 q434 (by first | exact Nat.le_of_ble_eq_true rfl | omega | (show _ ≤ _; omega) | (dsimp only [headSpec]; omega)) (by first | exact Nat.le_of_ble_eq_true rfl | omega | (show _ ≤ _; omega) | (dsimp only [headSpec]; omega)) (by first | exact Nat.le_of_ble_eq_true rfl | omega | (show _ ≤ _; omega) | (dsimp only [headSpec]; omega)) (by first | exact Nat.le_of_ble_eq_true rfl | omega | (show _ ≤ _; omega) | (dsimp only [headSpec]; omega)) (by omega) (by omega) (by omega) (by omega) dJ19_copyOf_3_25 ?_
    refine kx_copyb (w := (if 34 < ((16 : Nat) : Int) then 34 else ((16 : Nat) : Int))) (wn := 16) hx hb hml hl.1 hts hown q435 q437 q436 q104 hK h_8 hA_5 hS_7 (by have := hS.1; first | (show _ ≤ _; omega) | omega) (by omega) (by omega) (by omega) (by omega) (fun i hi => hg i hi) (by first | exact Nat.le_of_ble_eq_true rfl | omega | (show _ ≤ _; omega) | (dsimp only [headSpec]; omega)) (by first | exact Nat.le_of_ble_eq_true rfl | omega | (show _ ≤ _; omega) | (dsimp only [headSpec]; omega)) dJ19_copyOf_3_28 (fun H_11 locs_12 hA_10 hU_9 hS_13 => ?_)
    have hzu_14 := hU_9.1
    refine lv_aload_n hx hb dJ19_copyOf_3_31 rfl (lv_at hl 0 rfl) ?_
    exact kx_aret (z := nb) hx hb hr (by first | exact Or.inl ⟨_, rfl⟩ | exact Or.inr ⟨_, rfl⟩) hlk (⟨hA_10, by first | assumption | rfl | omega | grind⟩) hS_13 dJ19_copyOf_3_32
  · -- not taken at 3
    exfalso; omega

set_option maxHeartbeats 4000000 in
set_option maxRecDepth 100000 in
theorem m_J4_ensureCapacityInternal (l : Launch) (D : kG) (H : Heap) (bu : Nat) (vb : Nat) (ml : Bool) (cn : Nat) (cap : Nat) (g : Nat → Int) (x : Int) (hO_bu : kO D H bu 11 [.ref vb, .int (kI (0)), .int (kI (kb (ml))), .int (kI ((cn : Nat) : Int))]) (hA_vb : kAb D H vb cap g) (hcap : cap ≤ 1000) (hcn : cn ≤ cap) (hxr : 0 ≤ x ∧ x ≤ cap) : Met l yJ4_ensureCapacityInternal (ws_ yJ4_ensureCapacityInternal cJ4_ensureCapacityInternal 3 none) ({ frames := 0, cells := 0, slots := 0, locals := 0 } : Room) (kPre D H [.ref bu, .int (kI (x))]) (kQv (fun H' => H' = H ∧ True) kNO) (0) (0) (kNO) := by
  refine Met.ofW (cc := cJ4_ensureCapacityInternal) (maxL := 3) (ret := none) (by decide) rfl ?_
  intro p e s m args below meth c s₁ B hml hv
  obtain ⟨rfl, hH, hK⟩ := hv
  subst hH
  have hx := B.exec
  have hb := B.bytes
  have hr := B.returns
  have hts := atoms_spec (ws := ws_ yJ4_ensureCapacityInternal cJ4_ensureCapacityInternal 3 none) B.pre
  have hts : ∀ w ∈ lw_all, w.before _ s = true := fun w h => hts w (List.mem_cons_of_mem _ h)
  have hown : s.vm.findClass RJ4 = some m.cls := findClass_of_methodNamed B.named
  have hlk := B.notSynchronized
  have hS : va_S kNO s.heap s.heap [] := va_S.rf
  have hB : ∀ q, kNO q → kBase D ≤ q := fun _ h => h.elim
  have hl := lv_entry ([.ref bu, .int (kI (x))]) (n := 3) (Nat.le_of_ble_eq_true rfl)
  rw [lg_entry_eq]
  generalize (lg_sl ([.ref bu, .int (kI (x))]) ++ List.replicate (3 - (lg_sl ([.ref bu, .int (kI (x))])).length) Slot.unset).toArray = ls at hl ⊢
  have hl : lv_has ls 3 [(0, .ref bu), (1, .int (kI (x)))] := hl
  refine lv_aload_n hx hb dJ4_ensureCapacityInternal_0 rfl (lv_at hl 0 rfl) ?_
  refine kx_get (v := .ref vb) (C := RJ5) (T := TJ5) (N := 4) hx hb hts in_J5 hown hK hO_bu rfl 0 (by decide) q214 (fun _ h9 => h9) rfl dJ4_ensureCapacityInternal_1 ?_
  refine kx_alen hx hb hK hA_vb rfl dJ4_ensureCapacityInternal_4 ?_
  refine lv_aload_n hx hb dJ4_ensureCapacityInternal_5 rfl (lv_at hl 0 rfl) ?_
  refine kx_get (v := .int (kI (0))) (C := RJ5) (T := TJ5) (N := 4) hx hb hts in_J5 hown hK hO_bu rfl 1 (by decide) q215 (fun _ h9 => h9) rfl dJ4_ensureCapacityInternal_6 ?_
  refine kx_ishr0 hx hb (z := ((cap : Nat) : Int)) dJ4_ensureCapacityInternal_9 ?_
  refine lv_istore_n (lv' := [(2, .int (kI ((cap : Nat) : Int))), (0, .ref bu), (1, .int (kI (x)))]) hx hb dJ4_ensureCapacityInternal_10 rfl hl (by decide) rfl (fun ls hl => ?_)
  refine lv_iload_n hx hb dJ4_ensureCapacityInternal_11 rfl (lv_at hl 2 rfl) ?_
  refine lv_iload_n hx hb dJ4_ensureCapacityInternal_12 rfl (lv_at hl 0 rfl) ?_
  refine kx_isub hx hb dJ4_ensureCapacityInternal_13 ?_
  refine kx_if_le (x := (x - ((cap : Nat) : Int))) (tgt := 38) hx hb dJ4_ensureCapacityInternal_14 (by decide) (by omega) (by omega) (fun c_14_1 => ?_) (fun c_14_1 => ?_)
  · -- taken at 14
    exact kx_vret hx hb hr hlk (⟨rfl, trivial⟩) hS dJ4_ensureCapacityInternal_38
  · -- not taken at 14
    exfalso; omega

set_option maxHeartbeats 4000000 in
set_option maxRecDepth 100000 in
theorem m_J4_ensure_g (l : Launch) (D : kG) (H : Heap) (bu : Nat) (vb : Nat) (ml : Bool) (cn : Nat) (g : Nat → Int) (x : Int) (hO_bu : kO D H bu 11 [.ref vb, .int (kI (0)), .int (kI (kb (ml))), .int (kI ((cn : Nat) : Int))]) (hA_vb : kAb D H vb 16 g) (hxr : x = 17) (hg : ∀ j, j < 16 → 0 ≤ g j ∧ g j < 128) (bs_bu : kBase D ≤ bu) : Met l yJ4_ensureCapacityInternal (ws_ yJ4_ensureCapacityInternal cJ4_ensureCapacityInternal 3 none) ({ frames := 3, cells := 1, slots := 34, locals := 82 } : Room) (kPre D H [.ref bu, .int (kI (x))]) (kQv (fun H' => ∃ (vb2 : Nat), (kO D H' bu 11 [.ref vb2, .int (kI (0)), .int (kI (kb (ml))), .int (kI ((cn : Nat) : Int))]) ∧ (kAb D H' vb2 34 ((fun j => if j < 16 then g j else 0))) ∧ (H.size ≤ vb2)) (fun q : Nat => q = bu ∨ H.size ≤ q)) (1) (34) ((fun q : Nat => q = bu ∨ H.size ≤ q)) := by
  refine Met.ofW (cc := cJ4_ensureCapacityInternal) (maxL := 3) (ret := none) (by decide) rfl ?_
  intro p e s m args below meth c s₁ B hml hv
  obtain ⟨rfl, hH, hK⟩ := hv
  subst hH
  have hx := B.exec
  have hb := B.bytes
  have hr := B.returns
  have hts := atoms_spec (ws := ws_ yJ4_ensureCapacityInternal cJ4_ensureCapacityInternal 3 none) B.pre
  have hts : ∀ w ∈ lw_all, w.before _ s = true := fun w h => hts w (List.mem_cons_of_mem _ h)
  have hown : s.vm.findClass RJ4 = some m.cls := findClass_of_methodNamed B.named
  have hlk := B.notSynchronized
  have hS : va_S (fun q : Nat => q = bu ∨ s.heap.size ≤ q) s.heap s.heap [] := va_S.rf
  have hB : ∀ q, (fun q : Nat => q = bu ∨ s.heap.size ≤ q) q → kBase D ≤ q := fun q h => by (try dsimp only at h); (try simp only [kNW] at h); have hks := hK.size; omega
  have hl := lv_entry ([.ref bu, .int (kI (x))]) (n := 3) (Nat.le_of_ble_eq_true rfl)
  rw [lg_entry_eq]
  generalize (lg_sl ([.ref bu, .int (kI (x))]) ++ List.replicate (3 - (lg_sl ([.ref bu, .int (kI (x))])).length) Slot.unset).toArray = ls at hl ⊢
  have hl : lv_has ls 3 [(0, .ref bu), (1, .int (kI (x)))] := hl
  have hltb := hO_bu.lt
  refine lv_aload_n hx hb dJ4_ensureCapacityInternal_0 rfl (lv_at hl 0 rfl) ?_
  refine kx_get (v := .ref vb) (C := RJ5) (T := TJ5) (N := 4) hx hb hts in_J5 hown hK hO_bu rfl 0 (by decide) q214 (fun _ h9 => h9) rfl dJ4_ensureCapacityInternal_1 ?_
  refine kx_alen hx hb hK hA_vb rfl dJ4_ensureCapacityInternal_4 ?_
  refine lv_aload_n hx hb dJ4_ensureCapacityInternal_5 rfl (lv_at hl 0 rfl) ?_
  refine kx_get (v := .int (kI (0))) (C := RJ5) (T := TJ5) (N := 4) hx hb hts in_J5 hown hK hO_bu rfl 1 (by decide) q215 (fun _ h9 => h9) rfl dJ4_ensureCapacityInternal_6 ?_
  refine kx_ishr0 hx hb (z := ((16 : Nat) : Int)) dJ4_ensureCapacityInternal_9 ?_
  refine lv_istore_n (lv' := [(2, .int (kI ((16 : Nat) : Int))), (0, .ref bu), (1, .int (kI (x)))]) hx hb dJ4_ensureCapacityInternal_10 rfl hl (by decide) rfl (fun ls hl => ?_)
  refine lv_iload_n hx hb dJ4_ensureCapacityInternal_11 rfl (lv_at hl 2 rfl) ?_
  refine lv_iload_n hx hb dJ4_ensureCapacityInternal_12 rfl (lv_at hl 0 rfl) ?_
  refine kx_isub hx hb dJ4_ensureCapacityInternal_13 ?_
  refine kx_if_le (x := (x - ((16 : Nat) : Int))) (tgt := 38) hx hb dJ4_ensureCapacityInternal_14 (by decide) (by omega) (by omega) (fun c_14_1 => ?_) (fun c_14_1 => ?_)
  · -- taken at 14
    exfalso; omega
  · -- not taken at 14
    refine lv_aload_n hx hb dJ4_ensureCapacityInternal_17 rfl (lv_at hl 1 rfl) ?_
    refine lv_aload_n hx hb dJ4_ensureCapacityInternal_18 rfl (lv_at hl 1 rfl) ?_
    refine kx_get (v := .ref vb) (C := RJ5) (T := TJ5) (N := 4) hx hb hts in_J5 hown hK hO_bu rfl 0 (by decide) q214 (fun _ h9 => h9) rfl dJ4_ensureCapacityInternal_19 ?_
    refine lv_aload_n hx hb dJ4_ensureCapacityInternal_22 rfl (lv_at hl 1 rfl) ?_
    refine lv_iload_n hx hb dJ4_ensureCapacityInternal_23 rfl (lv_at hl 2 rfl) ?_
    refine kx_ci0 (va_runP (As := [.int (kI (x))]) (rest := [.ref vb, .ref bu]) ⟨hx, hb, hml, hown, hts⟩ (m_J4_newCapacity l D s.heap bu vb ml cn g x hO_bu hA_vb (by first | assumption | omega)) (va_cwP 1 hts (lw_meth q1332) rfl rfl rfl (hts _ q85) (hts _ q1329) (by decide +kernel) ⟨Nat.le_of_ble_eq_true rfl, Nat.le_of_ble_eq_true rfl⟩) (hts _ q1331) (hK.w q1330 rfl) (hts _ q802) rfl (kx_pv hK hS hB (kx_rc hK hO_bu (C := RJ5) (T := TJ5) (N := 4) rfl)) rfl rfl hl.1 rfl (lv_room (Nat.le_of_ble_eq_true rfl)) dJ4_ensureCapacityInternal_24 ⟨by first | exact Nat.le_of_ble_eq_true rfl | omega | (show _ ≤ _; omega) | (dsimp only [headSpec]; omega), by first | exact Nat.le_of_ble_eq_true rfl | omega | (show _ ≤ _; omega) | (dsimp only [headSpec]; omega)⟩) hS (fun z_5 locs_2 hz_4 hS_3 => ?_)
    subst z_5
    refine lv_aload_n hx hb dJ4_ensureCapacityInternal_27 rfl (lv_at hl 1 rfl) ?_
    refine kx_get (v := .int (kI (0))) (C := RJ5) (T := TJ5) (N := 4) hx hb hts in_J5 hown hK hO_bu rfl 1 (by decide) q215 (fun _ h9 => h9) rfl dJ4_ensureCapacityInternal_28 ?_
    refine kx_ishl0 hx hb (z := 34) dJ4_ensureCapacityInternal_31 ?_
    refine kx_eqi (34) (by omega) ?_
    refine kx_cr (va_runS (As := [.ref vb, .int (kI (34))]) (rest := [.ref bu]) ⟨hx, hb, hml, hown, hts⟩ (m_J19_copyOf_3 l D s.heap vb g hA_vb (by first | assumption | omega)) (va_cwS 2 hts (lw_S q1335 q1336 q103 q1337) rfl rfl rfl (by decide +kernel) ⟨Nat.le_of_ble_eq_true rfl, Nat.le_of_ble_eq_true rfl⟩) (kx_ps hK hS_3 hB) rfl rfl hl.1 rfl (lv_room (Nat.le_of_ble_eq_true rfl)) dJ4_ensureCapacityInternal_32 ⟨by first | exact Nat.le_of_ble_eq_true rfl | omega | (show _ ≤ _; omega) | (dsimp only [headSpec]; omega), by first | exact Nat.le_of_ble_eq_true rfl | omega | (show _ ≤ _; omega) | (dsimp only [headSpec]; omega)⟩) hS_3 (fun q _ h => by have h9 := hS_3.1; (try dsimp only at h); (try dsimp only); (try simp only [kNW] at h); (try simp only [kNW]); omega) (fun q h => by have h9 := hS_3.1; (try dsimp only at h); (try dsimp only); (try simp only [kNW] at h); (try simp only [kNW]); omega) (fun z_11 H_9 locs_6 hz_8 hF_10 hS_7 => ?_)
    have hzf_12 := hF_10.1
    have hF_10 := hF_10.nw
    refine W.widen (k := 1) (n := 34) (Nat.le_of_ble_eq_true rfl) (Nat.le_of_ble_eq_true rfl) ?_
    obtain ⟨ho_13, hnew_14⟩ := hz_8
    have h_15 := hO_bu.ex hF_10
    refine kx_put (v := .ref z_11) (C := RJ5) (T := TJ5) (N := 4) hx hb hts in_J5 hown hK h_15 rfl 0 (by decide) tyJ5 tyJ5_ok nmJ5 hS_7 (by first | rfl | exact Or.inl rfl | exact Or.inr rfl | exact Or.inr (Or.inl rfl) | exact Or.inr (Or.inr rfl) | exact Or.inr (Or.inr (Or.inl rfl)) | exact Or.inr (Or.inr (Or.inr rfl)) | ((try dsimp only); (try simp only [kNW]); omega)) q214 (fun _ h9 => h9) rfl rfl rfl rfl (Nat.le_of_ble_eq_true rfl) dJ4_ensureCapacityInternal_35 (fun H_18 locs_19 hO_17 hU_16 hS_20 => ?_)
    have hO_17 : kO D H_18 bu 11 [.ref z_11, .int (kI (0)), .int (kI (kb (ml))), .int (kI ((cn : Nat) : Int))] := hO_17
    have hzu_21 := hU_16.1
    have h_22 := ho_13.up hU_16 (by first | assumption | exact Ne.symm (by assumption)  | omega | (have h9 := ho_13.lt; omega))
    exact kx_vret hx hb hr hlk (⟨z_11, hO_17, h_22, by first | assumption | rfl | omega | grind⟩) hS_20 dJ4_ensureCapacityInternal_38

set_option maxHeartbeats 4000000 in
set_option maxRecDepth 100000 in
theorem m_J4_append_r (l : Launch) (D : kG) (H : Heap) (bu : Nat) (vb : Nat) (ml : Bool) (cn : Nat) (cap : Nat) (g : Nat → Int) (x : Int) (hO_bu : kO D H bu 11 [.ref vb, .int (kI (0)), .int (kI (kb (ml))), .int (kI ((cn : Nat) : Int))]) (hA_vb : kAb D H vb cap g) (hcap : cap ≤ 1000) (hcn : cn ≤ cap) (hxr : 0 ≤ x ∧ x < 128) (hroom : cn < cap) (bs_bu : kBase D ≤ bu) (bs_vb : kBase D ≤ vb) (ne_bu_vb : bu ≠ vb) : Met l yJ4_append_3 (ws_ yJ4_append_3 cJ4_append_3 2 (some (.object "java/lang/AbstractStringBuilder"))) ({ frames := 1, cells := 0, slots := 0, locals := 22 } : Room) (kPre D H [.ref bu, .int (kI (x))]) (kQr (fun (r : Nat) H' => (r = bu) ∧ (kO D H' bu 11 [.ref vb, .int (kI (0)), .int (kI (kb (ml))), .int (kI ((cn + 1 : Nat) : Int))]) ∧ (kAb D H' vb cap ((kup g cn x)))) (fun q : Nat => q = bu ∨ q = vb)) (0) (0) ((fun q : Nat => q = bu ∨ q = vb)) := by
  refine Met.ofW (cc := cJ4_append_3) (maxL := 2) (ret := (some (.object "java/lang/AbstractStringBuilder"))) (by decide) rfl ?_
  intro p e s m args below meth c s₁ B hml hv
  obtain ⟨rfl, hH, hK⟩ := hv
  subst hH
  have hx := B.exec
  have hb := B.bytes
  have hr := B.returns
  have hts := atoms_spec (ws := ws_ yJ4_append_3 cJ4_append_3 2 (some (.object "java/lang/AbstractStringBuilder"))) B.pre
  have hts : ∀ w ∈ lw_all, w.before _ s = true := fun w h => hts w (List.mem_cons_of_mem _ h)
  have hown : s.vm.findClass RJ4 = some m.cls := findClass_of_methodNamed B.named
  have hlk := B.notSynchronized
  have hS : va_S (fun q : Nat => q = bu ∨ q = vb) s.heap s.heap [] := va_S.rf
  have hB : ∀ q, (fun q : Nat => q = bu ∨ q = vb) q → kBase D ≤ q := fun q h => by (try dsimp only at h); (try simp only [kNW] at h); have hks := hK.size; omega
  have hl := lv_entry ([.ref bu, .int (kI (x))]) (n := 2) (Nat.le_of_ble_eq_true rfl)
  rw [lg_entry_eq]
  generalize (lg_sl ([.ref bu, .int (kI (x))]) ++ List.replicate (2 - (lg_sl ([.ref bu, .int (kI (x))])).length) Slot.unset).toArray = ls at hl ⊢
  have hl : lv_has ls 2 [(0, .ref bu), (1, .int (kI (x)))] := hl
  refine lv_aload_n hx hb dJ4_append_3_0 rfl (lv_at hl 0 rfl) ?_
  refine lv_aload_n hx hb dJ4_append_3_1 rfl (lv_at hl 0 rfl) ?_
  refine kx_get (v := .int (kI ((cn : Nat) : Int))) (C := RJ5) (T := TJ5) (N := 4) hx hb hts in_J5 hown hK hO_bu rfl 3 (by decide) q218 (fun _ h9 => h9) rfl dJ4_append_3_2 ?_
  refine kx_iconst hx hb dJ4_append_3_5 ?_
  refine kx_iadd hx hb dJ4_append_3_6 ?_
  refine kx_cv0 (va_runP (As := [.int (kI ((((cn : Nat) : Int) + 1)))]) (rest := []) ⟨hx, hb, hml, hown, hts⟩ (m_J4_ensureCapacityInternal l D s.heap bu vb ml cn cap g ((((cn : Nat) : Int) + 1)) hO_bu hA_vb hcap hcn ((by omega))) (va_cwP 1 hts (lw_meth q1328) rfl rfl rfl (hts _ q85) (hts _ q1325) (by decide +kernel) ⟨Nat.le_of_ble_eq_true rfl, Nat.le_of_ble_eq_true rfl⟩) (hts _ q1327) (hK.w q1326 rfl) (hts _ q802) rfl (kx_pv hK hS hB (kx_rc hK hO_bu (C := RJ5) (T := TJ5) (N := 4) rfl)) rfl rfl hl.1 rfl (lv_room (Nat.le_of_ble_eq_true rfl)) dJ4_append_3_7 ⟨by first | exact Nat.le_of_ble_eq_true rfl | omega | (show _ ≤ _; omega) | (dsimp only [headSpec]; omega), by first | exact Nat.le_of_ble_eq_true rfl | omega | (show _ ≤ _; omega) | (dsimp only [headSpec]; omega)⟩) hS (fun locs_1 hz_3 hS_2 => ?_)
  refine lv_aload_n hx hb dJ4_append_3_10 rfl (lv_at hl 0 rfl) ?_
  refine kx_cb0 (va_runV (As := []) (rest := []) ⟨hx, hb, hml, hown, hts⟩ (m_J4_isLatin1 l D s.heap bu vb ml cn hO_bu ) ⟨va_cwP 0 hts (lw_meth q803) rfl rfl rfl (hts _ q85) (hts _ q799) (by decide +kernel) ⟨Nat.le_of_ble_eq_true rfl, Nat.le_of_ble_eq_true rfl⟩, hts _ q800, hts _ q802⟩ (kx_pv hK hS_2 hB (kx_rc hK hO_bu (C := RJ5) (T := TJ5) (N := 4) rfl)) rfl rfl hl.1 rfl (lv_room (Nat.le_of_ble_eq_true rfl)) dJ4_append_3_11 ⟨by first | exact Nat.le_of_ble_eq_true rfl | omega | (show _ ≤ _; omega) | (dsimp only [headSpec]; omega), by first | exact Nat.le_of_ble_eq_true rfl | omega | (show _ ≤ _; omega) | (dsimp only [headSpec]; omega)⟩) hS_2 (fun z_8 locs_5 hz_7 hS_6 => ?_)
  subst z_8
  refine kx_ifz (tgt := 45) hx hb dJ4_append_3_14 (by decide) (fun c_14_9 => ?_) (fun c_14_9 => ?_)
  · -- taken at 14
    exact absurd c_14_9 (by decide)
  · -- not taken at 14
    refine lv_iload_n hx hb dJ4_append_3_17 rfl (lv_at hl 1 rfl) ?_
    refine kx_cb0 (va_runS (As := [.int (kI (x))]) (rest := []) ⟨hx, hb, hml, hown, hts⟩ (m_J24_canEncode_2 l D s.heap x  (by first | assumption | omega)) (va_cwS 1 hts (lw_S q2178 q2179 q112 q2180) rfl rfl rfl (by decide +kernel) ⟨Nat.le_of_ble_eq_true rfl, Nat.le_of_ble_eq_true rfl⟩) (kx_ps hK hS_6 hB) rfl rfl hl.1 rfl (lv_room (Nat.le_of_ble_eq_true rfl)) dJ4_append_3_18 ⟨by first | exact Nat.le_of_ble_eq_true rfl | omega | (show _ ≤ _; omega) | (dsimp only [headSpec]; omega), by first | exact Nat.le_of_ble_eq_true rfl | omega | (show _ ≤ _; omega) | (dsimp only [headSpec]; omega)⟩) hS_6 (fun z_13 locs_10 hz_12 hS_11 => ?_)
    subst z_13
    refine kx_ifz (tgt := 45) hx hb dJ4_append_3_21 (by decide) (fun c_21_14 => ?_) (fun c_21_14 => ?_)
    · -- taken at 21
      exact absurd c_21_14 (by decide)
    · -- not taken at 21
      refine lv_aload_n hx hb dJ4_append_3_24 rfl (lv_at hl 0 rfl) ?_
      refine kx_get (v := .ref vb) (C := RJ5) (T := TJ5) (N := 4) hx hb hts in_J5 hown hK hO_bu rfl 0 (by decide) q214 (fun _ h9 => h9) rfl dJ4_append_3_25 ?_
      refine lv_aload_n hx hb dJ4_append_3_28 rfl (lv_at hl 0 rfl) ?_
      refine lv_dup hx hb dJ4_append_3_29 rfl ?_
      refine kx_get (v := .int (kI ((cn : Nat) : Int))) (C := RJ5) (T := TJ5) (N := 4) hx hb hts in_J5 hown hK hO_bu rfl 3 (by decide) q218 (fun _ h9 => h9) rfl dJ4_append_3_30 ?_
      refine lv_dup_x1 hx hb dJ4_append_3_33 rfl rfl ?_
      refine kx_iconst hx hb dJ4_append_3_34 ?_
      refine kx_iadd hx hb dJ4_append_3_35 ?_
      refine kx_eqi (((cn + 1 : Nat) : Int)) (by omega) ?_
      refine kx_put (v := .int (kI ((cn + 1 : Nat) : Int))) (C := RJ5) (T := TJ5) (N := 4) hx hb hts in_J5 hown hK hO_bu rfl 3 (by decide) tyJ5 tyJ5_ok nmJ5 hS_11 (by first | rfl | exact Or.inl rfl | exact Or.inr rfl | exact Or.inr (Or.inl rfl) | exact Or.inr (Or.inr rfl) | exact Or.inr (Or.inr (Or.inl rfl)) | exact Or.inr (Or.inr (Or.inr rfl)) | ((try dsimp only); (try simp only [kNW]); omega)) q218 (fun _ h9 => h9) rfl rfl rfl rfl (Nat.le_of_ble_eq_true rfl) dJ4_append_3_36 (fun H_17 locs_18 hO_16 hU_15 hS_19 => ?_)
      have hO_16 : kO D H_17 bu 11 [.ref vb, .int (kI (0)), .int (kI (kb (ml))), .int (kI ((cn + 1 : Nat) : Int))] := hO_16
      have hzu_20 := hU_15.1
      refine lv_iload_n hx hb dJ4_append_3_39 rfl (lv_at hl 1 rfl) ?_
      refine kx_i2b hx hb (z := x) (by omega) (by omega) dJ4_append_3_40 ?_
      have h_21 := hA_vb.up hU_15 (by first | assumption | exact Ne.symm (by assumption)  | omega | (have h9 := hA_vb.lt; omega))
      refine kx_bast (i := ((cn : Nat) : Int)) (x := x) hx hb hK h_21 hS_19 (by first | rfl | exact Or.inl rfl | exact Or.inr rfl | exact Or.inr (Or.inl rfl) | exact Or.inr (Or.inr rfl) | exact Or.inr (Or.inr (Or.inl rfl)) | exact Or.inr (Or.inr (Or.inr rfl)) | ((try dsimp only); (try simp only [kNW]); omega)) (by omega) (by omega) cn (rfl) (by omega) (by omega) dJ4_append_3_41 (fun H_24 locs_25 hA_23 hU_22 hS_26 => ?_)
      have hzu_27 := hU_22.1
      refine lv_goto (tgt := 75) hx hb dJ4_append_3_42 (by decide) ?_
      refine lv_aload_n hx hb dJ4_append_3_75 rfl (lv_at hl 0 rfl) ?_
      have h_28 := hO_16.up hU_22 (by first | assumption | exact Ne.symm (by assumption)  | omega | (have h9 := hO_16.lt; omega))
      exact kx_aret (z := bu) hx hb hr (by first | exact Or.inl ⟨_, rfl⟩ | exact Or.inr ⟨_, rfl⟩) hlk (⟨by rfl, h_28, hA_23⟩) hS_26 dJ4_append_3_76

set_option maxHeartbeats 4000000 in
set_option maxRecDepth 100000 in
theorem m_J4_append_g (l : Launch) (D : kG) (H : Heap) (bu : Nat) (vb : Nat) (ml : Bool) (g : Nat → Int) (x : Int) (hO_bu : kO D H bu 11 [.ref vb, .int (kI (0)), .int (kI (kb (ml))), .int (kI ((16 : Nat) : Int))]) (hA_vb : kAb D H vb 16 g) (hxr : 0 ≤ x ∧ x < 128) (hg : ∀ j, j < 16 → 0 ≤ g j ∧ g j < 128) (bs_bu : kBase D ≤ bu) : Met l yJ4_append_3 (ws_ yJ4_append_3 cJ4_append_3 2 (some (.object "java/lang/AbstractStringBuilder"))) ({ frames := 4, cells := 1, slots := 34, locals := 104 } : Room) (kPre D H [.ref bu, .int (kI (x))]) (kQr (fun (r : Nat) H' => ∃ (vb2 : Nat), (r = bu) ∧ (kO D H' bu 11 [.ref vb2, .int (kI (0)), .int (kI (kb (ml))), .int (kI ((17 : Nat) : Int))]) ∧ (kAb D H' vb2 34 ((kup (fun j => if j < 16 then g j else 0) 16 x))) ∧ (H.size ≤ vb2)) (fun q : Nat => q = bu ∨ H.size ≤ q)) (1) (34) ((fun q : Nat => q = bu ∨ H.size ≤ q)) := by
  refine Met.ofW (cc := cJ4_append_3) (maxL := 2) (ret := (some (.object "java/lang/AbstractStringBuilder"))) (by decide) rfl ?_
  intro p e s m args below meth c s₁ B hml hv
  obtain ⟨rfl, hH, hK⟩ := hv
  subst hH
  have hx := B.exec
  have hb := B.bytes
  have hr := B.returns
  have hts := atoms_spec (ws := ws_ yJ4_append_3 cJ4_append_3 2 (some (.object "java/lang/AbstractStringBuilder"))) B.pre
  have hts : ∀ w ∈ lw_all, w.before _ s = true := fun w h => hts w (List.mem_cons_of_mem _ h)
  have hown : s.vm.findClass RJ4 = some m.cls := findClass_of_methodNamed B.named
  have hlk := B.notSynchronized
  have hS : va_S (fun q : Nat => q = bu ∨ s.heap.size ≤ q) s.heap s.heap [] := va_S.rf
  have hB : ∀ q, (fun q : Nat => q = bu ∨ s.heap.size ≤ q) q → kBase D ≤ q := fun q h => by (try dsimp only at h); (try simp only [kNW] at h); have hks := hK.size; omega
  have hl := lv_entry ([.ref bu, .int (kI (x))]) (n := 2) (Nat.le_of_ble_eq_true rfl)
  rw [lg_entry_eq]
  generalize (lg_sl ([.ref bu, .int (kI (x))]) ++ List.replicate (2 - (lg_sl ([.ref bu, .int (kI (x))])).length) Slot.unset).toArray = ls at hl ⊢
  have hl : lv_has ls 2 [(0, .ref bu), (1, .int (kI (x)))] := hl
  have hltb := hO_bu.lt
  refine lv_aload_n hx hb dJ4_append_3_0 rfl (lv_at hl 0 rfl) ?_
  refine lv_aload_n hx hb dJ4_append_3_1 rfl (lv_at hl 0 rfl) ?_
  refine kx_get (v := .int (kI ((16 : Nat) : Int))) (C := RJ5) (T := TJ5) (N := 4) hx hb hts in_J5 hown hK hO_bu rfl 3 (by decide) q218 (fun _ h9 => h9) rfl dJ4_append_3_2 ?_
  refine kx_iconst hx hb dJ4_append_3_5 ?_
  refine kx_iadd hx hb dJ4_append_3_6 ?_
  refine kx_cv (va_runP (As := [.int (kI ((((16 : Nat) : Int) + 1)))]) (rest := []) ⟨hx, hb, hml, hown, hts⟩ (m_J4_ensure_g l D s.heap bu vb ml 16 g ((((16 : Nat) : Int) + 1)) hO_bu hA_vb ((by omega)) hg bs_bu) (va_cwP 1 hts (lw_meth q1328) rfl rfl rfl (hts _ q85) (hts _ q1325) (by decide +kernel) ⟨Nat.le_of_ble_eq_true rfl, Nat.le_of_ble_eq_true rfl⟩) (hts _ q1327) (hK.w q1326 rfl) (hts _ q802) rfl (kx_pv hK hS hB (kx_rc hK hO_bu (C := RJ5) (T := TJ5) (N := 4) rfl)) rfl rfl hl.1 rfl (lv_room (Nat.le_of_ble_eq_true rfl)) dJ4_append_3_7 ⟨by first | exact Nat.le_of_ble_eq_true rfl | omega | (show _ ≤ _; omega) | (dsimp only [headSpec]; omega), by first | exact Nat.le_of_ble_eq_true rfl | omega | (show _ ≤ _; omega) | (dsimp only [headSpec]; omega)⟩) hS (fun q _ h => by have h9 := hS.1; (try dsimp only at h); (try dsimp only); (try simp only [kNW] at h); (try simp only [kNW]); omega) (fun q h => by have h9 := hS.1; (try dsimp only at h); (try dsimp only); (try simp only [kNW] at h); (try simp only [kNW]); omega) (fun H_4 locs_1 hz_3 hF_5 hS_2 => ?_)
  have hzf_7 := hF_5.1
  refine W.widen (k := 1) (n := 34) (Nat.le_of_ble_eq_true rfl) (Nat.le_of_ble_eq_true rfl) ?_
  obtain ⟨vb2, ho_9, ho_10, hnb9⟩ := hz_3
  refine lv_aload_n hx hb dJ4_append_3_10 rfl (lv_at hl 0 rfl) ?_
  refine kx_cb0 (va_runV (As := []) (rest := []) ⟨hx, hb, hml, hown, hts⟩ (m_J4_isLatin1 l D H_4 bu vb2 ml 16 ho_9 ) ⟨va_cwP 0 hts (lw_meth q803) rfl rfl rfl (hts _ q85) (hts _ q799) (by decide +kernel) ⟨Nat.le_of_ble_eq_true rfl, Nat.le_of_ble_eq_true rfl⟩, hts _ q800, hts _ q802⟩ (kx_pv hK hS_2 hB (kx_rc hK ho_9 (C := RJ5) (T := TJ5) (N := 4) rfl)) rfl rfl hl.1 rfl (lv_room (Nat.le_of_ble_eq_true rfl)) dJ4_append_3_11 ⟨by first | exact Nat.le_of_ble_eq_true rfl | omega | (show _ ≤ _; omega) | (dsimp only [headSpec]; omega), by first | exact Nat.le_of_ble_eq_true rfl | omega | (show _ ≤ _; omega) | (dsimp only [headSpec]; omega)⟩) hS_2 (fun z_14 locs_11 hz_13 hS_12 => ?_)
  subst z_14
  refine kx_ifz (tgt := 45) hx hb dJ4_append_3_14 (by decide) (fun c_14_15 => ?_) (fun c_14_15 => ?_)
  · -- taken at 14
    exact absurd c_14_15 (by decide)
  · -- not taken at 14
    refine lv_iload_n hx hb dJ4_append_3_17 rfl (lv_at hl 1 rfl) ?_
    refine kx_cb0 (va_runS (As := [.int (kI (x))]) (rest := []) ⟨hx, hb, hml, hown, hts⟩ (m_J24_canEncode_2 l D H_4 x  (by first | assumption | omega)) (va_cwS 1 hts (lw_S q2178 q2179 q112 q2180) rfl rfl rfl (by decide +kernel) ⟨Nat.le_of_ble_eq_true rfl, Nat.le_of_ble_eq_true rfl⟩) (kx_ps hK hS_12 hB) rfl rfl hl.1 rfl (lv_room (Nat.le_of_ble_eq_true rfl)) dJ4_append_3_18 ⟨by first | exact Nat.le_of_ble_eq_true rfl | omega | (show _ ≤ _; omega) | (dsimp only [headSpec]; omega), by first | exact Nat.le_of_ble_eq_true rfl | omega | (show _ ≤ _; omega) | (dsimp only [headSpec]; omega)⟩) hS_12 (fun z_19 locs_16 hz_18 hS_17 => ?_)
    subst z_19
    refine kx_ifz (tgt := 45) hx hb dJ4_append_3_21 (by decide) (fun c_21_20 => ?_) (fun c_21_20 => ?_)
    · -- taken at 21
      exact absurd c_21_20 (by decide)
    · -- not taken at 21
      refine lv_aload_n hx hb dJ4_append_3_24 rfl (lv_at hl 0 rfl) ?_
      refine kx_get (v := .ref vb2) (C := RJ5) (T := TJ5) (N := 4) hx hb hts in_J5 hown hK ho_9 rfl 0 (by decide) q214 (fun _ h9 => h9) rfl dJ4_append_3_25 ?_
      refine lv_aload_n hx hb dJ4_append_3_28 rfl (lv_at hl 0 rfl) ?_
      refine lv_dup hx hb dJ4_append_3_29 rfl ?_
      refine kx_get (v := .int (kI ((16 : Nat) : Int))) (C := RJ5) (T := TJ5) (N := 4) hx hb hts in_J5 hown hK ho_9 rfl 3 (by decide) q218 (fun _ h9 => h9) rfl dJ4_append_3_30 ?_
      refine lv_dup_x1 hx hb dJ4_append_3_33 rfl rfl ?_
      refine kx_iconst hx hb dJ4_append_3_34 ?_
      refine kx_iadd hx hb dJ4_append_3_35 ?_
      refine kx_eqi (((17 : Nat) : Int)) (by omega) ?_
      refine kx_put (v := .int (kI ((17 : Nat) : Int))) (C := RJ5) (T := TJ5) (N := 4) hx hb hts in_J5 hown hK ho_9 rfl 3 (by decide) tyJ5 tyJ5_ok nmJ5 hS_17 (by first | rfl | exact Or.inl rfl | exact Or.inr rfl | exact Or.inr (Or.inl rfl) | exact Or.inr (Or.inr rfl) | exact Or.inr (Or.inr (Or.inl rfl)) | exact Or.inr (Or.inr (Or.inr rfl)) | ((try dsimp only); (try simp only [kNW]); omega)) q218 (fun _ h9 => h9) rfl rfl rfl rfl (Nat.le_of_ble_eq_true rfl) dJ4_append_3_36 (fun H_23 locs_24 hO_22 hU_21 hS_25 => ?_)
      have hO_22 : kO D H_23 bu 11 [.ref vb2, .int (kI (0)), .int (kI (kb (ml))), .int (kI ((17 : Nat) : Int))] := hO_22
      have hzu_26 := hU_21.1
      refine lv_iload_n hx hb dJ4_append_3_39 rfl (lv_at hl 1 rfl) ?_
      refine kx_i2b hx hb (z := x) (by omega) (by omega) dJ4_append_3_40 ?_
      have h_27 := ho_10.up hU_21 (by first | assumption | exact Ne.symm (by assumption)  | omega | (have h9 := ho_10.lt; omega))
      refine kx_bast (i := ((16 : Nat) : Int)) (x := x) hx hb hK h_27 hS_25 (by first | rfl | exact Or.inl rfl | exact Or.inr rfl | exact Or.inr (Or.inl rfl) | exact Or.inr (Or.inr rfl) | exact Or.inr (Or.inr (Or.inl rfl)) | exact Or.inr (Or.inr (Or.inr rfl)) | ((try dsimp only); (try simp only [kNW]); omega)) (by omega) (by omega) 16 (rfl) (by omega) (by omega) dJ4_append_3_41 (fun H_30 locs_31 hA_29 hU_28 hS_32 => ?_)
      have hzu_33 := hU_28.1
      refine lv_goto (tgt := 75) hx hb dJ4_append_3_42 (by decide) ?_
      refine lv_aload_n hx hb dJ4_append_3_75 rfl (lv_at hl 0 rfl) ?_
      have h_34 := hO_22.up hU_28 (by first | assumption | exact Ne.symm (by assumption)  | omega | (have h9 := hO_22.lt; omega))
      exact kx_aret (z := bu) hx hb hr (by first | exact Or.inl ⟨_, rfl⟩ | exact Or.inr ⟨_, rfl⟩) hlk (⟨vb2, by rfl, h_34, hA_29, by first | assumption | rfl | omega | grind⟩) hS_32 dJ4_append_3_76

set_option maxHeartbeats 4000000 in
set_option maxRecDepth 100000 in
theorem m_J5_append_r (l : Launch) (D : kG) (H : Heap) (bu : Nat) (vb : Nat) (ml : Bool) (cn : Nat) (cap : Nat) (g : Nat → Int) (x : Int) (hO_bu : kO D H bu 11 [.ref vb, .int (kI (0)), .int (kI (kb (ml))), .int (kI ((cn : Nat) : Int))]) (hA_vb : kAb D H vb cap g) (hcap : cap ≤ 1000) (hcn : cn ≤ cap) (hxr : 0 ≤ x ∧ x < 128) (hroom : cn < cap) (bs_bu : kBase D ≤ bu) (bs_vb : kBase D ≤ vb) (ne_bu_vb : bu ≠ vb) : Met l yJ5_append_3 (ws_ yJ5_append_3 cJ5_append_3 2 (some (.object "java/lang/StringBuilder"))) ({ frames := 2, cells := 0, slots := 0, locals := 43 } : Room) (kPre D H [.ref bu, .int (kI (x))]) (kQr (fun (r : Nat) H' => (r = bu) ∧ (kO D H' bu 11 [.ref vb, .int (kI (0)), .int (kI (kb (ml))), .int (kI ((cn + 1 : Nat) : Int))]) ∧ (kAb D H' vb cap ((kup g cn x)))) (fun q : Nat => q = bu ∨ q = vb)) (0) (0) ((fun q : Nat => q = bu ∨ q = vb)) := by
  refine Met.ofW (cc := cJ5_append_3) (maxL := 2) (ret := (some (.object "java/lang/StringBuilder"))) (by decide) rfl ?_
  intro p e s m args below meth c s₁ B hml hv
  obtain ⟨rfl, hH, hK⟩ := hv
  subst hH
  have hx := B.exec
  have hb := B.bytes
  have hr := B.returns
  have hts := atoms_spec (ws := ws_ yJ5_append_3 cJ5_append_3 2 (some (.object "java/lang/StringBuilder"))) B.pre
  have hts : ∀ w ∈ lw_all, w.before _ s = true := fun w h => hts w (List.mem_cons_of_mem _ h)
  have hown : s.vm.findClass RJ5 = some m.cls := findClass_of_methodNamed B.named
  have hlk := B.notSynchronized
  have hS : va_S (fun q : Nat => q = bu ∨ q = vb) s.heap s.heap [] := va_S.rf
  have hB : ∀ q, (fun q : Nat => q = bu ∨ q = vb) q → kBase D ≤ q := fun q h => by (try dsimp only at h); (try simp only [kNW] at h); have hks := hK.size; omega
  have hl := lv_entry ([.ref bu, .int (kI (x))]) (n := 2) (Nat.le_of_ble_eq_true rfl)
  rw [lg_entry_eq]
  generalize (lg_sl ([.ref bu, .int (kI (x))]) ++ List.replicate (2 - (lg_sl ([.ref bu, .int (kI (x))])).length) Slot.unset).toArray = ls at hl ⊢
  have hl : lv_has ls 2 [(0, .ref bu), (1, .int (kI (x)))] := hl
  have hltb := hO_bu.lt
  refine lv_aload_n hx hb dJ5_append_3_0 rfl (lv_at hl 0 rfl) ?_
  refine lv_iload_n hx hb dJ5_append_3_1 rfl (lv_at hl 1 rfl) ?_
  refine kx_cr (va_runSU (C := RJ5) (As := [.int (kI (x))]) (rest := []) (hK.at (ci := 11) rfl) ⟨hx, hb, hml, hown, hts⟩ (m_J4_append_r l D s.heap bu vb ml cn cap g x hO_bu hA_vb hcap hcn hxr hroom bs_bu bs_vb ne_bu_vb) (va_cwSU 1 hts (lw_SU q2175 q2661 q227 q2176 q85 q2177) rfl rfl rfl (by decide +kernel) ⟨Nat.le_of_ble_eq_true rfl, Nat.le_of_ble_eq_true rfl⟩) (kx_pv hK hS hB (kx_rc hK hO_bu (C := RJ5) (T := TJ5) (N := 4) rfl)) rfl rfl hl.1 rfl (lv_room (Nat.le_of_ble_eq_true rfl)) dJ5_append_3_2 ⟨by first | exact Nat.le_of_ble_eq_true rfl | omega | (show _ ≤ _; omega) | (dsimp only [headSpec]; omega), by first | exact Nat.le_of_ble_eq_true rfl | omega | (show _ ≤ _; omega) | (dsimp only [headSpec]; omega)⟩) hS (fun q _ h => by have h9 := hS.1; (try dsimp only at h); (try dsimp only); (try simp only [kNW] at h); (try simp only [kNW]); omega) (fun q h => by have h9 := hS.1; (try dsimp only at h); (try dsimp only); (try simp only [kNW] at h); (try simp only [kNW]); omega) (fun z_6 H_4 locs_1 hz_3 hF_5 hS_2 => ?_)
  have hzf_7 := hF_5.1
  refine W.widen (k := 0) (n := 0) (Nat.le_of_ble_eq_true rfl) (Nat.le_of_ble_eq_true rfl) ?_
  obtain ⟨hv_8, ho_9, ho_10⟩ := hz_3
  subst z_6
  refine lv_pop hx hb dJ5_append_3_5 rfl ?_
  refine lv_aload_n hx hb dJ5_append_3_6 rfl (lv_at hl 0 rfl) ?_
  exact kx_aret (z := bu) hx hb hr (by first | exact Or.inl ⟨_, rfl⟩ | exact Or.inr ⟨_, rfl⟩) hlk (⟨by rfl, ho_9, ho_10⟩) hS_2 dJ5_append_3_7

set_option maxHeartbeats 4000000 in
set_option maxRecDepth 100000 in
theorem m_J5_append_g (l : Launch) (D : kG) (H : Heap) (bu : Nat) (vb : Nat) (ml : Bool) (g : Nat → Int) (x : Int) (hO_bu : kO D H bu 11 [.ref vb, .int (kI (0)), .int (kI (kb (ml))), .int (kI ((16 : Nat) : Int))]) (hA_vb : kAb D H vb 16 g) (hxr : 0 ≤ x ∧ x < 128) (hg : ∀ j, j < 16 → 0 ≤ g j ∧ g j < 128) (bs_bu : kBase D ≤ bu) : Met l yJ5_append_3 (ws_ yJ5_append_3 cJ5_append_3 2 (some (.object "java/lang/StringBuilder"))) ({ frames := 5, cells := 1, slots := 34, locals := 125 } : Room) (kPre D H [.ref bu, .int (kI (x))]) (kQr (fun (r : Nat) H' => ∃ (vb2 : Nat), (r = bu) ∧ (kO D H' bu 11 [.ref vb2, .int (kI (0)), .int (kI (kb (ml))), .int (kI ((17 : Nat) : Int))]) ∧ (kAb D H' vb2 34 ((kup (fun j => if j < 16 then g j else 0) 16 x))) ∧ (H.size ≤ vb2)) (fun q : Nat => q = bu ∨ H.size ≤ q)) (1) (34) ((fun q : Nat => q = bu ∨ H.size ≤ q)) := by
  refine Met.ofW (cc := cJ5_append_3) (maxL := 2) (ret := (some (.object "java/lang/StringBuilder"))) (by decide) rfl ?_
  intro p e s m args below meth c s₁ B hml hv
  obtain ⟨rfl, hH, hK⟩ := hv
  subst hH
  have hx := B.exec
  have hb := B.bytes
  have hr := B.returns
  have hts := atoms_spec (ws := ws_ yJ5_append_3 cJ5_append_3 2 (some (.object "java/lang/StringBuilder"))) B.pre
  have hts : ∀ w ∈ lw_all, w.before _ s = true := fun w h => hts w (List.mem_cons_of_mem _ h)
  have hown : s.vm.findClass RJ5 = some m.cls := findClass_of_methodNamed B.named
  have hlk := B.notSynchronized
  have hS : va_S (fun q : Nat => q = bu ∨ s.heap.size ≤ q) s.heap s.heap [] := va_S.rf
  have hB : ∀ q, (fun q : Nat => q = bu ∨ s.heap.size ≤ q) q → kBase D ≤ q := fun q h => by (try dsimp only at h); (try simp only [kNW] at h); have hks := hK.size; omega
  have hl := lv_entry ([.ref bu, .int (kI (x))]) (n := 2) (Nat.le_of_ble_eq_true rfl)
  rw [lg_entry_eq]
  generalize (lg_sl ([.ref bu, .int (kI (x))]) ++ List.replicate (2 - (lg_sl ([.ref bu, .int (kI (x))])).length) Slot.unset).toArray = ls at hl ⊢
  have hl : lv_has ls 2 [(0, .ref bu), (1, .int (kI (x)))] := hl
  have hltb := hO_bu.lt
  refine lv_aload_n hx hb dJ5_append_3_0 rfl (lv_at hl 0 rfl) ?_
  refine lv_iload_n hx hb dJ5_append_3_1 rfl (lv_at hl 1 rfl) ?_
  refine kx_cr (va_runSU (C := RJ5) (As := [.int (kI (x))]) (rest := []) (hK.at (ci := 11) rfl) ⟨hx, hb, hml, hown, hts⟩ (m_J4_append_g l D s.heap bu vb ml g x hO_bu hA_vb hxr hg bs_bu) (va_cwSU 1 hts (lw_SU q2175 q2661 q227 q2176 q85 q2177) rfl rfl rfl (by decide +kernel) ⟨Nat.le_of_ble_eq_true rfl, Nat.le_of_ble_eq_true rfl⟩) (kx_pv hK hS hB (kx_rc hK hO_bu (C := RJ5) (T := TJ5) (N := 4) rfl)) rfl rfl hl.1 rfl (lv_room (Nat.le_of_ble_eq_true rfl)) dJ5_append_3_2 ⟨by first | exact Nat.le_of_ble_eq_true rfl | omega | (show _ ≤ _; omega) | (dsimp only [headSpec]; omega), by first | exact Nat.le_of_ble_eq_true rfl | omega | (show _ ≤ _; omega) | (dsimp only [headSpec]; omega)⟩) hS (fun q _ h => by have h9 := hS.1; (try dsimp only at h); (try dsimp only); (try simp only [kNW] at h); (try simp only [kNW]); omega) (fun q h => by have h9 := hS.1; (try dsimp only at h); (try dsimp only); (try simp only [kNW] at h); (try simp only [kNW]); omega) (fun z_6 H_4 locs_1 hz_3 hF_5 hS_2 => ?_)
  have hzf_7 := hF_5.1
  refine W.widen (k := 1) (n := 34) (Nat.le_of_ble_eq_true rfl) (Nat.le_of_ble_eq_true rfl) ?_
  obtain ⟨vb2, hv_9, ho_10, ho_11, hnb9⟩ := hz_3
  subst z_6
  refine lv_pop hx hb dJ5_append_3_5 rfl ?_
  refine lv_aload_n hx hb dJ5_append_3_6 rfl (lv_at hl 0 rfl) ?_
  exact kx_aret (z := bu) hx hb hr (by first | exact Or.inl ⟨_, rfl⟩ | exact Or.inr ⟨_, rfl⟩) hlk (⟨vb2, by rfl, ho_10, ho_11, by first | assumption | rfl | omega | grind⟩) hS_2 dJ5_append_3_7

set_option maxHeartbeats 4000000 in
set_option maxRecDepth 100000 in
theorem m_J4_setLength (l : Launch) (D : kG) (H : Heap) (bu : Nat) (vb : Nat) (ml : Bool) (cn : Nat) (cap : Nat) (g : Nat → Int) (hO_bu : kO D H bu 11 [.ref vb, .int (kI (0)), .int (kI (kb (ml))), .int (kI ((cn : Nat) : Int))]) (hA_vb : kAb D H vb cap g) (hcap : cap ≤ 1000) (hcn : cn ≤ cap) (bs_bu : kBase D ≤ bu) (ne_bu_vb : bu ≠ vb) : Met l yJ4_setLength (ws_ yJ4_setLength cJ4_setLength 2 none) ({ frames := 1, cells := 0, slots := 0, locals := 22 } : Room) (kPre D H [.ref bu, .int (kI (0))]) (kQv (fun H' => ∃ (ml2 : Bool), (kO D H' bu 11 [.ref vb, .int (kI (0)), .int (kI (kb (ml2))), .int (kI ((0 : Nat) : Int))])) (fun q : Nat => q = bu)) (0) (0) ((fun q : Nat => q = bu)) := by
  refine Met.ofW (cc := cJ4_setLength) (maxL := 2) (ret := none) (by decide) rfl ?_
  intro p e s m args below meth c s₁ B hml hv
  obtain ⟨rfl, hH, hK⟩ := hv
  subst hH
  have hx := B.exec
  have hb := B.bytes
  have hr := B.returns
  have hts := atoms_spec (ws := ws_ yJ4_setLength cJ4_setLength 2 none) B.pre
  have hts : ∀ w ∈ lw_all, w.before _ s = true := fun w h => hts w (List.mem_cons_of_mem _ h)
  have hown : s.vm.findClass RJ4 = some m.cls := findClass_of_methodNamed B.named
  have hlk := B.notSynchronized
  have hS : va_S (fun q : Nat => q = bu) s.heap s.heap [] := va_S.rf
  have hB : ∀ q, (fun q : Nat => q = bu) q → kBase D ≤ q := fun q h => by (try dsimp only at h); (try simp only [kNW] at h); have hks := hK.size; omega
  have hl := lv_entry ([.ref bu, .int (kI (0))]) (n := 2) (Nat.le_of_ble_eq_true rfl)
  rw [lg_entry_eq]
  generalize (lg_sl ([.ref bu, .int (kI (0))]) ++ List.replicate (2 - (lg_sl ([.ref bu, .int (kI (0))])).length) Slot.unset).toArray = ls at hl ⊢
  have hl : lv_has ls 2 [(0, .ref bu), (1, .int (kI (0)))] := hl
  refine lv_iload_n hx hb dJ4_setLength_0 rfl (lv_at hl 1 rfl) ?_
  refine kx_if_ge (x := 0) (tgt := 13) hx hb dJ4_setLength_1 (by decide) (by omega) (by omega) (fun c_1_1 => ?_) (fun c_1_1 => ?_)
  · -- taken at 1
    refine lv_aload_n hx hb dJ4_setLength_13 rfl (lv_at hl 0 rfl) ?_
    refine lv_iload_n hx hb dJ4_setLength_14 rfl (lv_at hl 1 rfl) ?_
    refine kx_cv0 (va_runP (As := [.int (kI (0))]) (rest := []) ⟨hx, hb, hml, hown, hts⟩ (m_J4_ensureCapacityInternal l D s.heap bu vb ml cn cap g 0 hO_bu hA_vb hcap hcn ((by omega))) (va_cwP 1 hts (lw_meth q1328) rfl rfl rfl (hts _ q85) (hts _ q1325) (by decide +kernel) ⟨Nat.le_of_ble_eq_true rfl, Nat.le_of_ble_eq_true rfl⟩) (hts _ q1327) (hK.w q1326 rfl) (hts _ q802) rfl (kx_pv hK hS hB (kx_rc hK hO_bu (C := RJ5) (T := TJ5) (N := 4) rfl)) rfl rfl hl.1 rfl (lv_room (Nat.le_of_ble_eq_true rfl)) dJ4_setLength_15 ⟨by first | exact Nat.le_of_ble_eq_true rfl | omega | (show _ ≤ _; omega) | (dsimp only [headSpec]; omega), by first | exact Nat.le_of_ble_eq_true rfl | omega | (show _ ≤ _; omega) | (dsimp only [headSpec]; omega)⟩) hS (fun locs_2 hz_4 hS_3 => ?_)
    refine lv_aload_n hx hb dJ4_setLength_18 rfl (lv_at hl 0 rfl) ?_
    refine kx_get (v := .int (kI ((cn : Nat) : Int))) (C := RJ5) (T := TJ5) (N := 4) hx hb hts in_J5 hown hK hO_bu rfl 3 (by decide) q218 (fun _ h9 => h9) rfl dJ4_setLength_19 ?_
    refine lv_iload_n hx hb dJ4_setLength_22 rfl (lv_at hl 1 rfl) ?_
    refine kx_icmp_ge (x := ((cn : Nat) : Int)) (y := 0) (tgt := 63) hx hb dJ4_setLength_23 (by decide) (by omega) (by omega) (by omega) (by omega) (fun c_23_6 => ?_) (fun c_23_6 => ?_)
    · -- taken at 23
      refine lv_aload_n hx hb dJ4_setLength_63 rfl (lv_at hl 0 rfl) ?_
      refine kx_get (v := .int (kI ((cn : Nat) : Int))) (C := RJ5) (T := TJ5) (N := 4) hx hb hts in_J5 hown hK hO_bu rfl 3 (by decide) q218 (fun _ h9 => h9) rfl dJ4_setLength_64 ?_
      refine lv_iload_n hx hb dJ4_setLength_67 rfl (lv_at hl 1 rfl) ?_
      refine kx_icmp_le (x := ((cn : Nat) : Int)) (y := 0) (tgt := 76) hx hb dJ4_setLength_68 (by decide) (by omega) (by omega) (by omega) (by omega) (fun c_68_7 => ?_) (fun c_68_7 => ?_)
      · -- taken at 68
        refine lv_aload_n hx hb dJ4_setLength_76 rfl (lv_at hl 0 rfl) ?_
        refine lv_iload_n hx hb dJ4_setLength_77 rfl (lv_at hl 1 rfl) ?_
        refine kx_put (v := .int (kI (0))) (C := RJ5) (T := TJ5) (N := 4) hx hb hts in_J5 hown hK hO_bu rfl 3 (by decide) tyJ5 tyJ5_ok nmJ5 hS_3 (by first | rfl | exact Or.inl rfl | exact Or.inr rfl | exact Or.inr (Or.inl rfl) | exact Or.inr (Or.inr rfl) | exact Or.inr (Or.inr (Or.inl rfl)) | exact Or.inr (Or.inr (Or.inr rfl)) | ((try dsimp only); (try simp only [kNW]); omega)) q218 (fun _ h9 => h9) rfl rfl rfl rfl (Nat.le_of_ble_eq_true rfl) dJ4_setLength_78 (fun H_10 locs_11 hO_9 hU_8 hS_12 => ?_)
        have hO_9 : kO D H_10 bu 11 [.ref vb, .int (kI (0)), .int (kI (kb (ml))), .int (kI (0))] := hO_9
        have hzu_13 := hU_8.1
        exact kx_vret hx hb hr hlk (⟨ml, hO_9⟩) hS_12 dJ4_setLength_81
      · -- not taken at 68
        refine lv_aload_n hx hb dJ4_setLength_71 rfl (lv_at hl 0 rfl) ?_
        refine kx_iconst hx hb dJ4_setLength_72 ?_
        refine kx_put (v := .int (kI (kb (true)))) (C := RJ5) (T := TJ5) (N := 4) hx hb hts in_J5 hown hK hO_bu rfl 2 (by decide) tyJ5 tyJ5_ok nmJ5 hS_3 (by first | rfl | exact Or.inl rfl | exact Or.inr rfl | exact Or.inr (Or.inl rfl) | exact Or.inr (Or.inr rfl) | exact Or.inr (Or.inr (Or.inl rfl)) | exact Or.inr (Or.inr (Or.inr rfl)) | ((try dsimp only); (try simp only [kNW]); omega)) q216 (fun _ h9 => h9) rfl rfl (kb_narZ _) (kb_fitZ _) (Nat.le_of_ble_eq_true rfl) dJ4_setLength_73 (fun H_16 locs_17 hO_15 hU_14 hS_18 => ?_)
        have hO_15 : kO D H_16 bu 11 [.ref vb, .int (kI (0)), .int (kI (kb (true))), .int (kI ((cn : Nat) : Int))] := hO_15
        have hzu_19 := hU_14.1
        refine lv_aload_n hx hb dJ4_setLength_76 rfl (lv_at hl 0 rfl) ?_
        refine lv_iload_n hx hb dJ4_setLength_77 rfl (lv_at hl 1 rfl) ?_
        refine kx_put (v := .int (kI (0))) (C := RJ5) (T := TJ5) (N := 4) hx hb hts in_J5 hown hK hO_15 rfl 3 (by decide) tyJ5 tyJ5_ok nmJ5 hS_18 (by first | rfl | exact Or.inl rfl | exact Or.inr rfl | exact Or.inr (Or.inl rfl) | exact Or.inr (Or.inr rfl) | exact Or.inr (Or.inr (Or.inl rfl)) | exact Or.inr (Or.inr (Or.inr rfl)) | ((try dsimp only); (try simp only [kNW]); omega)) q218 (fun _ h9 => h9) rfl rfl rfl rfl (Nat.le_of_ble_eq_true rfl) dJ4_setLength_78 (fun H_22 locs_23 hO_21 hU_20 hS_24 => ?_)
        have hO_21 : kO D H_22 bu 11 [.ref vb, .int (kI (0)), .int (kI (kb (true))), .int (kI (0))] := hO_21
        have hzu_25 := hU_20.1
        exact kx_vret hx hb hr hlk (⟨true, hO_21⟩) hS_24 dJ4_setLength_81
    · -- not taken at 23
      exfalso; omega
  · -- not taken at 1
    exfalso; omega

set_option maxHeartbeats 4000000 in
set_option maxRecDepth 100000 in
theorem m_J5_setLength (l : Launch) (D : kG) (H : Heap) (bu : Nat) (vb : Nat) (ml : Bool) (cn : Nat) (cap : Nat) (g : Nat → Int) (hO_bu : kO D H bu 11 [.ref vb, .int (kI (0)), .int (kI (kb (ml))), .int (kI ((cn : Nat) : Int))]) (hA_vb : kAb D H vb cap g) (hcap : cap ≤ 1000) (hcn : cn ≤ cap) (bs_bu : kBase D ≤ bu) (ne_bu_vb : bu ≠ vb) : Met l yJ5_setLength (ws_ yJ5_setLength cJ5_setLength 2 none) ({ frames := 2, cells := 0, slots := 0, locals := 43 } : Room) (kPre D H [.ref bu, .int (kI (0))]) (kQv (fun H' => ∃ (ml2 : Bool), (kO D H' bu 11 [.ref vb, .int (kI (0)), .int (kI (kb (ml2))), .int (kI ((0 : Nat) : Int))])) (fun q : Nat => q = bu)) (0) (0) ((fun q : Nat => q = bu)) := by
  refine Met.ofW (cc := cJ5_setLength) (maxL := 2) (ret := none) (by decide) rfl ?_
  intro p e s m args below meth c s₁ B hml hv
  obtain ⟨rfl, hH, hK⟩ := hv
  subst hH
  have hx := B.exec
  have hb := B.bytes
  have hr := B.returns
  have hts := atoms_spec (ws := ws_ yJ5_setLength cJ5_setLength 2 none) B.pre
  have hts : ∀ w ∈ lw_all, w.before _ s = true := fun w h => hts w (List.mem_cons_of_mem _ h)
  have hown : s.vm.findClass RJ5 = some m.cls := findClass_of_methodNamed B.named
  have hlk := B.notSynchronized
  have hS : va_S (fun q : Nat => q = bu) s.heap s.heap [] := va_S.rf
  have hB : ∀ q, (fun q : Nat => q = bu) q → kBase D ≤ q := fun q h => by (try dsimp only at h); (try simp only [kNW] at h); have hks := hK.size; omega
  have hl := lv_entry ([.ref bu, .int (kI (0))]) (n := 2) (Nat.le_of_ble_eq_true rfl)
  rw [lg_entry_eq]
  generalize (lg_sl ([.ref bu, .int (kI (0))]) ++ List.replicate (2 - (lg_sl ([.ref bu, .int (kI (0))])).length) Slot.unset).toArray = ls at hl ⊢
  have hl : lv_has ls 2 [(0, .ref bu), (1, .int (kI (0)))] := hl
  refine lv_aload_n hx hb dJ5_setLength_0 rfl (lv_at hl 0 rfl) ?_
  refine lv_iload_n hx hb dJ5_setLength_1 rfl (lv_at hl 1 rfl) ?_
  refine kx_cv (va_runSU (C := RJ5) (As := [.int (kI (0))]) (rest := []) (hK.at (ci := 11) rfl) ⟨hx, hb, hml, hown, hts⟩ (m_J4_setLength l D s.heap bu vb ml cn cap g hO_bu hA_vb hcap hcn bs_bu ne_bu_vb) (va_cwSU 1 hts (lw_SU q1303 q2650 q227 q1304 q85 q1305) rfl rfl rfl (by decide +kernel) ⟨Nat.le_of_ble_eq_true rfl, Nat.le_of_ble_eq_true rfl⟩) (kx_pv hK hS hB (kx_rc hK hO_bu (C := RJ5) (T := TJ5) (N := 4) rfl)) rfl rfl hl.1 rfl (lv_room (Nat.le_of_ble_eq_true rfl)) dJ5_setLength_2 ⟨by first | exact Nat.le_of_ble_eq_true rfl | omega | (show _ ≤ _; omega) | (dsimp only [headSpec]; omega), by first | exact Nat.le_of_ble_eq_true rfl | omega | (show _ ≤ _; omega) | (dsimp only [headSpec]; omega)⟩) hS (fun q _ h => by (try dsimp only at h); (try dsimp only); (try simp only [kNW] at h); (try simp only [kNW]); omega) (fun q h => by (try dsimp only at h); (try dsimp only); (try simp only [kNW] at h); (try simp only [kNW]); omega) (fun H_4 locs_1 hz_3 hF_5 hS_2 => ?_)
  have hzf_7 := hF_5.1
  refine W.widen (k := 0) (n := 0) (Nat.le_of_ble_eq_true rfl) (Nat.le_of_ble_eq_true rfl) ?_
  obtain ⟨ml2_8, ho_9⟩ := hz_3
  exact kx_vret hx hb hr hlk (⟨ml2_8, ho_9⟩) hS_2 dJ5_setLength_5

set_option maxHeartbeats 4000000 in
set_option maxRecDepth 100000 in
theorem m_J15_checkIndex_r1 (l : Launch) (D : kG) (H : Heap) (x : Int) (y : Int) (z : Nat) (hr_x : -2147483648 ≤ x ∧ x ≤ 2147483647) (hr_y : -2147483648 ≤ y ∧ y ≤ 2147483647) (hxy : 0 ≤ x ∧ x < y) : Met l yJ15_checkIndex (ws_ yJ15_checkIndex cJ15_checkIndex 3 (some .int)) ({ frames := 0, cells := 0, slots := 0, locals := 0 } : Room) (kPre D H [.int (kI (x)), .int (kI (y)), .ref z]) (kQi (fun (r : Int) H' => H' = H ∧ r = x) kNO) (0) (0) (kNO) := by
  refine Met.ofW (cc := cJ15_checkIndex) (maxL := 3) (ret := (some .int)) (by decide) rfl ?_
  intro p e s m args below meth c s₁ B hml hv
  obtain ⟨rfl, hH, hK⟩ := hv
  subst hH
  have hx := B.exec
  have hb := B.bytes
  have hr := B.returns
  have hts := atoms_spec (ws := ws_ yJ15_checkIndex cJ15_checkIndex 3 (some .int)) B.pre
  have hts : ∀ w ∈ lw_all, w.before _ s = true := fun w h => hts w (List.mem_cons_of_mem _ h)
  have hown : s.vm.findClass RJ15 = some m.cls := findClass_of_methodNamed B.named
  have hlk := B.notSynchronized
  have hS : va_S kNO s.heap s.heap [] := va_S.rf
  have hB : ∀ q, kNO q → kBase D ≤ q := fun _ h => h.elim
  have hl := lv_entry ([.int (kI (x)), .int (kI (y)), .ref z]) (n := 3) (Nat.le_of_ble_eq_true rfl)
  rw [lg_entry_eq]
  generalize (lg_sl ([.int (kI (x)), .int (kI (y)), .ref z]) ++ List.replicate (3 - (lg_sl ([.int (kI (x)), .int (kI (y)), .ref z])).length) Slot.unset).toArray = ls at hl ⊢
  have hl : lv_has ls 3 [(0, .int (kI (x))), (1, .int (kI (y))), (2, .ref z)] := hl
  refine lv_iload_n hx hb dJ15_checkIndex_0 rfl (lv_at hl 0 rfl) ?_
  refine kx_if_lt (x := x) (tgt := 9) hx hb dJ15_checkIndex_1 (by decide) (by omega) (by omega) (fun c_1_1 => ?_) (fun c_1_1 => ?_)
  · -- taken at 1
    exfalso; omega
  · -- not taken at 1
    refine lv_iload_n hx hb dJ15_checkIndex_4 rfl (lv_at hl 0 rfl) ?_
    refine lv_iload_n hx hb dJ15_checkIndex_5 rfl (lv_at hl 1 rfl) ?_
    refine kx_icmp_lt (x := x) (y := y) (tgt := 16) hx hb dJ15_checkIndex_6 (by decide) (by omega) (by omega) (by omega) (by omega) (fun c_6_2 => ?_) (fun c_6_2 => ?_)
    · -- taken at 6
      refine lv_iload_n hx hb dJ15_checkIndex_16 rfl (lv_at hl 0 rfl) ?_
      exact kx_iret (z := x) hx hb hr hlk (⟨rfl, by first | rfl | omega | grind⟩) hS dJ15_checkIndex_17
    · -- not taken at 6
      exfalso; omega

set_option maxHeartbeats 4000000 in
set_option maxRecDepth 100000 in
theorem m_J15_checkIndex_r0 (l : Launch) (D : kG) (H : Heap) (x : Int) (y : Int) (hr_x : -2147483648 ≤ x ∧ x ≤ 2147483647) (hr_y : -2147483648 ≤ y ∧ y ≤ 2147483647) (hxy : 0 ≤ x ∧ x < y) : Met l yJ15_checkIndex (ws_ yJ15_checkIndex cJ15_checkIndex 3 (some .int)) ({ frames := 0, cells := 0, slots := 0, locals := 0 } : Room) (kPre D H [.int (kI (x)), .int (kI (y)), .null]) (kQi (fun (r : Int) H' => H' = H ∧ r = x) kNO) (0) (0) (kNO) := by
  refine Met.ofW (cc := cJ15_checkIndex) (maxL := 3) (ret := (some .int)) (by decide) rfl ?_
  intro p e s m args below meth c s₁ B hml hv
  obtain ⟨rfl, hH, hK⟩ := hv
  subst hH
  have hx := B.exec
  have hb := B.bytes
  have hr := B.returns
  have hts := atoms_spec (ws := ws_ yJ15_checkIndex cJ15_checkIndex 3 (some .int)) B.pre
  have hts : ∀ w ∈ lw_all, w.before _ s = true := fun w h => hts w (List.mem_cons_of_mem _ h)
  have hown : s.vm.findClass RJ15 = some m.cls := findClass_of_methodNamed B.named
  have hlk := B.notSynchronized
  have hS : va_S kNO s.heap s.heap [] := va_S.rf
  have hB : ∀ q, kNO q → kBase D ≤ q := fun _ h => h.elim
  have hl := lv_entry ([.int (kI (x)), .int (kI (y)), .null]) (n := 3) (Nat.le_of_ble_eq_true rfl)
  rw [lg_entry_eq]
  generalize (lg_sl ([.int (kI (x)), .int (kI (y)), .null]) ++ List.replicate (3 - (lg_sl ([.int (kI (x)), .int (kI (y)), .null])).length) Slot.unset).toArray = ls at hl ⊢
  have hl : lv_has ls 3 [(0, .int (kI (x))), (1, .int (kI (y))), (2, .null)] := hl
  refine lv_iload_n hx hb dJ15_checkIndex_0 rfl (lv_at hl 0 rfl) ?_
  refine kx_if_lt (x := x) (tgt := 9) hx hb dJ15_checkIndex_1 (by decide) (by omega) (by omega) (fun c_1_1 => ?_) (fun c_1_1 => ?_)
  · -- taken at 1
    exfalso; omega
  · -- not taken at 1
    refine lv_iload_n hx hb dJ15_checkIndex_4 rfl (lv_at hl 0 rfl) ?_
    refine lv_iload_n hx hb dJ15_checkIndex_5 rfl (lv_at hl 1 rfl) ?_
    refine kx_icmp_lt (x := x) (y := y) (tgt := 16) hx hb dJ15_checkIndex_6 (by decide) (by omega) (by omega) (by omega) (by omega) (fun c_6_2 => ?_) (fun c_6_2 => ?_)
    · -- taken at 6
      refine lv_iload_n hx hb dJ15_checkIndex_16 rfl (lv_at hl 0 rfl) ?_
      exact kx_iret (z := x) hx hb hr hlk (⟨rfl, by first | rfl | omega | grind⟩) hS dJ15_checkIndex_17
    · -- not taken at 6
      exfalso; omega

set_option maxHeartbeats 4000000 in
set_option maxRecDepth 100000 in
theorem m_J15_checkIndex_r (l : Launch) (D : kG) (H : Heap) (x : Int) (y : Int) (z : Option Nat) (hr_x : -2147483648 ≤ x ∧ x ≤ 2147483647) (hr_y : -2147483648 ≤ y ∧ y ≤ 2147483647) (hxy : 0 ≤ x ∧ x < y) : Met l yJ15_checkIndex (ws_ yJ15_checkIndex cJ15_checkIndex 3 (some .int)) ({ frames := 0, cells := 0, slots := 0, locals := 0 } : Room) (kPre D H [.int (kI (x)), .int (kI (y)), va_rf (z)]) (kQi (fun (r : Int) H' => H' = H ∧ r = x) kNO) (0) (0) (kNO) := by
  rcases z with _ | z
  · exact m_J15_checkIndex_r0 l D H x y hr_x hr_y hxy
  · exact m_J15_checkIndex_r1 l D H x y z hr_x hr_y hxy

set_option maxHeartbeats 4000000 in
set_option maxRecDepth 100000 in
theorem m_J6_checkIndex (l : Launch) (D : kG) (H : Heap) (x : Int) (y : Int) (hr_x : -2147483648 ≤ x ∧ x ≤ 2147483647) (hr_y : -2147483648 ≤ y ∧ y ≤ 2147483647) (hxy : 0 ≤ x ∧ x < y) : Met l yJ6_checkIndex (ws_ yJ6_checkIndex cJ6_checkIndex 2 none) ({ frames := 1, cells := 0, slots := 0, locals := 22 } : Room) (kPre D H [.int (kI (x)), .int (kI (y))]) (kQv (fun H' => H' = H ∧ True) kNO) (0) (0) (kNO) := by
  refine Met.ofW (cc := cJ6_checkIndex) (maxL := 2) (ret := none) (by decide) rfl ?_
  intro p e s m args below meth c s₁ B hml hv
  obtain ⟨rfl, hH, hK⟩ := hv
  subst hH
  have hx := B.exec
  have hb := B.bytes
  have hr := B.returns
  have hts := atoms_spec (ws := ws_ yJ6_checkIndex cJ6_checkIndex 2 none) B.pre
  have hts : ∀ w ∈ lw_all, w.before _ s = true := fun w h => hts w (List.mem_cons_of_mem _ h)
  have hown : s.vm.findClass RJ6 = some m.cls := findClass_of_methodNamed B.named
  have hlk := B.notSynchronized
  have hS : va_S kNO s.heap s.heap [] := va_S.rf
  have hB : ∀ q, kNO q → kBase D ≤ q := fun _ h => h.elim
  have hl := lv_entry ([.int (kI (x)), .int (kI (y))]) (n := 2) (Nat.le_of_ble_eq_true rfl)
  rw [lg_entry_eq]
  generalize (lg_sl ([.int (kI (x)), .int (kI (y))]) ++ List.replicate (2 - (lg_sl ([.int (kI (x)), .int (kI (y))])).length) Slot.unset).toArray = ls at hl ⊢
  have hl : lv_has ls 2 [(0, .int (kI (x))), (1, .int (kI (y)))] := hl
  refine lv_iload_n hx hb dJ6_checkIndex_0 rfl (lv_at hl 0 rfl) ?_
  refine lv_iload_n hx hb dJ6_checkIndex_1 rfl (lv_at hl 1 rfl) ?_
  refine kx_gets (v := va_rf (kFm D)) hx hb hts hK.sFm hS hB hown q814 (fun _ h9 => h9) dJ6_checkIndex_2 ?_
  refine kx_ci0 (va_runS (As := [.int (kI (x)), .int (kI (y)), va_rf (kFm D)]) (rest := []) ⟨hx, hb, hml, hown, hts⟩ (m_J15_checkIndex_r l D s.heap x y (kFm D)  (by first | assumption | omega) (by first | assumption | omega) (by first | assumption | omega)) (va_cwS 3 hts (lw_S q1582 q301 q97 q302) rfl rfl rfl (by decide +kernel) ⟨Nat.le_of_ble_eq_true rfl, Nat.le_of_ble_eq_true rfl⟩) (kx_ps hK hS hB) rfl rfl hl.1 rfl (lv_room (Nat.le_of_ble_eq_true rfl)) dJ6_checkIndex_5 ⟨by first | exact Nat.le_of_ble_eq_true rfl | omega | (show _ ≤ _; omega) | (dsimp only [headSpec]; omega), by first | exact Nat.le_of_ble_eq_true rfl | omega | (show _ ≤ _; omega) | (dsimp only [headSpec]; omega)⟩) hS (fun z_4 locs_1 hz_3 hS_2 => ?_)
  subst z_4
  refine lv_pop hx hb dJ6_checkIndex_8 rfl ?_
  exact kx_vret hx hb hr hlk (⟨rfl, trivial⟩) hS_2 dJ6_checkIndex_9

set_option maxHeartbeats 4000000 in
set_option maxRecDepth 100000 in
theorem m_J4_charAt (l : Launch) (D : kG) (H : Heap) (bu : Nat) (vb : Nat) (ml : Bool) (cn : Nat) (cap : Nat) (g : Nat → Int) (i : Nat) (hO_bu : kO D H bu 11 [.ref vb, .int (kI (0)), .int (kI (kb (ml))), .int (kI ((cn : Nat) : Int))]) (hA_vb : kAb D H vb cap g) (hcap : cap ≤ 1000) (hcn : cn ≤ cap) (hg : ∀ j, j < cn → 0 ≤ g j ∧ g j < 128) (hi : i < cn) : Met l yJ4_charAt (ws_ yJ4_charAt cJ4_charAt 5 (some .char)) ({ frames := 2, cells := 0, slots := 0, locals := 43 } : Room) (kPre D H [.ref bu, .int (kI ((i : Nat) : Int))]) (kQi (fun (r : Int) H' => H' = H ∧ r = g i) kNO) (0) (0) (kNO) := by
  refine Met.ofW (cc := cJ4_charAt) (maxL := 5) (ret := (some .char)) (by decide) rfl ?_
  intro p e s m args below meth c s₁ B hml hv
  obtain ⟨rfl, hH, hK⟩ := hv
  subst hH
  have hx := B.exec
  have hb := B.bytes
  have hr := B.returns
  have hts := atoms_spec (ws := ws_ yJ4_charAt cJ4_charAt 5 (some .char)) B.pre
  have hts : ∀ w ∈ lw_all, w.before _ s = true := fun w h => hts w (List.mem_cons_of_mem _ h)
  have hown : s.vm.findClass RJ4 = some m.cls := findClass_of_methodNamed B.named
  have hlk := B.notSynchronized
  have hS : va_S kNO s.heap s.heap [] := va_S.rf
  have hB : ∀ q, kNO q → kBase D ≤ q := fun _ h => h.elim
  have hl := lv_entry ([.ref bu, .int (kI ((i : Nat) : Int))]) (n := 5) (Nat.le_of_ble_eq_true rfl)
  rw [lg_entry_eq]
  generalize (lg_sl ([.ref bu, .int (kI ((i : Nat) : Int))]) ++ List.replicate (5 - (lg_sl ([.ref bu, .int (kI ((i : Nat) : Int))])).length) Slot.unset).toArray = ls at hl ⊢
  have hl : lv_has ls 5 [(0, .ref bu), (1, .int (kI ((i : Nat) : Int)))] := hl
  have hgi9 := hg i hi
  refine lv_aload_n hx hb dJ4_charAt_0 rfl (lv_at hl 0 rfl) ?_
  refine kx_get (v := .int (kI (0))) (C := RJ5) (T := TJ5) (N := 4) hx hb hts in_J5 hown hK hO_bu rfl 1 (by decide) q215 (fun _ h9 => h9) rfl dJ4_charAt_1 ?_
  refine lv_istore_n (lv' := [(2, .int (kI (0))), (0, .ref bu), (1, .int (kI ((i : Nat) : Int)))]) hx hb dJ4_charAt_4 rfl hl (by decide) rfl (fun ls hl => ?_)
  refine lv_aload_n hx hb dJ4_charAt_5 rfl (lv_at hl 1 rfl) ?_
  refine kx_get (v := .ref vb) (C := RJ5) (T := TJ5) (N := 4) hx hb hts in_J5 hown hK hO_bu rfl 0 (by decide) q214 (fun _ h9 => h9) rfl dJ4_charAt_6 ?_
  refine lv_astore_n (lv' := [(3, .ref vb), (2, .int (kI (0))), (0, .ref bu), (1, .int (kI ((i : Nat) : Int)))]) hx hb dJ4_charAt_9 rfl hl (by decide) rfl (fun ls hl => ?_)
  refine lv_aload_n hx hb dJ4_charAt_10 rfl (lv_at hl 2 rfl) ?_
  refine kx_get (v := .int (kI ((cn : Nat) : Int))) (C := RJ5) (T := TJ5) (N := 4) hx hb hts in_J5 hown hK hO_bu rfl 3 (by decide) q218 (fun _ h9 => h9) rfl dJ4_charAt_11 ?_
  refine lv_aload_n hx hb dJ4_charAt_14 rfl (lv_at hl 0 rfl) ?_
  refine kx_alen hx hb hK hA_vb rfl dJ4_charAt_15 ?_
  refine lv_iload_n hx hb dJ4_charAt_16 rfl (lv_at hl 1 rfl) ?_
  refine kx_ishr0 hx hb (z := ((cap : Nat) : Int)) dJ4_charAt_17 ?_
  refine kx_mmin (x := ((cn : Nat) : Int)) (y := ((cap : Nat) : Int)) hx hb hml hl.1 hts hown q1578 q433 q102 q434 (by first | exact Nat.le_of_ble_eq_true rfl | omega | (show _ ≤ _; omega) | (dsimp only [headSpec]; omega)) (by first | exact Nat.le_of_ble_eq_true rfl | omega | (show _ ≤ _; omega) | (dsimp only [headSpec]; omega)) (by first | exact Nat.le_of_ble_eq_true rfl | omega | (show _ ≤ _; omega) | (dsimp only [headSpec]; omega)) (by first | exact Nat.le_of_ble_eq_true rfl | omega | (show _ ≤ _; omega) | (dsimp only [headSpec]; omega)) (by omega) (by omega) (by omega) (by omega) dJ4_charAt_18 ?_
  refine kx_eqi (((cn : Nat) : Int)) (by split <;> omega) ?_
  refine lv_istore (lv' := [(4, .int (kI ((cn : Nat) : Int))), (3, .ref vb), (2, .int (kI (0))), (0, .ref bu), (1, .int (kI ((i : Nat) : Int)))]) hx hb dJ4_charAt_21 hl (by decide) rfl (fun ls hl => ?_)
  refine lv_iload_n hx hb dJ4_charAt_23 rfl (lv_at hl 4 rfl) ?_
  refine lv_iload hx hb dJ4_charAt_24 (lv_at hl 0 rfl) ?_
  refine kx_cv0 (va_runS (As := [.int (kI ((i : Nat) : Int)), .int (kI ((cn : Nat) : Int))]) (rest := []) ⟨hx, hb, hml, hown, hts⟩ (m_J6_checkIndex l D s.heap (((i : Nat) : Int)) (((cn : Nat) : Int))  (by first | assumption | omega) (by first | assumption | omega) (by first | assumption | omega)) (va_cwS 2 hts (lw_S q1579 q1580 q87 q1581) rfl rfl rfl (by decide +kernel) ⟨Nat.le_of_ble_eq_true rfl, Nat.le_of_ble_eq_true rfl⟩) (kx_ps hK hS hB) rfl rfl hl.1 rfl (lv_room (Nat.le_of_ble_eq_true rfl)) dJ4_charAt_26 ⟨by first | exact Nat.le_of_ble_eq_true rfl | omega | (show _ ≤ _; omega) | (dsimp only [headSpec]; omega), by first | exact Nat.le_of_ble_eq_true rfl | omega | (show _ ≤ _; omega) | (dsimp only [headSpec]; omega)⟩) hS (fun locs_1 hz_3 hS_2 => ?_)
  refine lv_iload_n hx hb dJ4_charAt_29 rfl (lv_at hl 2 rfl) ?_
  refine kx_if_ne (x := 0) (tgt := 42) hx hb dJ4_charAt_30 (by decide) (by omega) (by omega) (fun c_30_5 => ?_) (fun c_30_5 => ?_)
  · -- taken at 30
    exfalso; omega
  · -- not taken at 30
    refine lv_aload_n hx hb dJ4_charAt_33 rfl (lv_at hl 1 rfl) ?_
    refine lv_iload_n hx hb dJ4_charAt_34 rfl (lv_at hl 4 rfl) ?_
    refine kx_bald (i := ((i : Nat) : Int)) hx hb hK hA_vb i (rfl) (by omega) (by omega) dJ4_charAt_35 ?_
    refine kx_sipush hx hb (by decide) dJ4_charAt_36 ?_
    refine kx_iand8 hx hb (z := (g i)) (by omega) (by omega) dJ4_charAt_39 ?_
    refine kx_i2c hx hb (z := (g i)) (by omega) (by omega) dJ4_charAt_40 ?_
    exact kx_cret (z := (g i)) hx hb hr hlk (by omega) (by omega) (⟨rfl, by first | rfl | omega | grind⟩) hS_2 dJ4_charAt_41

set_option maxHeartbeats 4000000 in
set_option maxRecDepth 100000 in
theorem m_J5_charAt (l : Launch) (D : kG) (H : Heap) (bu : Nat) (vb : Nat) (ml : Bool) (cn : Nat) (cap : Nat) (g : Nat → Int) (i : Nat) (hO_bu : kO D H bu 11 [.ref vb, .int (kI (0)), .int (kI (kb (ml))), .int (kI ((cn : Nat) : Int))]) (hA_vb : kAb D H vb cap g) (hcap : cap ≤ 1000) (hcn : cn ≤ cap) (hg : ∀ j, j < cn → 0 ≤ g j ∧ g j < 128) (hi : i < cn) : Met l yJ5_charAt (ws_ yJ5_charAt cJ5_charAt 2 (some .char)) ({ frames := 3, cells := 0, slots := 0, locals := 67 } : Room) (kPre D H [.ref bu, .int (kI ((i : Nat) : Int))]) (kQi (fun (r : Int) H' => H' = H ∧ r = g i) kNO) (0) (0) (kNO) := by
  refine Met.ofW (cc := cJ5_charAt) (maxL := 2) (ret := (some .char)) (by decide) rfl ?_
  intro p e s m args below meth c s₁ B hml hv
  obtain ⟨rfl, hH, hK⟩ := hv
  subst hH
  have hx := B.exec
  have hb := B.bytes
  have hr := B.returns
  have hts := atoms_spec (ws := ws_ yJ5_charAt cJ5_charAt 2 (some .char)) B.pre
  have hts : ∀ w ∈ lw_all, w.before _ s = true := fun w h => hts w (List.mem_cons_of_mem _ h)
  have hown : s.vm.findClass RJ5 = some m.cls := findClass_of_methodNamed B.named
  have hlk := B.notSynchronized
  have hS : va_S kNO s.heap s.heap [] := va_S.rf
  have hB : ∀ q, kNO q → kBase D ≤ q := fun _ h => h.elim
  have hl := lv_entry ([.ref bu, .int (kI ((i : Nat) : Int))]) (n := 2) (Nat.le_of_ble_eq_true rfl)
  rw [lg_entry_eq]
  generalize (lg_sl ([.ref bu, .int (kI ((i : Nat) : Int))]) ++ List.replicate (2 - (lg_sl ([.ref bu, .int (kI ((i : Nat) : Int))])).length) Slot.unset).toArray = ls at hl ⊢
  have hl : lv_has ls 2 [(0, .ref bu), (1, .int (kI ((i : Nat) : Int)))] := hl
  have hgi9 := hg i hi
  refine lv_aload_n hx hb dJ5_charAt_0 rfl (lv_at hl 0 rfl) ?_
  refine lv_iload_n hx hb dJ5_charAt_1 rfl (lv_at hl 1 rfl) ?_
  refine kx_ci0 (va_runSU (C := RJ5) (As := [.int (kI ((i : Nat) : Int))]) (rest := []) (hK.at (ci := 11) rfl) ⟨hx, hb, hml, hown, hts⟩ (m_J4_charAt l D s.heap bu vb ml cn cap g i hO_bu hA_vb hcap hcn hg hi) (va_cwSU 1 hts (lw_SU q1575 q2660 q227 q1576 q85 q1577) rfl rfl rfl (by decide +kernel) ⟨Nat.le_of_ble_eq_true rfl, Nat.le_of_ble_eq_true rfl⟩) (kx_pv hK hS hB (kx_rc hK hO_bu (C := RJ5) (T := TJ5) (N := 4) rfl)) rfl rfl hl.1 rfl (lv_room (Nat.le_of_ble_eq_true rfl)) dJ5_charAt_2 ⟨by first | exact Nat.le_of_ble_eq_true rfl | omega | (show _ ≤ _; omega) | (dsimp only [headSpec]; omega), by first | exact Nat.le_of_ble_eq_true rfl | omega | (show _ ≤ _; omega) | (dsimp only [headSpec]; omega)⟩) hS (fun z_4 locs_1 hz_3 hS_2 => ?_)
  subst z_4
  exact kx_cret (z := g i) hx hb hr hlk (by omega) (by omega) (⟨rfl, by rfl⟩) hS_2 dJ5_charAt_5

set_option maxHeartbeats 4000000 in
set_option maxRecDepth 100000 in
theorem m_J4_init (l : Launch) (D : kG) (H : Heap) (bu : Nat) (cn0 : Nat) (hO_bu : kO D H bu 11 [.null, .int (kI (0)), .int (kI (kb (false))), .int (kI (0))]) (bs_bu : kBase D ≤ bu) : Met l yJ4_init (ws_ yJ4_init cJ4_init 2 none) ({ frames := 1, cells := 1, slots := 16, locals := 20 } : Room) (kPre D H [.ref bu, .int (kI (16))]) (kQv (fun H' => ∃ (vb : Nat), (kO D H' bu 11 [.ref vb, .int (kI (0)), .int (kI (kb (false))), .int (kI (0))]) ∧ (kAb D H' vb 16 ((fun _ => 0))) ∧ (H.size ≤ vb)) (fun q : Nat => q = bu ∨ H.size ≤ q)) (1) (16) ((fun q : Nat => q = bu ∨ H.size ≤ q)) := by
  refine Met.ofW (cc := cJ4_init) (maxL := 2) (ret := none) (by decide) rfl ?_
  intro p e s m args below meth c s₁ B hml hv
  obtain ⟨rfl, hH, hK⟩ := hv
  subst hH
  have hx := B.exec
  have hb := B.bytes
  have hr := B.returns
  have hts := atoms_spec (ws := ws_ yJ4_init cJ4_init 2 none) B.pre
  have hts : ∀ w ∈ lw_all, w.before _ s = true := fun w h => hts w (List.mem_cons_of_mem _ h)
  have hown : s.vm.findClass RJ4 = some m.cls := findClass_of_methodNamed B.named
  have hlk := B.notSynchronized
  have hin : meth.name = "<init>" := (name_of_methodNamed B.named B.method).1
  have hS : va_S (fun q : Nat => q = bu ∨ s.heap.size ≤ q) s.heap s.heap [] := va_S.rf
  have hB : ∀ q, (fun q : Nat => q = bu ∨ s.heap.size ≤ q) q → kBase D ≤ q := fun q h => by (try dsimp only at h); (try simp only [kNW] at h); have hks := hK.size; omega
  have hl := lv_entry ([.ref bu, .int (kI (16))]) (n := 2) (Nat.le_of_ble_eq_true rfl)
  rw [lg_entry_eq]
  generalize (lg_sl ([.ref bu, .int (kI (16))]) ++ List.replicate (2 - (lg_sl ([.ref bu, .int (kI (16))])).length) Slot.unset).toArray = ls at hl ⊢
  have hl : lv_has ls 2 [(0, .ref bu), (1, .int (kI (16)))] := hl
  have hltb := hO_bu.lt
  refine lv_aload_n hx hb dJ4_init_0 rfl (lv_at hl 0 rfl) ?_
  refine W.objInit hx hb hown (hts _ q204) (hts _ q133) (hts _ q134) rfl (by rw [hml]; exact hl.1) rfl dJ4_init_1 (Nat.le_of_ble_eq_true rfl) (Nat.le_of_ble_eq_true rfl) ?_
  refine W.eq (g2 := F0 m 4 ls []) rfl ?_
  refine kx_gets (v := .int (kI (1))) hx hb hts hK.sCS hS hB hown q205 (fun _ h9 => h9) dJ4_init_4 ?_
  refine kx_if_eq (x := 1) (tgt := 25) hx hb dJ4_init_7 (by decide) (by omega) (by omega) (fun c_7_1 => ?_) (fun c_7_1 => ?_)
  · -- taken at 7
    exfalso; omega
  · -- not taken at 7
    refine lv_aload_n hx hb dJ4_init_10 rfl (lv_at hl 0 rfl) ?_
    refine lv_iload_n hx hb dJ4_init_11 rfl (lv_at hl 1 rfl) ?_
    refine kx_newa (atype := .byte) (ty := .byte) (t := 1) (a0 := (16, .inl (fun j => kI ((fun _ => 0 : Nat → Int) j)))) (N' := 16) hx hb hts q228 rfl hK rfl (fun _ h => by cases h) hS (by first | rfl | omega) (by omega) (fun cA => rfl) (by first | decide | (simp only [componentBytes]; omega)) (by first | exact Nat.le_of_ble_eq_true rfl | omega | (show _ ≤ _; omega) | (dsimp only [headSpec]; omega)) (by first | exact Nat.le_of_ble_eq_true rfl | omega | (show _ ≤ _; omega) | (dsimp only [headSpec]; omega)) dJ4_init_12 (fun na_2 H_3 hq_4 hz_5 hA_6 hE_7 hS_8 => ?_)
    have hge_na_2 : s.heap.size ≤ na_2 := by rw [hq_4]; exact hS.1
    refine W.widen (k := 1) (n := 16) (Nat.le_of_ble_eq_true rfl) (Nat.le_of_ble_eq_true rfl) ?_
    have h_9 := hO_bu.ex hE_7
    refine kx_put (v := .ref na_2) (C := RJ5) (T := TJ5) (N := 4) hx hb hts in_J5 hown hK h_9 rfl 0 (by decide) tyJ5 tyJ5_ok nmJ5 hS_8 (by first | rfl | exact Or.inl rfl | exact Or.inr rfl | exact Or.inr (Or.inl rfl) | exact Or.inr (Or.inr rfl) | exact Or.inr (Or.inr (Or.inl rfl)) | exact Or.inr (Or.inr (Or.inr rfl)) | ((try dsimp only); (try simp only [kNW]); omega)) q214 (fun _ h9 => h9) rfl rfl rfl rfl (Nat.le_of_ble_eq_true rfl) dJ4_init_14 (fun H_12 locs_13 hO_11 hU_10 hS_14 => ?_)
    have hO_11 : kO D H_12 bu 11 [.ref na_2, .int (kI (0)), .int (kI (kb (false))), .int (kI (0))] := hO_11
    have hzu_15 := hU_10.1
    refine lv_aload_n hx hb dJ4_init_17 rfl (lv_at hl 0 rfl) ?_
    refine kx_iconst hx hb dJ4_init_18 ?_
    refine kx_put (v := .int (kI (0))) (C := RJ5) (T := TJ5) (N := 4) hx hb hts in_J5 hown hK hO_11 rfl 1 (by decide) tyJ5 tyJ5_ok nmJ5 hS_14 (by first | rfl | exact Or.inl rfl | exact Or.inr rfl | exact Or.inr (Or.inl rfl) | exact Or.inr (Or.inr rfl) | exact Or.inr (Or.inr (Or.inl rfl)) | exact Or.inr (Or.inr (Or.inr rfl)) | ((try dsimp only); (try simp only [kNW]); omega)) q215 (fun _ h9 => h9) rfl rfl rfl rfl (Nat.le_of_ble_eq_true rfl) dJ4_init_19 (fun H_18 locs_19 hO_17 hU_16 hS_20 => ?_)
    have hO_17 : kO D H_18 bu 11 [.ref na_2, .int (kI (0)), .int (kI (kb (false))), .int (kI (0))] := hO_17
    have hzu_21 := hU_16.1
    refine lv_goto (tgt := 38) hx hb dJ4_init_22 (by decide) ?_
    have h_22 := hA_6.up hU_10 (by first | assumption | exact Ne.symm (by assumption)  | omega | (have h9 := hA_6.lt; omega))
    have h_23 := h_22.up hU_16 (by first | assumption | exact Ne.symm (by assumption)  | omega | (have h9 := h_22.lt; omega))
    exact kx_vret hx hb hr hlk (⟨na_2, hO_17, h_23, by first | assumption | rfl | omega | grind⟩) hS_20 dJ4_init_38

set_option maxHeartbeats 4000000 in
set_option maxRecDepth 100000 in
theorem m_J5_init (l : Launch) (D : kG) (H : Heap) (bu : Nat) (hO_bu : kO D H bu 11 [.null, .int (kI (0)), .int (kI (kb (false))), .int (kI (0))]) (bs_bu : kBase D ≤ bu) : Met l yJ5_init (ws_ yJ5_init cJ5_init 1 none) ({ frames := 2, cells := 1, slots := 16, locals := 41 } : Room) (kPre D H [.ref bu]) (kQv (fun H' => ∃ (vb : Nat), (kO D H' bu 11 [.ref vb, .int (kI (0)), .int (kI (kb (false))), .int (kI (0))]) ∧ (kAb D H' vb 16 ((fun _ => 0))) ∧ (H.size ≤ vb)) (fun q : Nat => q = bu ∨ H.size ≤ q)) (1) (16) ((fun q : Nat => q = bu ∨ H.size ≤ q)) := by
  refine Met.ofW (cc := cJ5_init) (maxL := 1) (ret := none) (by decide) rfl ?_
  intro p e s m args below meth c s₁ B hml hv
  obtain ⟨rfl, hH, hK⟩ := hv
  subst hH
  have hx := B.exec
  have hb := B.bytes
  have hr := B.returns
  have hts := atoms_spec (ws := ws_ yJ5_init cJ5_init 1 none) B.pre
  have hts : ∀ w ∈ lw_all, w.before _ s = true := fun w h => hts w (List.mem_cons_of_mem _ h)
  have hown : s.vm.findClass RJ5 = some m.cls := findClass_of_methodNamed B.named
  have hlk := B.notSynchronized
  have hin : meth.name = "<init>" := (name_of_methodNamed B.named B.method).1
  have hS : va_S (fun q : Nat => q = bu ∨ s.heap.size ≤ q) s.heap s.heap [] := va_S.rf
  have hB : ∀ q, (fun q : Nat => q = bu ∨ s.heap.size ≤ q) q → kBase D ≤ q := fun q h => by (try dsimp only at h); (try simp only [kNW] at h); have hks := hK.size; omega
  have hl := lv_entry ([.ref bu]) (n := 1) (Nat.le_of_ble_eq_true rfl)
  rw [lg_entry_eq]
  generalize (lg_sl ([.ref bu]) ++ List.replicate (1 - (lg_sl ([.ref bu])).length) Slot.unset).toArray = ls at hl ⊢
  have hl : lv_has ls 1 [(0, .ref bu)] := hl
  have hltb := hO_bu.lt
  refine lv_aload_n hx hb dJ5_init_0 rfl (lv_at hl 0 rfl) ?_
  refine kx_bipush hx hb (by decide) dJ5_init_1 ?_
  refine kx_cv (va_runI (As := [.int (kI (16))]) (rest := []) ⟨hx, hb, hml, hown, hts⟩ (m_J4_init l D s.heap bu 0 hO_bu (by first | assumption | omega)) (cwI 1 hts (lw_meth q203) rfl rfl rfl (hts _ q85) (hts _ q201) (hts _ q202) rfl (by decide +kernel) ⟨Nat.le_of_ble_eq_true rfl, Nat.le_of_ble_eq_true rfl⟩) (kx_ps hK hS hB) rfl rfl hl.1 rfl (lv_room (Nat.le_of_ble_eq_true rfl)) dJ5_init_3 ⟨by first | exact Nat.le_of_ble_eq_true rfl | omega | (show _ ≤ _; omega) | (dsimp only [headSpec]; omega), by first | exact Nat.le_of_ble_eq_true rfl | omega | (show _ ≤ _; omega) | (dsimp only [headSpec]; omega)⟩) hS (fun q _ h => by have h9 := hS.1; (try dsimp only at h); (try dsimp only); (try simp only [kNW] at h); (try simp only [kNW]); omega) (fun q h => by have h9 := hS.1; (try dsimp only at h); (try dsimp only); (try simp only [kNW] at h); (try simp only [kNW]); omega) (fun H_4 locs_1 hz_3 hF_5 hS_2 => ?_)
  have hzf_7 := hF_5.1
  refine W.widen (k := 1) (n := 16) (Nat.le_of_ble_eq_true rfl) (Nat.le_of_ble_eq_true rfl) ?_
  obtain ⟨vb_8, ho_9, ho_10, hnv9⟩ := hz_3
  exact kx_vret hx hb hr hlk (⟨vb_8, ho_9, ho_10, by first | assumption | rfl | omega | grind⟩) hS_2 dJ5_init_6

