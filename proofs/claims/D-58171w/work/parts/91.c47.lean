set_option maxHeartbeats 4000000 in
set_option maxRecDepth 100000 in
theorem m_J17_newLength_h (l : Launch) (D : kG) (H : Heap) (x : Int) (y : Int) (hxr : x = 1) (hy : y = 36) : Met l yJ17_newLength (ws_ yJ17_newLength cJ17_newLength 4 (some .int)) ({ frames := 1, cells := 0, slots := 0, locals := 30 } : Room) (kPre D H [.int (kI ((34 : Nat) : Int)), .int (kI (x)), .int (kI (y))]) (kQi (fun (r : Int) H' => H' = H ∧ r = 70) kNO) (0) (0) (kNO) := by
  refine Met.ofW (cc := cJ17_newLength) (maxL := 4) (ret := (some .int)) (by decide) rfl ?_
  intro p e s m args below meth c s₁ B hml hv
  obtain ⟨rfl, hH, hK⟩ := hv
  subst hH
  have hx := B.exec
  have hb := B.bytes
  have hr := B.returns
  have hts := atoms_spec (ws := ws_ yJ17_newLength cJ17_newLength 4 (some .int)) B.pre
  have hts : ∀ w ∈ lw_all, w.before _ s = true := fun w h => hts w (List.mem_cons_of_mem _ h)
  have hown : s.vm.findClass RJ17 = some m.cls := findClass_of_methodNamed B.named
  have hlk := B.notSynchronized
  have hS : va_S kNO s.heap s.heap [] := va_S.rf
  have hB : ∀ q, kNO q → kBase D ≤ q := fun _ h => h.elim
  have hl := lv_entry ([.int (kI ((34 : Nat) : Int)), .int (kI (x)), .int (kI (y))]) (n := 4) (Nat.le_of_ble_eq_true rfl)
  rw [lg_entry_eq]
  generalize (lg_sl ([.int (kI ((34 : Nat) : Int)), .int (kI (x)), .int (kI (y))]) ++ List.replicate (4 - (lg_sl ([.int (kI ((34 : Nat) : Int)), .int (kI (x)), .int (kI (y))])).length) Slot.unset).toArray = ls at hl ⊢
  have hl : lv_has ls 4 [(0, .int (kI ((34 : Nat) : Int))), (1, .int (kI (x))), (2, .int (kI (y)))] := hl
  refine lv_iload_n hx hb dJ17_newLength_0 rfl (lv_at hl 0 rfl) ?_
  refine lv_iload_n hx hb dJ17_newLength_1 rfl (lv_at hl 1 rfl) ?_
  refine lv_iload_n hx hb dJ17_newLength_2 rfl (lv_at hl 2 rfl) ?_
  refine kx_mmax (x := x) (y := y) hx hb hml hl.1 hts hown q388 q389 q102 q390 (by first | exact Nat.le_of_ble_eq_true rfl | omega | (show _ ≤ _; omega) | (dsimp only [headSpec]; omega)) (by first | exact Nat.le_of_ble_eq_true rfl | omega | (show _ ≤ _; omega) | (dsimp only [headSpec]; omega)) (by first | exact Nat.le_of_ble_eq_true rfl | omega | (show _ ≤ _; omega) | (dsimp only [headSpec]; omega)) (by first | exact Nat.le_of_ble_eq_true rfl | omega | (show _ ≤ _; omega) | (dsimp only [headSpec]; omega)) (by omega) (by omega) (by omega) (by omega) dJ17_newLength_3 ?_
  refine kx_iadd hx hb dJ17_newLength_6 ?_
  refine lv_istore_n (lv' := [(3, .int (kI ((((34 : Nat) : Int) + (if x < y then y else x))))), (0, .int (kI ((34 : Nat) : Int))), (1, .int (kI (x))), (2, .int (kI (y)))]) hx hb dJ17_newLength_7 rfl hl (by decide) rfl (fun ls hl => ?_)
  refine kx_iconst hx hb dJ17_newLength_8 ?_
  refine lv_iload_n hx hb dJ17_newLength_9 rfl (lv_at hl 0 rfl) ?_
  refine kx_icmp_ge (x := 0) (y := (((34 : Nat) : Int) + (if x < y then y else x))) (tgt := 21) hx hb dJ17_newLength_10 (by decide) (by omega) (by omega) (by omega) (by omega) (fun c_10_1 => ?_) (fun c_10_1 => ?_)
  · -- taken at 10
    exfalso; omega
  · -- not taken at 10
    refine lv_iload_n hx hb dJ17_newLength_13 rfl (lv_at hl 0 rfl) ?_
    refine kx_ldc (z := 2147483639) hx hb hown (hts _ q391) (by decide) dJ17_newLength_14 ?_
    refine kx_icmp_gt (x := (((34 : Nat) : Int) + (if x < y then y else x))) (y := 2147483639) (tgt := 21) hx hb dJ17_newLength_16 (by decide) (by omega) (by omega) (by omega) (by omega) (fun c_16_2 => ?_) (fun c_16_2 => ?_)
    · -- taken at 16
      exfalso; omega
    · -- not taken at 16
      refine lv_iload_n hx hb dJ17_newLength_19 rfl (lv_at hl 0 rfl) ?_
      exact kx_iret (z := (((34 : Nat) : Int) + (if x < y then y else x))) hx hb hr hlk (⟨rfl, by split <;> omega⟩) hS dJ17_newLength_20

set_option maxHeartbeats 4000000 in
set_option maxRecDepth 100000 in
theorem m_J4_newCapacity_h (l : Launch) (D : kG) (H : Heap) (bu : Nat) (vb : Nat) (ml : Bool) (cn : Nat) (g : Nat → Int) (x : Int) (hO_bu : kO D H bu 11 [.ref vb, .int (kI (0)), .int (kI (kb (ml))), .int (kI ((cn : Nat) : Int))]) (hA_vb : kAb D H vb 34 g) (hxr : x = 35) : Met l yJ4_newCapacity (ws_ yJ4_newCapacity cJ4_newCapacity 6 (some .int)) ({ frames := 2, cells := 0, slots := 0, locals := 53 } : Room) (kPre D H [.ref bu, .int (kI (x))]) (kQi (fun (r : Int) H' => H' = H ∧ r = 70) kNO) (0) (0) (kNO) := by
  refine Met.ofW (cc := cJ4_newCapacity) (maxL := 6) (ret := (some .int)) (by decide) rfl ?_
  intro p e s m args below meth c s₁ B hml hv
  obtain ⟨rfl, hH, hK⟩ := hv
  subst hH
  have hx := B.exec
  have hb := B.bytes
  have hr := B.returns
  have hts := atoms_spec (ws := ws_ yJ4_newCapacity cJ4_newCapacity 6 (some .int)) B.pre
  have hts : ∀ w ∈ lw_all, w.before _ s = true := fun w h => hts w (List.mem_cons_of_mem _ h)
  have hown : s.vm.findClass RJ4 = some m.cls := findClass_of_methodNamed B.named
  have hlk := B.notSynchronized
  have hS : va_S kNO s.heap s.heap [] := va_S.rf
  have hB : ∀ q, kNO q → kBase D ≤ q := fun _ h => h.elim
  have hl := lv_entry ([.ref bu, .int (kI (x))]) (n := 6) (Nat.le_of_ble_eq_true rfl)
  rw [lg_entry_eq]
  generalize (lg_sl ([.ref bu, .int (kI (x))]) ++ List.replicate (6 - (lg_sl ([.ref bu, .int (kI (x))])).length) Slot.unset).toArray = ls at hl ⊢
  have hl : lv_has ls 6 [(0, .ref bu), (1, .int (kI (x)))] := hl
  refine lv_aload_n hx hb dJ4_newCapacity_0 rfl (lv_at hl 0 rfl) ?_
  refine kx_get (v := .ref vb) (C := RJ5) (T := TJ5) (N := 4) hx hb hts in_J5 hown hK hO_bu rfl 0 (by decide) q214 (fun _ h9 => h9) rfl dJ4_newCapacity_1 ?_
  refine kx_alen hx hb hK hA_vb rfl dJ4_newCapacity_4 ?_
  refine lv_istore_n (lv' := [(2, .int (kI ((34 : Nat) : Int))), (0, .ref bu), (1, .int (kI (x)))]) hx hb dJ4_newCapacity_5 rfl hl (by decide) rfl (fun ls hl => ?_)
  refine lv_iload_n hx hb dJ4_newCapacity_6 rfl (lv_at hl 2 rfl) ?_
  refine lv_aload_n hx hb dJ4_newCapacity_7 rfl (lv_at hl 1 rfl) ?_
  refine kx_get (v := .int (kI (0))) (C := RJ5) (T := TJ5) (N := 4) hx hb hts in_J5 hown hK hO_bu rfl 1 (by decide) q215 (fun _ h9 => h9) rfl dJ4_newCapacity_8 ?_
  refine kx_ishl0 hx hb (z := x) dJ4_newCapacity_11 ?_
  refine lv_istore_n (lv' := [(3, .int (kI (x))), (2, .int (kI ((34 : Nat) : Int))), (0, .ref bu), (1, .int (kI (x)))]) hx hb dJ4_newCapacity_12 rfl hl (by decide) rfl (fun ls hl => ?_)
  refine lv_iload_n hx hb dJ4_newCapacity_13 rfl (lv_at hl 0 rfl) ?_
  refine lv_iload_n hx hb dJ4_newCapacity_14 rfl (lv_at hl 1 rfl) ?_
  refine kx_isub hx hb dJ4_newCapacity_15 ?_
  refine lv_istore (lv' := [(4, .int (kI ((x - ((34 : Nat) : Int))))), (3, .int (kI (x))), (2, .int (kI ((34 : Nat) : Int))), (0, .ref bu), (1, .int (kI (x)))]) hx hb dJ4_newCapacity_16 hl (by decide) rfl (fun ls hl => ?_)
  refine lv_iload_n hx hb dJ4_newCapacity_18 rfl (lv_at hl 2 rfl) ?_
  refine lv_iload hx hb dJ4_newCapacity_19 (lv_at hl 0 rfl) ?_
  refine lv_iload_n hx hb dJ4_newCapacity_21 rfl (lv_at hl 2 rfl) ?_
  refine kx_iconst hx hb dJ4_newCapacity_22 ?_
  refine lv_aload_n hx hb dJ4_newCapacity_23 rfl (lv_at hl 3 rfl) ?_
  refine kx_get (v := .int (kI (0))) (C := RJ5) (T := TJ5) (N := 4) hx hb hts in_J5 hown hK hO_bu rfl 1 (by decide) q215 (fun _ h9 => h9) rfl dJ4_newCapacity_24 ?_
  refine kx_ishl0 hx hb (z := 2) dJ4_newCapacity_27 ?_
  refine kx_iadd hx hb dJ4_newCapacity_28 ?_
  refine kx_ci0 (va_runS (As := [.int (kI ((34 : Nat) : Int)), .int (kI ((x - ((34 : Nat) : Int)))), .int (kI ((((34 : Nat) : Int) + 2)))]) (rest := []) ⟨hx, hb, hml, hown, hts⟩ (m_J17_newLength_h l D s.heap ((x - ((34 : Nat) : Int))) ((((34 : Nat) : Int) + 2))  (by first | assumption | omega) (by first | assumption | omega)) (va_cwS 3 hts (lw_S q1333 q386 q101 q387) rfl rfl rfl (by decide +kernel) ⟨Nat.le_of_ble_eq_true rfl, Nat.le_of_ble_eq_true rfl⟩) (kx_ps hK hS hB) rfl rfl hl.1 rfl (lv_room (Nat.le_of_ble_eq_true rfl)) dJ4_newCapacity_29 ⟨by first | exact Nat.le_of_ble_eq_true rfl | omega | (show _ ≤ _; omega) | (dsimp only [headSpec]; omega), by first | exact Nat.le_of_ble_eq_true rfl | omega | (show _ ≤ _; omega) | (dsimp only [headSpec]; omega)⟩) hS (fun z_4 locs_1 hz_3 hS_2 => ?_)
  subst z_4
  refine lv_istore (lv' := [(5, .int (kI (70))), (4, .int (kI ((x - ((34 : Nat) : Int))))), (3, .int (kI (x))), (2, .int (kI ((34 : Nat) : Int))), (0, .ref bu), (1, .int (kI (x)))]) hx hb dJ4_newCapacity_32 hl (by decide) rfl (fun ls hl => ?_)
  refine lv_iload hx hb dJ4_newCapacity_34 (lv_at hl 0 rfl) ?_
  refine kx_ldc (z := 2147483647) hx hb hown (hts _ q1334) (by decide) dJ4_newCapacity_36 ?_
  refine kx_icmp_ne (x := 70) (y := 2147483647) (tgt := 51) hx hb dJ4_newCapacity_38 (by decide) (by omega) (by omega) (by omega) (by omega) (fun c_38_5 => ?_) (fun c_38_5 => ?_)
  · -- taken at 38
    refine lv_iload hx hb dJ4_newCapacity_51 (lv_at hl 0 rfl) ?_
    refine lv_aload_n hx hb dJ4_newCapacity_53 rfl (lv_at hl 4 rfl) ?_
    refine kx_get (v := .int (kI (0))) (C := RJ5) (T := TJ5) (N := 4) hx hb hts in_J5 hown hK hO_bu rfl 1 (by decide) q215 (fun _ h9 => h9) rfl dJ4_newCapacity_54 ?_
    refine kx_ishr0 hx hb (z := 70) dJ4_newCapacity_57 ?_
    exact kx_iret (z := 70) hx hb hr hlk (⟨rfl, by first | rfl | omega | grind⟩) hS_2 dJ4_newCapacity_58
  · -- not taken at 38
    exfalso; omega

set_option maxHeartbeats 4000000 in
set_option maxRecDepth 100000 in
theorem m_J19_copyOf_h (l : Launch) (D : kG) (H : Heap) (vb : Nat) (g : Nat → Int) (hA_vb : kAb D H vb 34 g) (hg : ∀ j, j < 34 → 0 ≤ g j ∧ g j < 128) : Met l yJ19_copyOf_3 (ws_ yJ19_copyOf_3 cJ19_copyOf_3 3 (some (.array .byte))) ({ frames := 1, cells := 1, slots := 70, locals := 60 } : Room) (kPre D H [.ref vb, .int (kI (70))]) (kQr (fun (r : Nat) H' => (kAb D H' r 70 ((fun j => if j < 34 then g j else 0))) ∧ (H.size ≤ r)) (kNW H)) (1) (70) ((kNW H)) := by
  refine Met.ofW (cc := cJ19_copyOf_3) (maxL := 3) (ret := (some (.array .byte))) (by decide) rfl ?_
  intro p e s m args below meth c s₁ B hml hv
  obtain ⟨rfl, hH, hK⟩ := hv
  subst hH
  have hx := B.exec
  have hb := B.bytes
  have hr := B.returns
  have hts := atoms_spec (ws := ws_ yJ19_copyOf_3 cJ19_copyOf_3 3 (some (.array .byte))) B.pre
  have hts : ∀ w ∈ lw_all, w.before _ s = true := fun w h => hts w (List.mem_cons_of_mem _ h)
  have hown : s.vm.findClass RJ19 = some m.cls := findClass_of_methodNamed B.named
  have hlk := B.notSynchronized
  have hS : va_S (kNW s.heap) s.heap s.heap [] := va_S.rf
  have hB : ∀ q, (kNW s.heap) q → kBase D ≤ q := fun q h => Nat.le_trans hK.size h
  have hl := lv_entry ([.ref vb, .int (kI (70))]) (n := 3) (Nat.le_of_ble_eq_true rfl)
  rw [lg_entry_eq]
  generalize (lg_sl ([.ref vb, .int (kI (70))]) ++ List.replicate (3 - (lg_sl ([.ref vb, .int (kI (70))])).length) Slot.unset).toArray = ls at hl ⊢
  have hl : lv_has ls 3 [(0, .ref vb), (1, .int (kI (70)))] := hl
  have hlt0 := hA_vb.lt
  refine lv_iload_n hx hb dJ19_copyOf_3_0 rfl (lv_at hl 1 rfl) ?_
  refine lv_aload_n hx hb dJ19_copyOf_3_1 rfl (lv_at hl 0 rfl) ?_
  refine kx_alen hx hb hK hA_vb rfl dJ19_copyOf_3_2 ?_
  refine kx_icmp_ne (x := 70) (y := ((34 : Nat) : Int)) (tgt := 14) hx hb dJ19_copyOf_3_3 (by decide) (by omega) (by omega) (by omega) (by omega) (fun c_3_1 => ?_) (fun c_3_1 => ?_)
  · -- taken at 3
    refine lv_iload_n hx hb dJ19_copyOf_3_14 rfl (lv_at hl 1 rfl) ?_
    refine kx_newa (atype := .byte) (ty := .byte) (t := 1) (a0 := (70, .inl (fun j => kI ((fun _ => 0 : Nat → Int) j)))) (N' := 70) hx hb hts q228 rfl hK rfl (fun _ h => by cases h) hS (by first | rfl | omega) (by omega) (fun cA => rfl) (by first | decide | (simp only [componentBytes]; omega)) (by first | exact Nat.le_of_ble_eq_true rfl | omega | (show _ ≤ _; omega) | (dsimp only [headSpec]; omega)) (by first | exact Nat.le_of_ble_eq_true rfl | omega | (show _ ≤ _; omega) | (dsimp only [headSpec]; omega)) dJ19_copyOf_3_15 (fun nb H_2 hq_3 hz_4 hA_5 hE_6 hS_7 => ?_)
    have hge_nb : s.heap.size ≤ nb := by rw [hq_3]; exact hS.1
    refine W.widen (k := 1) (n := 70) (Nat.le_of_ble_eq_true rfl) (Nat.le_of_ble_eq_true rfl) ?_
    refine lv_astore_n (lv' := [(2, .ref nb), (0, .ref vb), (1, .int (kI (70)))]) hx hb dJ19_copyOf_3_17 rfl hl (by decide) rfl (fun ls hl => ?_)
    refine lv_aload_n hx hb dJ19_copyOf_3_18 rfl (lv_at hl 1 rfl) ?_
    refine kx_iconst hx hb dJ19_copyOf_3_19 ?_
    refine lv_aload_n hx hb dJ19_copyOf_3_20 rfl (lv_at hl 0 rfl) ?_
    refine kx_iconst hx hb dJ19_copyOf_3_21 ?_
    refine lv_aload_n hx hb dJ19_copyOf_3_22 rfl (lv_at hl 1 rfl) ?_
    have h_8 := hA_vb.ex hE_6
    refine kx_alen hx hb hK h_8 rfl dJ19_copyOf_3_23 ?_
    refine lv_iload_n hx hb dJ19_copyOf_3_24 rfl (lv_at hl 2 rfl) ?_
    refine kx_mmin (x := ((34 : Nat) : Int)) (y := 70) hx hb hml hl.1 hts hown q432 q433 q102 q434 (by first | exact Nat.le_of_ble_eq_true rfl | omega | (show _ ≤ _; omega) | (dsimp only [headSpec]; omega)) (by first | exact Nat.le_of_ble_eq_true rfl | omega | (show _ ≤ _; omega) | (dsimp only [headSpec]; omega)) (by first | exact Nat.le_of_ble_eq_true rfl | omega | (show _ ≤ _; omega) | (dsimp only [headSpec]; omega)) (by first | exact Nat.le_of_ble_eq_true rfl | omega | (show _ ≤ _; omega) | (dsimp only [headSpec]; omega)) (by omega) (by omega) (by omega) (by omega) dJ19_copyOf_3_25 ?_
    refine kx_copyb (w := (if 70 < ((34 : Nat) : Int) then 70 else ((34 : Nat) : Int))) (wn := 34) hx hb hml hl.1 hts hown q435 q437 q436 q104 hK h_8 hA_5 hS_7 (by have := hS.1; first | (show _ ≤ _; omega) | omega) (by omega) (by omega) (by omega) (by omega) (fun i hi => hg i hi) (by first | exact Nat.le_of_ble_eq_true rfl | omega | (show _ ≤ _; omega) | (dsimp only [headSpec]; omega)) (by first | exact Nat.le_of_ble_eq_true rfl | omega | (show _ ≤ _; omega) | (dsimp only [headSpec]; omega)) dJ19_copyOf_3_28 (fun H_11 locs_12 hA_10 hU_9 hS_13 => ?_)
    have hzu_14 := hU_9.1
    refine lv_aload_n hx hb dJ19_copyOf_3_31 rfl (lv_at hl 0 rfl) ?_
    exact kx_aret (z := nb) hx hb hr (by first | exact Or.inl ⟨_, rfl⟩ | exact Or.inr ⟨_, rfl⟩) hlk (⟨hA_10, by first | assumption | rfl | omega | grind⟩) hS_13 dJ19_copyOf_3_32
  · -- not taken at 3
    exfalso; omega

set_option maxHeartbeats 4000000 in
set_option maxRecDepth 100000 in
theorem m_J4_ensure_h (l : Launch) (D : kG) (H : Heap) (bu : Nat) (vb : Nat) (ml : Bool) (cn : Nat) (g : Nat → Int) (x : Int) (hO_bu : kO D H bu 11 [.ref vb, .int (kI (0)), .int (kI (kb (ml))), .int (kI ((cn : Nat) : Int))]) (hA_vb : kAb D H vb 34 g) (hxr : x = 35) (hg : ∀ j, j < 34 → 0 ≤ g j ∧ g j < 128) (bs_bu : kBase D ≤ bu) : Met l yJ4_ensureCapacityInternal (ws_ yJ4_ensureCapacityInternal cJ4_ensureCapacityInternal 3 none) ({ frames := 3, cells := 1, slots := 70, locals := 82 } : Room) (kPre D H [.ref bu, .int (kI (x))]) (kQv (fun H' => ∃ (vb2 : Nat), (kO D H' bu 11 [.ref vb2, .int (kI (0)), .int (kI (kb (ml))), .int (kI ((cn : Nat) : Int))]) ∧ (kAb D H' vb2 70 ((fun j => if j < 34 then g j else 0))) ∧ (H.size ≤ vb2)) (fun q : Nat => q = bu ∨ H.size ≤ q)) (1) (70) ((fun q : Nat => q = bu ∨ H.size ≤ q)) := by
  refine Met.ofW (cc := cJ4_ensureCapacityInternal) (maxL := 3) (ret := none) (by decide) rfl ?_
  intro p e s m args below meth c s₁ B hml hv
  obtain ⟨rfl, hH, hK⟩ := hv
  subst hH
  have hx := B.exec
  have hb := B.bytes
  have hr := B.returns
  have hts := atoms_spec (ws := ws_ yJ4_ensureCapacityInternal cJ4_ensureCapacityInternal 3 none) B.pre
  have hts : ∀ w ∈ lw_all, w.before _ s = true := fun w h => hts w (List.mem_cons_of_mem _ h)
  have hown : s.vm.findClass RJ4 = some m.cls := findClass_of_methodNamed B.named
  have hlk := B.notSynchronized
  have hS : va_S (fun q : Nat => q = bu ∨ s.heap.size ≤ q) s.heap s.heap [] := va_S.rf
  have hB : ∀ q, (fun q : Nat => q = bu ∨ s.heap.size ≤ q) q → kBase D ≤ q := fun q h => by (try dsimp only at h); (try simp only [kNW] at h); have hks := hK.size; omega
  have hl := lv_entry ([.ref bu, .int (kI (x))]) (n := 3) (Nat.le_of_ble_eq_true rfl)
  rw [lg_entry_eq]
  generalize (lg_sl ([.ref bu, .int (kI (x))]) ++ List.replicate (3 - (lg_sl ([.ref bu, .int (kI (x))])).length) Slot.unset).toArray = ls at hl ⊢
  have hl : lv_has ls 3 [(0, .ref bu), (1, .int (kI (x)))] := hl
  have hltb := hO_bu.lt
  refine lv_aload_n hx hb dJ4_ensureCapacityInternal_0 rfl (lv_at hl 0 rfl) ?_
  refine kx_get (v := .ref vb) (C := RJ5) (T := TJ5) (N := 4) hx hb hts in_J5 hown hK hO_bu rfl 0 (by decide) q214 (fun _ h9 => h9) rfl dJ4_ensureCapacityInternal_1 ?_
  refine kx_alen hx hb hK hA_vb rfl dJ4_ensureCapacityInternal_4 ?_
  refine lv_aload_n hx hb dJ4_ensureCapacityInternal_5 rfl (lv_at hl 0 rfl) ?_
  refine kx_get (v := .int (kI (0))) (C := RJ5) (T := TJ5) (N := 4) hx hb hts in_J5 hown hK hO_bu rfl 1 (by decide) q215 (fun _ h9 => h9) rfl dJ4_ensureCapacityInternal_6 ?_
  refine kx_ishr0 hx hb (z := ((34 : Nat) : Int)) dJ4_ensureCapacityInternal_9 ?_
  refine lv_istore_n (lv' := [(2, .int (kI ((34 : Nat) : Int))), (0, .ref bu), (1, .int (kI (x)))]) hx hb dJ4_ensureCapacityInternal_10 rfl hl (by decide) rfl (fun ls hl => ?_)
  refine lv_iload_n hx hb dJ4_ensureCapacityInternal_11 rfl (lv_at hl 2 rfl) ?_
  refine lv_iload_n hx hb dJ4_ensureCapacityInternal_12 rfl (lv_at hl 0 rfl) ?_
  refine kx_isub hx hb dJ4_ensureCapacityInternal_13 ?_
  refine kx_if_le (x := (x - ((34 : Nat) : Int))) (tgt := 38) hx hb dJ4_ensureCapacityInternal_14 (by decide) (by omega) (by omega) (fun c_14_1 => ?_) (fun c_14_1 => ?_)
  · -- taken at 14
    exfalso; omega
  · -- not taken at 14
    refine lv_aload_n hx hb dJ4_ensureCapacityInternal_17 rfl (lv_at hl 1 rfl) ?_
    refine lv_aload_n hx hb dJ4_ensureCapacityInternal_18 rfl (lv_at hl 1 rfl) ?_
    refine kx_get (v := .ref vb) (C := RJ5) (T := TJ5) (N := 4) hx hb hts in_J5 hown hK hO_bu rfl 0 (by decide) q214 (fun _ h9 => h9) rfl dJ4_ensureCapacityInternal_19 ?_
    refine lv_aload_n hx hb dJ4_ensureCapacityInternal_22 rfl (lv_at hl 1 rfl) ?_
    refine lv_iload_n hx hb dJ4_ensureCapacityInternal_23 rfl (lv_at hl 2 rfl) ?_
    refine kx_ci0 (va_runP (As := [.int (kI (x))]) (rest := [.ref vb, .ref bu]) ⟨hx, hb, hml, hown, hts⟩ (m_J4_newCapacity_h l D s.heap bu vb ml cn g x hO_bu hA_vb (by first | assumption | omega)) (va_cwP 1 hts (lw_meth q1332) rfl rfl rfl (hts _ q85) (hts _ q1329) (by decide +kernel) ⟨Nat.le_of_ble_eq_true rfl, Nat.le_of_ble_eq_true rfl⟩) (hts _ q1331) (hK.w q1330 rfl) (hts _ q802) rfl (kx_pv hK hS hB (kx_rc hK hO_bu (C := RJ5) (T := TJ5) (N := 4) rfl)) rfl rfl hl.1 rfl (lv_room (Nat.le_of_ble_eq_true rfl)) dJ4_ensureCapacityInternal_24 ⟨by first | exact Nat.le_of_ble_eq_true rfl | omega | (show _ ≤ _; omega) | (dsimp only [headSpec]; omega), by first | exact Nat.le_of_ble_eq_true rfl | omega | (show _ ≤ _; omega) | (dsimp only [headSpec]; omega)⟩) hS (fun z_5 locs_2 hz_4 hS_3 => ?_)
    subst z_5
    refine lv_aload_n hx hb dJ4_ensureCapacityInternal_27 rfl (lv_at hl 1 rfl) ?_
    refine kx_get (v := .int (kI (0))) (C := RJ5) (T := TJ5) (N := 4) hx hb hts in_J5 hown hK hO_bu rfl 1 (by decide) q215 (fun _ h9 => h9) rfl dJ4_ensureCapacityInternal_28 ?_
    refine kx_ishl0 hx hb (z := 70) dJ4_ensureCapacityInternal_31 ?_
    refine kx_eqi (70) (by omega) ?_
    refine kx_cr (va_runS (As := [.ref vb, .int (kI (70))]) (rest := [.ref bu]) ⟨hx, hb, hml, hown, hts⟩ (m_J19_copyOf_h l D s.heap vb g hA_vb (by first | assumption | omega)) (va_cwS 2 hts (lw_S q1335 q1336 q103 q1337) rfl rfl rfl (by decide +kernel) ⟨Nat.le_of_ble_eq_true rfl, Nat.le_of_ble_eq_true rfl⟩) (kx_ps hK hS_3 hB) rfl rfl hl.1 rfl (lv_room (Nat.le_of_ble_eq_true rfl)) dJ4_ensureCapacityInternal_32 ⟨by first | exact Nat.le_of_ble_eq_true rfl | omega | (show _ ≤ _; omega) | (dsimp only [headSpec]; omega), by first | exact Nat.le_of_ble_eq_true rfl | omega | (show _ ≤ _; omega) | (dsimp only [headSpec]; omega)⟩) hS_3 (fun q _ h => by have h9 := hS_3.1; (try dsimp only at h); (try dsimp only); (try simp only [kNW] at h); (try simp only [kNW]); omega) (fun q h => by have h9 := hS_3.1; (try dsimp only at h); (try dsimp only); (try simp only [kNW] at h); (try simp only [kNW]); omega) (fun z_11 H_9 locs_6 hz_8 hF_10 hS_7 => ?_)
    have hzf_12 := hF_10.1
    have hF_10 := hF_10.nw
    refine W.widen (k := 1) (n := 70) (Nat.le_of_ble_eq_true rfl) (Nat.le_of_ble_eq_true rfl) ?_
    obtain ⟨ho_13, hnew_14⟩ := hz_8
    have h_15 := hO_bu.ex hF_10
    refine kx_put (v := .ref z_11) (C := RJ5) (T := TJ5) (N := 4) hx hb hts in_J5 hown hK h_15 rfl 0 (by decide) tyJ5 tyJ5_ok nmJ5 hS_7 (by first | rfl | exact Or.inl rfl | exact Or.inr rfl | exact Or.inr (Or.inl rfl) | exact Or.inr (Or.inr rfl) | exact Or.inr (Or.inr (Or.inl rfl)) | exact Or.inr (Or.inr (Or.inr rfl)) | ((try dsimp only); (try simp only [kNW]); omega)) q214 (fun _ h9 => h9) rfl rfl rfl rfl (Nat.le_of_ble_eq_true rfl) dJ4_ensureCapacityInternal_35 (fun H_18 locs_19 hO_17 hU_16 hS_20 => ?_)
    have hO_17 : kO D H_18 bu 11 [.ref z_11, .int (kI (0)), .int (kI (kb (ml))), .int (kI ((cn : Nat) : Int))] := hO_17
    have hzu_21 := hU_16.1
    have h_22 := ho_13.up hU_16 (by first | assumption | exact Ne.symm (by assumption)  | omega | (have h9 := ho_13.lt; omega))
    exact kx_vret hx hb hr hlk (⟨z_11, hO_17, h_22, by first | assumption | rfl | omega | grind⟩) hS_20 dJ4_ensureCapacityInternal_38

set_option maxHeartbeats 4000000 in
set_option maxRecDepth 100000 in
theorem m_J4_append_h (l : Launch) (D : kG) (H : Heap) (bu : Nat) (vb : Nat) (ml : Bool) (g : Nat → Int) (x : Int) (hO_bu : kO D H bu 11 [.ref vb, .int (kI (0)), .int (kI (kb (ml))), .int (kI ((34 : Nat) : Int))]) (hA_vb : kAb D H vb 34 g) (hxr : 0 ≤ x ∧ x < 128) (hg : ∀ j, j < 34 → 0 ≤ g j ∧ g j < 128) (bs_bu : kBase D ≤ bu) : Met l yJ4_append_3 (ws_ yJ4_append_3 cJ4_append_3 2 (some (.object "java/lang/AbstractStringBuilder"))) ({ frames := 4, cells := 1, slots := 70, locals := 104 } : Room) (kPre D H [.ref bu, .int (kI (x))]) (kQr (fun (r : Nat) H' => ∃ (vb2 : Nat), (r = bu) ∧ (kO D H' bu 11 [.ref vb2, .int (kI (0)), .int (kI (kb (ml))), .int (kI ((35 : Nat) : Int))]) ∧ (kAb D H' vb2 70 ((kup (fun j => if j < 34 then g j else 0) 34 x))) ∧ (H.size ≤ vb2)) (fun q : Nat => q = bu ∨ H.size ≤ q)) (1) (70) ((fun q : Nat => q = bu ∨ H.size ≤ q)) := by
  refine Met.ofW (cc := cJ4_append_3) (maxL := 2) (ret := (some (.object "java/lang/AbstractStringBuilder"))) (by decide) rfl ?_
  intro p e s m args below meth c s₁ B hml hv
  obtain ⟨rfl, hH, hK⟩ := hv
  subst hH
  have hx := B.exec
  have hb := B.bytes
  have hr := B.returns
  have hts := atoms_spec (ws := ws_ yJ4_append_3 cJ4_append_3 2 (some (.object "java/lang/AbstractStringBuilder"))) B.pre
  have hts : ∀ w ∈ lw_all, w.before _ s = true := fun w h => hts w (List.mem_cons_of_mem _ h)
  have hown : s.vm.findClass RJ4 = some m.cls := findClass_of_methodNamed B.named
  have hlk := B.notSynchronized
  have hS : va_S (fun q : Nat => q = bu ∨ s.heap.size ≤ q) s.heap s.heap [] := va_S.rf
  have hB : ∀ q, (fun q : Nat => q = bu ∨ s.heap.size ≤ q) q → kBase D ≤ q := fun q h => by (try dsimp only at h); (try simp only [kNW] at h); have hks := hK.size; omega
  have hl := lv_entry ([.ref bu, .int (kI (x))]) (n := 2) (Nat.le_of_ble_eq_true rfl)
  rw [lg_entry_eq]
  generalize (lg_sl ([.ref bu, .int (kI (x))]) ++ List.replicate (2 - (lg_sl ([.ref bu, .int (kI (x))])).length) Slot.unset).toArray = ls at hl ⊢
  have hl : lv_has ls 2 [(0, .ref bu), (1, .int (kI (x)))] := hl
  have hltb := hO_bu.lt
  refine lv_aload_n hx hb dJ4_append_3_0 rfl (lv_at hl 0 rfl) ?_
  refine lv_aload_n hx hb dJ4_append_3_1 rfl (lv_at hl 0 rfl) ?_
  refine kx_get (v := .int (kI ((34 : Nat) : Int))) (C := RJ5) (T := TJ5) (N := 4) hx hb hts in_J5 hown hK hO_bu rfl 3 (by decide) q218 (fun _ h9 => h9) rfl dJ4_append_3_2 ?_
  refine kx_iconst hx hb dJ4_append_3_5 ?_
  refine kx_iadd hx hb dJ4_append_3_6 ?_
  refine kx_cv (va_runP (As := [.int (kI ((((34 : Nat) : Int) + 1)))]) (rest := []) ⟨hx, hb, hml, hown, hts⟩ (m_J4_ensure_h l D s.heap bu vb ml 34 g ((((34 : Nat) : Int) + 1)) hO_bu hA_vb ((by omega)) hg bs_bu) (va_cwP 1 hts (lw_meth q1328) rfl rfl rfl (hts _ q85) (hts _ q1325) (by decide +kernel) ⟨Nat.le_of_ble_eq_true rfl, Nat.le_of_ble_eq_true rfl⟩) (hts _ q1327) (hK.w q1326 rfl) (hts _ q802) rfl (kx_pv hK hS hB (kx_rc hK hO_bu (C := RJ5) (T := TJ5) (N := 4) rfl)) rfl rfl hl.1 rfl (lv_room (Nat.le_of_ble_eq_true rfl)) dJ4_append_3_7 ⟨by first | exact Nat.le_of_ble_eq_true rfl | omega | (show _ ≤ _; omega) | (dsimp only [headSpec]; omega), by first | exact Nat.le_of_ble_eq_true rfl | omega | (show _ ≤ _; omega) | (dsimp only [headSpec]; omega)⟩) hS (fun q _ h => by have h9 := hS.1; (try dsimp only at h); (try dsimp only); (try simp only [kNW] at h); (try simp only [kNW]); omega) (fun q h => by have h9 := hS.1; (try dsimp only at h); (try dsimp only); (try simp only [kNW] at h); (try simp only [kNW]); omega) (fun H_4 locs_1 hz_3 hF_5 hS_2 => ?_)
  have hzf_7 := hF_5.1
  refine W.widen (k := 1) (n := 70) (Nat.le_of_ble_eq_true rfl) (Nat.le_of_ble_eq_true rfl) ?_
  obtain ⟨vb2, ho_9, ho_10, hnb9⟩ := hz_3
  refine lv_aload_n hx hb dJ4_append_3_10 rfl (lv_at hl 0 rfl) ?_
  refine kx_cb0 (va_runV (As := []) (rest := []) ⟨hx, hb, hml, hown, hts⟩ (m_J4_isLatin1 l D H_4 bu vb2 ml 34 ho_9 ) ⟨va_cwP 0 hts (lw_meth q803) rfl rfl rfl (hts _ q85) (hts _ q799) (by decide +kernel) ⟨Nat.le_of_ble_eq_true rfl, Nat.le_of_ble_eq_true rfl⟩, hts _ q800, hts _ q802⟩ (kx_pv hK hS_2 hB (kx_rc hK ho_9 (C := RJ5) (T := TJ5) (N := 4) rfl)) rfl rfl hl.1 rfl (lv_room (Nat.le_of_ble_eq_true rfl)) dJ4_append_3_11 ⟨by first | exact Nat.le_of_ble_eq_true rfl | omega | (show _ ≤ _; omega) | (dsimp only [headSpec]; omega), by first | exact Nat.le_of_ble_eq_true rfl | omega | (show _ ≤ _; omega) | (dsimp only [headSpec]; omega)⟩) hS_2 (fun z_14 locs_11 hz_13 hS_12 => ?_)
  subst z_14
  refine kx_ifz (tgt := 45) hx hb dJ4_append_3_14 (by decide) (fun c_14_15 => ?_) (fun c_14_15 => ?_)
  · -- taken at 14
    first | exact absurd c_14_15 (by decide) | exact Bool.noConfusion c_14_15 | (simp at c_14_15; done)
  · -- not taken at 14
    refine lv_iload_n hx hb dJ4_append_3_17 rfl (lv_at hl 1 rfl) ?_
    refine kx_cb0 (va_runS (As := [.int (kI (x))]) (rest := []) ⟨hx, hb, hml, hown, hts⟩ (m_J24_canEncode_2 l D H_4 x  (by first | assumption | omega)) (va_cwS 1 hts (lw_S q2178 q2179 q112 q2180) rfl rfl rfl (by decide +kernel) ⟨Nat.le_of_ble_eq_true rfl, Nat.le_of_ble_eq_true rfl⟩) (kx_ps hK hS_12 hB) rfl rfl hl.1 rfl (lv_room (Nat.le_of_ble_eq_true rfl)) dJ4_append_3_18 ⟨by first | exact Nat.le_of_ble_eq_true rfl | omega | (show _ ≤ _; omega) | (dsimp only [headSpec]; omega), by first | exact Nat.le_of_ble_eq_true rfl | omega | (show _ ≤ _; omega) | (dsimp only [headSpec]; omega)⟩) hS_12 (fun z_19 locs_16 hz_18 hS_17 => ?_)
    subst z_19
    refine kx_ifz (tgt := 45) hx hb dJ4_append_3_21 (by decide) (fun c_21_20 => ?_) (fun c_21_20 => ?_)
    · -- taken at 21
      first | exact absurd c_21_20 (by decide) | exact Bool.noConfusion c_21_20 | (simp at c_21_20; done)
    · -- not taken at 21
      refine lv_aload_n hx hb dJ4_append_3_24 rfl (lv_at hl 0 rfl) ?_
      refine kx_get (v := .ref vb2) (C := RJ5) (T := TJ5) (N := 4) hx hb hts in_J5 hown hK ho_9 rfl 0 (by decide) q214 (fun _ h9 => h9) rfl dJ4_append_3_25 ?_
      refine lv_aload_n hx hb dJ4_append_3_28 rfl (lv_at hl 0 rfl) ?_
      refine lv_dup hx hb dJ4_append_3_29 rfl ?_
      refine kx_get (v := .int (kI ((34 : Nat) : Int))) (C := RJ5) (T := TJ5) (N := 4) hx hb hts in_J5 hown hK ho_9 rfl 3 (by decide) q218 (fun _ h9 => h9) rfl dJ4_append_3_30 ?_
      refine lv_dup_x1 hx hb dJ4_append_3_33 rfl rfl ?_
      refine kx_iconst hx hb dJ4_append_3_34 ?_
      refine kx_iadd hx hb dJ4_append_3_35 ?_
      refine kx_eqi (((35 : Nat) : Int)) (by omega) ?_
      refine kx_put (v := .int (kI ((35 : Nat) : Int))) (C := RJ5) (T := TJ5) (N := 4) hx hb hts in_J5 hown hK ho_9 rfl 3 (by decide) tyJ5 tyJ5_ok nmJ5 hS_17 (by first | rfl | exact Or.inl rfl | exact Or.inr rfl | exact Or.inr (Or.inl rfl) | exact Or.inr (Or.inr rfl) | exact Or.inr (Or.inr (Or.inl rfl)) | exact Or.inr (Or.inr (Or.inr rfl)) | ((try dsimp only); (try simp only [kNW]); omega)) q218 (fun _ h9 => h9) rfl rfl rfl rfl (Nat.le_of_ble_eq_true rfl) dJ4_append_3_36 (fun H_23 locs_24 hO_22 hU_21 hS_25 => ?_)
      have hO_22 : kO D H_23 bu 11 [.ref vb2, .int (kI (0)), .int (kI (kb (ml))), .int (kI ((35 : Nat) : Int))] := hO_22
      have hzu_26 := hU_21.1
      refine lv_iload_n hx hb dJ4_append_3_39 rfl (lv_at hl 1 rfl) ?_
      refine kx_i2b hx hb (z := x) (by omega) (by omega) dJ4_append_3_40 ?_
      have h_27 := ho_10.up hU_21 (by first | assumption | exact Ne.symm (by assumption)  | omega | (have h9 := ho_10.lt; omega))
      refine kx_bast (i := ((34 : Nat) : Int)) (x := x) hx hb hK h_27 hS_25 (by first | rfl | exact Or.inl rfl | exact Or.inr rfl | exact Or.inr (Or.inl rfl) | exact Or.inr (Or.inr rfl) | exact Or.inr (Or.inr (Or.inl rfl)) | exact Or.inr (Or.inr (Or.inr rfl)) | ((try dsimp only); (try simp only [kNW]); omega)) (by omega) (by omega) 34 (rfl) (by omega) (by omega) dJ4_append_3_41 (fun H_30 locs_31 hA_29 hU_28 hS_32 => ?_)
      have hzu_33 := hU_28.1
      refine lv_goto (tgt := 75) hx hb dJ4_append_3_42 (by decide) ?_
      refine lv_aload_n hx hb dJ4_append_3_75 rfl (lv_at hl 0 rfl) ?_
      have h_34 := hO_22.up hU_28 (by first | assumption | exact Ne.symm (by assumption)  | omega | (have h9 := hO_22.lt; omega))
      exact kx_aret (z := bu) hx hb hr (by first | exact Or.inl ⟨_, rfl⟩ | exact Or.inr ⟨_, rfl⟩) hlk (⟨vb2, by rfl, h_34, hA_29, by first | assumption | rfl | omega | grind⟩) hS_32 dJ4_append_3_76

set_option maxHeartbeats 4000000 in
set_option maxRecDepth 100000 in
theorem m_J5_append_h (l : Launch) (D : kG) (H : Heap) (bu : Nat) (vb : Nat) (ml : Bool) (g : Nat → Int) (x : Int) (hO_bu : kO D H bu 11 [.ref vb, .int (kI (0)), .int (kI (kb (ml))), .int (kI ((34 : Nat) : Int))]) (hA_vb : kAb D H vb 34 g) (hxr : 0 ≤ x ∧ x < 128) (hg : ∀ j, j < 34 → 0 ≤ g j ∧ g j < 128) (bs_bu : kBase D ≤ bu) : Met l yJ5_append_3 (ws_ yJ5_append_3 cJ5_append_3 2 (some (.object "java/lang/StringBuilder"))) ({ frames := 5, cells := 1, slots := 70, locals := 125 } : Room) (kPre D H [.ref bu, .int (kI (x))]) (kQr (fun (r : Nat) H' => ∃ (vb2 : Nat), (r = bu) ∧ (kO D H' bu 11 [.ref vb2, .int (kI (0)), .int (kI (kb (ml))), .int (kI ((35 : Nat) : Int))]) ∧ (kAb D H' vb2 70 ((kup (fun j => if j < 34 then g j else 0) 34 x))) ∧ (H.size ≤ vb2)) (fun q : Nat => q = bu ∨ H.size ≤ q)) (1) (70) ((fun q : Nat => q = bu ∨ H.size ≤ q)) := by
  refine Met.ofW (cc := cJ5_append_3) (maxL := 2) (ret := (some (.object "java/lang/StringBuilder"))) (by decide) rfl ?_
  intro p e s m args below meth c s₁ B hml hv
  obtain ⟨rfl, hH, hK⟩ := hv
  subst hH
  have hx := B.exec
  have hb := B.bytes
  have hr := B.returns
  have hts := atoms_spec (ws := ws_ yJ5_append_3 cJ5_append_3 2 (some (.object "java/lang/StringBuilder"))) B.pre
  have hts : ∀ w ∈ lw_all, w.before _ s = true := fun w h => hts w (List.mem_cons_of_mem _ h)
  have hown : s.vm.findClass RJ5 = some m.cls := findClass_of_methodNamed B.named
  have hlk := B.notSynchronized
  have hS : va_S (fun q : Nat => q = bu ∨ s.heap.size ≤ q) s.heap s.heap [] := va_S.rf
  have hB : ∀ q, (fun q : Nat => q = bu ∨ s.heap.size ≤ q) q → kBase D ≤ q := fun q h => by (try dsimp only at h); (try simp only [kNW] at h); have hks := hK.size; omega
  have hl := lv_entry ([.ref bu, .int (kI (x))]) (n := 2) (Nat.le_of_ble_eq_true rfl)
  rw [lg_entry_eq]
  generalize (lg_sl ([.ref bu, .int (kI (x))]) ++ List.replicate (2 - (lg_sl ([.ref bu, .int (kI (x))])).length) Slot.unset).toArray = ls at hl ⊢
  have hl : lv_has ls 2 [(0, .ref bu), (1, .int (kI (x)))] := hl
  have hltb := hO_bu.lt
  refine lv_aload_n hx hb dJ5_append_3_0 rfl (lv_at hl 0 rfl) ?_
  refine lv_iload_n hx hb dJ5_append_3_1 rfl (lv_at hl 1 rfl) ?_
  refine kx_cr (va_runSU (C := RJ5) (As := [.int (kI (x))]) (rest := []) (hK.at (ci := 11) rfl) ⟨hx, hb, hml, hown, hts⟩ (m_J4_append_h l D s.heap bu vb ml g x hO_bu hA_vb hxr hg bs_bu) (va_cwSU 1 hts (lw_SU q2175 q2661 q227 q2176 q85 q2177) rfl rfl rfl (by decide +kernel) ⟨Nat.le_of_ble_eq_true rfl, Nat.le_of_ble_eq_true rfl⟩) (kx_pv hK hS hB (kx_rc hK hO_bu (C := RJ5) (T := TJ5) (N := 4) rfl)) rfl rfl hl.1 rfl (lv_room (Nat.le_of_ble_eq_true rfl)) dJ5_append_3_2 ⟨by first | exact Nat.le_of_ble_eq_true rfl | omega | (show _ ≤ _; omega) | (dsimp only [headSpec]; omega), by first | exact Nat.le_of_ble_eq_true rfl | omega | (show _ ≤ _; omega) | (dsimp only [headSpec]; omega)⟩) hS (fun q _ h => by have h9 := hS.1; (try dsimp only at h); (try dsimp only); (try simp only [kNW] at h); (try simp only [kNW]); omega) (fun q h => by have h9 := hS.1; (try dsimp only at h); (try dsimp only); (try simp only [kNW] at h); (try simp only [kNW]); omega) (fun z_6 H_4 locs_1 hz_3 hF_5 hS_2 => ?_)
  have hzf_7 := hF_5.1
  refine W.widen (k := 1) (n := 70) (Nat.le_of_ble_eq_true rfl) (Nat.le_of_ble_eq_true rfl) ?_
  obtain ⟨vb2, hv_9, ho_10, ho_11, hnb9⟩ := hz_3
  subst z_6
  refine lv_pop hx hb dJ5_append_3_5 rfl ?_
  refine lv_aload_n hx hb dJ5_append_3_6 rfl (lv_at hl 0 rfl) ?_
  exact kx_aret (z := bu) hx hb hr (by first | exact Or.inl ⟨_, rfl⟩ | exact Or.inr ⟨_, rfl⟩) hlk (⟨vb2, by rfl, ho_10, ho_11, by first | assumption | rfl | omega | grind⟩) hS_2 dJ5_append_3_7

set_option maxHeartbeats 4000000 in
set_option maxRecDepth 100000 in
theorem m_X1_append (l : Launch) (D : kG) (H : Heap) (x1 : Nat) (st : Nat) (snp : Option Nat) (hi : Nat) (bu : Nat) (vb : Nat) (t : List Int) (x : Int) (hO_x1 : kO D H x1 0 [.ref st, va_rf (snp), .ref hi, .ref bu]) (hP_kTx_bu : kTx D H bu vb t) (bs_bu : kBase D ≤ bu) (bs_vb : kBase D ≤ vb) (hxa : 32 ≤ x ∧ x ≤ 126) (ht9 : t.length < 60) : Met l yX1_append (ws_ yX1_append cX1_append 2 (some .int)) ({ frames := 6, cells := 1, slots := 70, locals := 146 } : Room) (kPre D H [.ref x1, .int (kI (x))]) (kQi (fun (r : Int) H' => ∃ (vb2 : Nat), (r = ((t.length + 1 : Nat) : Int)) ∧ (kO D H' x1 0 [.ref st, va_rf (snp), .ref hi, .ref bu]) ∧ (kTx D H' bu vb2 ((t ++ [x]))) ∧ (vb2 = vb ∨ H.size ≤ vb2)) (fun q : Nat => q = bu ∨ q = vb ∨ H.size ≤ q)) (1) (70) ((fun q : Nat => q = bu ∨ q = vb ∨ H.size ≤ q)) := by
  refine Met.ofW (cc := cX1_append) (maxL := 2) (ret := (some .int)) (by decide) rfl ?_
  intro p e s m args below meth c s₁ B hml hv
  obtain ⟨rfl, hH, hK⟩ := hv
  subst hH
  have hx := B.exec
  have hb := B.bytes
  have hr := B.returns
  have hts := atoms_spec (ws := ws_ yX1_append cX1_append 2 (some .int)) B.pre
  have hts : ∀ w ∈ lw_all, w.before _ s = true := fun w h => hts w (List.mem_cons_of_mem _ h)
  have hown : s.vm.findClass RX1 = some m.cls := findClass_of_methodNamed B.named
  have hlk := B.notSynchronized
  have hS : va_S (fun q : Nat => q = bu ∨ q = vb ∨ s.heap.size ≤ q) s.heap s.heap [] := va_S.rf
  have hB : ∀ q, (fun q : Nat => q = bu ∨ q = vb ∨ s.heap.size ≤ q) q → kBase D ≤ q := fun q h => by (have h2 := hK.size; rcases h with h | h | h; (rw [h]; exact bs_bu); (rw [h]; exact bs_vb); omega)
  have hl := lv_entry ([.ref x1, .int (kI (x))]) (n := 2) (Nat.le_of_ble_eq_true rfl)
  rw [lg_entry_eq]
  generalize (lg_sl ([.ref x1, .int (kI (x))]) ++ List.replicate (2 - (lg_sl ([.ref x1, .int (kI (x))])).length) Slot.unset).toArray = ls at hl ⊢
  have hl : lv_has ls 2 [(0, .ref x1), (1, .int (kI (x)))] := hl
  have hks9 := hK.size
  obtain ⟨ml, cap, gt, hBo, hBa, hT, hcap, hc3, ht60⟩ := id hP_kTx_bu
  have hd9 := hK.dis
  have hltbu := hBo.lt
  have hltvb := hBa.lt
  have hltx1 := hO_x1.lt
  have ne_bu_vb : bu ≠ vb := kOA_ne hd9 hBo hBa (by decide) (by decide)
  have ne_x1_bu : x1 ≠ bu := kO_ne hd9 hO_x1 hBo (by decide) (by decide) (by decide)
  have ne_x1_vb : x1 ≠ vb := kOA_ne hd9 hO_x1 hBa (by decide) (by decide)
  refine lv_iload_n hx hb dX1_append_0 rfl (lv_at hl 1 rfl) ?_
  refine kx_bipush hx hb (by decide) dX1_append_1 ?_
  refine kx_bipush hx hb (by decide) dX1_append_3 ?_
  refine kx_cv0 (va_runS (As := [.int (kI (x)), .int (kI (32)), .int (kI (126))]) (rest := []) ⟨hx, hb, hml, hown, hts⟩ (m_X1_checkRange l D s.heap x 32 126  (by first | assumption | omega) (by first | assumption | omega) (by first | assumption | omega) (by first | assumption | omega)) (va_cwS 3 hts (lw_S q1838 q1839 q79 q1840) rfl rfl rfl (by decide +kernel) ⟨Nat.le_of_ble_eq_true rfl, Nat.le_of_ble_eq_true rfl⟩) (kx_ps hK hS hB) rfl rfl hl.1 rfl (lv_room (Nat.le_of_ble_eq_true rfl)) dX1_append_5 ⟨by first | exact Nat.le_of_ble_eq_true rfl | omega | (show _ ≤ _; omega) | (dsimp only [headSpec]; omega), by first | exact Nat.le_of_ble_eq_true rfl | omega | (show _ ≤ _; omega) | (dsimp only [headSpec]; omega)⟩) hS (fun locs_1 hz_3 hS_2 => ?_)
  refine lv_aload_n hx hb dX1_append_8 rfl (lv_at hl 0 rfl) ?_
  refine kx_get (v := .ref bu) (C := RX1) (T := TX1) (N := 4) hx hb hts in_X1 hown hK hO_x1 rfl 3 (by decide) q233 (fun _ h9 => h9) rfl dX1_append_9 ?_
  refine kx_ci0 (va_runV (As := []) (rest := []) ⟨hx, hb, hml, hown, hts⟩ (m_J5_length l D s.heap bu vb ml t.length hBo ) (cwV 0 hts (lw_V q1292 q1293 q1294 q86 q1295) rfl rfl rfl (by decide +kernel) ⟨Nat.le_of_ble_eq_true rfl, Nat.le_of_ble_eq_true rfl⟩) (kx_pv hK hS_2 hB (kx_rc hK hBo (C := RJ5) (T := TJ5) (N := 4) rfl)) rfl rfl hl.1 rfl (lv_room (Nat.le_of_ble_eq_true rfl)) dX1_append_12 ⟨by first | exact Nat.le_of_ble_eq_true rfl | omega | (show _ ≤ _; omega) | (dsimp only [headSpec]; omega), by first | exact Nat.le_of_ble_eq_true rfl | omega | (show _ ≤ _; omega) | (dsimp only [headSpec]; omega)⟩) hS_2 (fun z_8 locs_5 hz_7 hS_6 => ?_)
  subst z_8
  refine kx_bipush hx hb (by decide) dX1_append_15 ?_
  refine kx_icmp_ge (x := ((t.length : Nat) : Int)) (y := 60) (tgt := 24) hx hb dX1_append_17 (by decide) (by omega) (by omega) (by omega) (by omega) (fun c_17_9 => ?_) (fun c_17_9 => ?_)
  · -- taken at 17
    exfalso; omega
  · -- not taken at 17
    refine kx_iconst hx hb dX1_append_20 ?_
    refine lv_goto (tgt := 25) hx hb dX1_append_21 (by decide) ?_
    refine kx_cv0 (va_runS (As := [.int (kI (1))]) (rest := []) ⟨hx, hb, hml, hown, hts⟩ (m_X1_checkState l D s.heap   ) (va_cwS 1 hts (lw_S q1844 q1845 q79 q1846) rfl rfl rfl (by decide +kernel) ⟨Nat.le_of_ble_eq_true rfl, Nat.le_of_ble_eq_true rfl⟩) (kx_ps hK hS_6 hB) rfl rfl hl.1 rfl (lv_room (Nat.le_of_ble_eq_true rfl)) dX1_append_25 ⟨by first | exact Nat.le_of_ble_eq_true rfl | omega | (show _ ≤ _; omega) | (dsimp only [headSpec]; omega), by first | exact Nat.le_of_ble_eq_true rfl | omega | (show _ ≤ _; omega) | (dsimp only [headSpec]; omega)⟩) hS_6 (fun locs_10 hz_12 hS_11 => ?_)
    refine lv_aload_n hx hb dX1_append_28 rfl (lv_at hl 0 rfl) ?_
    refine kx_get (v := .ref bu) (C := RX1) (T := TX1) (N := 4) hx hb hts in_X1 hown hK hO_x1 rfl 3 (by decide) q233 (fun _ h9 => h9) rfl dX1_append_29 ?_
    refine lv_iload_n hx hb dX1_append_32 rfl (lv_at hl 1 rfl) ?_
    refine kx_i2c hx hb (z := x) (by omega) (by omega) dX1_append_33 ?_
    by_cases hcr : t.length < cap
    · -- room
      refine kx_cr (va_runV (As := [.int (kI (x))]) (rest := []) ⟨hx, hb, hml, hown, hts⟩ (m_J5_append_r l D s.heap bu vb ml t.length cap gt x hBo hBa ((by omega)) hcap ((by omega)) hcr bs_bu bs_vb ne_bu_vb) (cwV 1 hts (lw_V q2171 q2172 q2173 q86 q2174) rfl rfl rfl (by decide +kernel) ⟨Nat.le_of_ble_eq_true rfl, Nat.le_of_ble_eq_true rfl⟩) (kx_pv hK hS_11 hB (kx_rc hK hBo (C := RJ5) (T := TJ5) (N := 4) rfl)) rfl rfl hl.1 rfl (lv_room (Nat.le_of_ble_eq_true rfl)) dX1_append_34 ⟨by first | exact Nat.le_of_ble_eq_true rfl | omega | (show _ ≤ _; omega) | (dsimp only [headSpec]; omega), by first | exact Nat.le_of_ble_eq_true rfl | omega | (show _ ≤ _; omega) | (dsimp only [headSpec]; omega)⟩) hS_11 (fun q _ h => by rcases h with h | h; exact Or.inl h; exact Or.inr (by first | exact Or.inl h | exact Or.inr (by omega))) (fun q h => by rcases h with h | h; exact Or.inl h; exact Or.inr (by first | exact Or.inl h | exact Or.inr (by omega))) (fun z_19 H_17 locs_14 hz_16 hF_18 hS_15 => ?_)
      have hzf_20 := hF_18.1
      refine W.widen (k := 0) (n := 0) (Nat.le_of_ble_eq_true rfl) (Nat.le_of_ble_eq_true rfl) ?_
      obtain ⟨hv_21, ho_22, ho_23⟩ := hz_16
      subst z_19
      refine lv_pop hx hb dX1_append_37 rfl ?_
      refine lv_aload_n hx hb dX1_append_38 rfl (lv_at hl 0 rfl) ?_
      have h_24 := hO_x1.fr hF_18 (fun h => by have h9 := hO_x1.lt; (try dsimp only at h); (try simp only [kNW] at h); omega)
      refine kx_get (v := .ref bu) (C := RX1) (T := TX1) (N := 4) hx hb hts in_X1 hown hK h_24 rfl 3 (by decide) q233 (fun _ h9 => h9) rfl dX1_append_39 ?_
      refine kx_ci0 (va_runV (As := []) (rest := []) ⟨hx, hb, hml, hown, hts⟩ (m_J5_length l D H_17 bu vb ml (t.length + 1) ho_22 ) (cwV 0 hts (lw_V q1292 q1293 q1294 q86 q1295) rfl rfl rfl (by decide +kernel) ⟨Nat.le_of_ble_eq_true rfl, Nat.le_of_ble_eq_true rfl⟩) (kx_pv hK hS_15 hB (kx_rc hK ho_22 (C := RJ5) (T := TJ5) (N := 4) rfl)) rfl rfl hl.1 rfl (lv_room (Nat.le_of_ble_eq_true rfl)) dX1_append_42 ⟨by first | exact Nat.le_of_ble_eq_true rfl | omega | (show _ ≤ _; omega) | (dsimp only [headSpec]; omega), by first | exact Nat.le_of_ble_eq_true rfl | omega | (show _ ≤ _; omega) | (dsimp only [headSpec]; omega)⟩) hS_15 (fun z_28 locs_25 hz_27 hS_26 => ?_)
      subst z_28
      have hTx9 : kTx D H_17 bu vb (t ++ [x]) := ⟨ml, cap, _, (by rw [List.length_append]; exact ho_22), ho_23, hT.snoc (fun j hj => kup_ne (by omega)) (kup_self _ _ _) (by omega), by rw [List.length_append]; show t.length + 1 ≤ _; omega, hc3, by rw [List.length_append]; show t.length + 1 ≤ _; omega⟩
      have hvb9 : vb = vb ∨ s.heap.size ≤ vb := Or.inl rfl
      refine W.widen (k := 1) (n := 70) (by omega) (by omega) ?_
      exact kx_iret (z := (((t.length + 1) : Nat) : Int)) hx hb hr hlk (⟨vb, by first | rfl | omega, h_24, hTx9, by exact hvb9⟩) hS_26 dX1_append_45
    · -- full
      rcases hc3 with hcc | hcc | hcc
      · -- 16
        have hl9 : t.length = 16 := by omega
        subst hcc
        have hB9 : kO D s.heap bu 11 [.ref vb, .int (kI 0), .int (kI (kb ml)), .int (kI ((16 : Nat) : Int))] := by have h9 := hBo; rw [hl9] at h9; exact h9
        refine kx_cr (va_runV (As := [.int (kI (x))]) (rest := []) ⟨hx, hb, hml, hown, hts⟩ (m_J5_append_g l D s.heap bu vb ml gt x hB9 hBa ((by omega)) ((fun j hj => hT.gr (by omega))) bs_bu) (cwV 1 hts (lw_V q2171 q2172 q2173 q86 q2174) rfl rfl rfl (by decide +kernel) ⟨Nat.le_of_ble_eq_true rfl, Nat.le_of_ble_eq_true rfl⟩) (kx_pv hK hS_11 hB (kx_rc hK hB9 (C := RJ5) (T := TJ5) (N := 4) rfl)) rfl rfl hl.1 rfl (lv_room (Nat.le_of_ble_eq_true rfl)) dX1_append_34 ⟨by first | exact Nat.le_of_ble_eq_true rfl | omega | (show _ ≤ _; omega) | (dsimp only [headSpec]; omega), by first | exact Nat.le_of_ble_eq_true rfl | omega | (show _ ≤ _; omega) | (dsimp only [headSpec]; omega)⟩) hS_11 (fun q _ h => by rcases h with h | h; exact Or.inl h; exact Or.inr (by first | exact Or.inl h | exact Or.inr (by omega))) (fun q h => by rcases h with h | h; exact Or.inl h; exact Or.inr (by first | exact Or.inl h | exact Or.inr (by omega))) (fun z_34 H_32 locs_29 hz_31 hF_33 hS_30 => ?_)
        have hzf_35 := hF_33.1
        refine W.widen (k := 1) (n := 34) (Nat.le_of_ble_eq_true rfl) (Nat.le_of_ble_eq_true rfl) ?_
        obtain ⟨vb9, hv_37, ho_38, ho_39, hnb9⟩ := hz_31
        subst z_34
        refine lv_pop hx hb dX1_append_37 rfl ?_
        refine lv_aload_n hx hb dX1_append_38 rfl (lv_at hl 0 rfl) ?_
        have h_40 := hO_x1.fr hF_33 (fun h => by have h9 := hO_x1.lt; (try dsimp only at h); (try simp only [kNW] at h); omega)
        refine kx_get (v := .ref bu) (C := RX1) (T := TX1) (N := 4) hx hb hts in_X1 hown hK h_40 rfl 3 (by decide) q233 (fun _ h9 => h9) rfl dX1_append_39 ?_
        refine kx_ci0 (va_runV (As := []) (rest := []) ⟨hx, hb, hml, hown, hts⟩ (m_J5_length l D H_32 bu vb9 ml 17 ho_38 ) (cwV 0 hts (lw_V q1292 q1293 q1294 q86 q1295) rfl rfl rfl (by decide +kernel) ⟨Nat.le_of_ble_eq_true rfl, Nat.le_of_ble_eq_true rfl⟩) (kx_pv hK hS_30 hB (kx_rc hK ho_38 (C := RJ5) (T := TJ5) (N := 4) rfl)) rfl rfl hl.1 rfl (lv_room (Nat.le_of_ble_eq_true rfl)) dX1_append_42 ⟨by first | exact Nat.le_of_ble_eq_true rfl | omega | (show _ ≤ _; omega) | (dsimp only [headSpec]; omega), by first | exact Nat.le_of_ble_eq_true rfl | omega | (show _ ≤ _; omega) | (dsimp only [headSpec]; omega)⟩) hS_30 (fun z_44 locs_41 hz_43 hS_42 => ?_)
        subst z_44
        have hTx9 : kTx D H_32 bu vb9 (t ++ [x]) := ⟨ml, 34, _, (by rw [List.length_append, hl9]; exact ho_38), ho_39, hT.snoc (fun j hj => by rw [kup_ne (by omega)]; exact if_pos (by omega)) (by rw [hl9]; exact kup_self _ _ _) (by omega), by rw [List.length_append]; show t.length + 1 ≤ _; omega, by omega, by rw [List.length_append]; show t.length + 1 ≤ _; omega⟩
        have hvb9 : vb9 = vb ∨ s.heap.size ≤ vb9 := Or.inr (by omega)
        refine W.widen (k := 1) (n := 70) (by omega) (by omega) ?_
        exact kx_iret (z := ((17 : Nat) : Int)) hx hb hr hlk (⟨vb9, by first | rfl | omega, h_40, hTx9, by exact hvb9⟩) hS_42 dX1_append_45
      · -- 34
        have hl9 : t.length = 34 := by omega
        subst hcc
        have hB9 : kO D s.heap bu 11 [.ref vb, .int (kI 0), .int (kI (kb ml)), .int (kI ((34 : Nat) : Int))] := by have h9 := hBo; rw [hl9] at h9; exact h9
        refine kx_cr (va_runV (As := [.int (kI (x))]) (rest := []) ⟨hx, hb, hml, hown, hts⟩ (m_J5_append_h l D s.heap bu vb ml gt x hB9 hBa ((by omega)) ((fun j hj => hT.gr (by omega))) bs_bu) (cwV 1 hts (lw_V q2171 q2172 q2173 q86 q2174) rfl rfl rfl (by decide +kernel) ⟨Nat.le_of_ble_eq_true rfl, Nat.le_of_ble_eq_true rfl⟩) (kx_pv hK hS_11 hB (kx_rc hK hB9 (C := RJ5) (T := TJ5) (N := 4) rfl)) rfl rfl hl.1 rfl (lv_room (Nat.le_of_ble_eq_true rfl)) dX1_append_34 ⟨by first | exact Nat.le_of_ble_eq_true rfl | omega | (show _ ≤ _; omega) | (dsimp only [headSpec]; omega), by first | exact Nat.le_of_ble_eq_true rfl | omega | (show _ ≤ _; omega) | (dsimp only [headSpec]; omega)⟩) hS_11 (fun q _ h => by rcases h with h | h; exact Or.inl h; exact Or.inr (by first | exact Or.inl h | exact Or.inr (by omega))) (fun q h => by rcases h with h | h; exact Or.inl h; exact Or.inr (by first | exact Or.inl h | exact Or.inr (by omega))) (fun z_50 H_48 locs_45 hz_47 hF_49 hS_46 => ?_)
        have hzf_51 := hF_49.1
        refine W.widen (k := 1) (n := 70) (Nat.le_of_ble_eq_true rfl) (Nat.le_of_ble_eq_true rfl) ?_
        obtain ⟨vb9, hv_53, ho_54, ho_55, hnb9⟩ := hz_47
        subst z_50
        refine lv_pop hx hb dX1_append_37 rfl ?_
        refine lv_aload_n hx hb dX1_append_38 rfl (lv_at hl 0 rfl) ?_
        have h_56 := hO_x1.fr hF_49 (fun h => by have h9 := hO_x1.lt; (try dsimp only at h); (try simp only [kNW] at h); omega)
        refine kx_get (v := .ref bu) (C := RX1) (T := TX1) (N := 4) hx hb hts in_X1 hown hK h_56 rfl 3 (by decide) q233 (fun _ h9 => h9) rfl dX1_append_39 ?_
        refine kx_ci0 (va_runV (As := []) (rest := []) ⟨hx, hb, hml, hown, hts⟩ (m_J5_length l D H_48 bu vb9 ml 35 ho_54 ) (cwV 0 hts (lw_V q1292 q1293 q1294 q86 q1295) rfl rfl rfl (by decide +kernel) ⟨Nat.le_of_ble_eq_true rfl, Nat.le_of_ble_eq_true rfl⟩) (kx_pv hK hS_46 hB (kx_rc hK ho_54 (C := RJ5) (T := TJ5) (N := 4) rfl)) rfl rfl hl.1 rfl (lv_room (Nat.le_of_ble_eq_true rfl)) dX1_append_42 ⟨by first | exact Nat.le_of_ble_eq_true rfl | omega | (show _ ≤ _; omega) | (dsimp only [headSpec]; omega), by first | exact Nat.le_of_ble_eq_true rfl | omega | (show _ ≤ _; omega) | (dsimp only [headSpec]; omega)⟩) hS_46 (fun z_60 locs_57 hz_59 hS_58 => ?_)
        subst z_60
        have hTx9 : kTx D H_48 bu vb9 (t ++ [x]) := ⟨ml, 70, _, (by rw [List.length_append, hl9]; exact ho_54), ho_55, hT.snoc (fun j hj => by rw [kup_ne (by omega)]; exact if_pos (by omega)) (by rw [hl9]; exact kup_self _ _ _) (by omega), by rw [List.length_append]; show t.length + 1 ≤ _; omega, by omega, by rw [List.length_append]; show t.length + 1 ≤ _; omega⟩
        have hvb9 : vb9 = vb ∨ s.heap.size ≤ vb9 := Or.inr (by omega)
        exact kx_iret (z := ((35 : Nat) : Int)) hx hb hr hlk (⟨vb9, by first | rfl | omega, h_56, hTx9, by exact hvb9⟩) hS_58 dX1_append_45
      · -- 70
        omega

set_option maxHeartbeats 4000000 in
set_option maxRecDepth 100000 in
theorem m_X1_clearText (l : Launch) (D : kG) (H : Heap) (x1 : Nat) (st : Nat) (snp : Option Nat) (hi : Nat) (bu : Nat) (vb : Nat) (t : List Int) (hO_x1 : kO D H x1 0 [.ref st, va_rf (snp), .ref hi, .ref bu]) (hP_kTx_bu : kTx D H bu vb t) (bs_bu : kBase D ≤ bu) (bs_vb : kBase D ≤ vb) : Met l yX1_clearText (ws_ yX1_clearText cX1_clearText 2 (some .int)) ({ frames := 3, cells := 0, slots := 0, locals := 64 } : Room) (kPre D H [.ref x1]) (kQi (fun (r : Int) H' => (r = ((t.length : Nat) : Int)) ∧ (kO D H' x1 0 [.ref st, va_rf (snp), .ref hi, .ref bu]) ∧ (kTx D H' bu vb (([] : List Int)))) (fun q : Nat => q = bu)) (0) (0) ((fun q : Nat => q = bu)) := by
  refine Met.ofW (cc := cX1_clearText) (maxL := 2) (ret := (some .int)) (by decide) rfl ?_
  intro p e s m args below meth c s₁ B hml hv
  obtain ⟨rfl, hH, hK⟩ := hv
  subst hH
  have hx := B.exec
  have hb := B.bytes
  have hr := B.returns
  have hts := atoms_spec (ws := ws_ yX1_clearText cX1_clearText 2 (some .int)) B.pre
  have hts : ∀ w ∈ lw_all, w.before _ s = true := fun w h => hts w (List.mem_cons_of_mem _ h)
  have hown : s.vm.findClass RX1 = some m.cls := findClass_of_methodNamed B.named
  have hlk := B.notSynchronized
  have hS : va_S (fun q : Nat => q = bu) s.heap s.heap [] := va_S.rf
  have hB : ∀ q, (fun q : Nat => q = bu) q → kBase D ≤ q := fun q h => by (rw [show q = bu from h]; exact bs_bu)
  have hl := lv_entry ([.ref x1]) (n := 2) (Nat.le_of_ble_eq_true rfl)
  rw [lg_entry_eq]
  generalize (lg_sl ([.ref x1]) ++ List.replicate (2 - (lg_sl ([.ref x1])).length) Slot.unset).toArray = ls at hl ⊢
  have hl : lv_has ls 2 [(0, .ref x1)] := hl
  obtain ⟨ml, cap, gt, hBo, hBa, hT, hcap, hc3, ht60⟩ := id hP_kTx_bu
  have hd9 := hK.dis
  have hltbu := hBo.lt
  have hltvb := hBa.lt
  have hltx1 := hO_x1.lt
  have ne_bu_vb : bu ≠ vb := kOA_ne hd9 hBo hBa (by decide) (by decide)
  have ne_x1_bu : x1 ≠ bu := kO_ne hd9 hO_x1 hBo (by decide) (by decide) (by decide)
  have ne_x1_vb : x1 ≠ vb := kOA_ne hd9 hO_x1 hBa (by decide) (by decide)
  refine lv_aload_n hx hb dX1_clearText_0 rfl (lv_at hl 0 rfl) ?_
  refine kx_get (v := .ref bu) (C := RX1) (T := TX1) (N := 4) hx hb hts in_X1 hown hK hO_x1 rfl 3 (by decide) q233 (fun _ h9 => h9) rfl dX1_clearText_1 ?_
  refine kx_ci0 (va_runV (As := []) (rest := []) ⟨hx, hb, hml, hown, hts⟩ (m_J5_length l D s.heap bu vb ml t.length hBo ) (cwV 0 hts (lw_V q1292 q1293 q1294 q86 q1295) rfl rfl rfl (by decide +kernel) ⟨Nat.le_of_ble_eq_true rfl, Nat.le_of_ble_eq_true rfl⟩) (kx_pv hK hS hB (kx_rc hK hBo (C := RJ5) (T := TJ5) (N := 4) rfl)) rfl rfl hl.1 rfl (lv_room (Nat.le_of_ble_eq_true rfl)) dX1_clearText_4 ⟨by first | exact Nat.le_of_ble_eq_true rfl | omega | (show _ ≤ _; omega) | (dsimp only [headSpec]; omega), by first | exact Nat.le_of_ble_eq_true rfl | omega | (show _ ≤ _; omega) | (dsimp only [headSpec]; omega)⟩) hS (fun z_4 locs_1 hz_3 hS_2 => ?_)
  subst z_4
  refine lv_istore_n (lv' := [(1, .int (kI ((t.length : Nat) : Int))), (0, .ref x1)]) hx hb dX1_clearText_7 rfl hl (by decide) rfl (fun ls hl => ?_)
  refine lv_aload_n hx hb dX1_clearText_8 rfl (lv_at hl 1 rfl) ?_
  refine kx_get (v := .ref bu) (C := RX1) (T := TX1) (N := 4) hx hb hts in_X1 hown hK hO_x1 rfl 3 (by decide) q233 (fun _ h9 => h9) rfl dX1_clearText_9 ?_
  refine kx_iconst hx hb dX1_clearText_12 ?_
  refine kx_cv (va_runV (As := [.int (kI (0))]) (rest := []) ⟨hx, hb, hml, hown, hts⟩ (m_J5_setLength l D s.heap bu vb ml t.length cap gt hBo hBa ((by omega)) hcap bs_bu ne_bu_vb) (cwV 1 hts (lw_V q1299 q1300 q1301 q86 q1302) rfl rfl rfl (by decide +kernel) ⟨Nat.le_of_ble_eq_true rfl, Nat.le_of_ble_eq_true rfl⟩) (kx_pv hK hS_2 hB (kx_rc hK hBo (C := RJ5) (T := TJ5) (N := 4) rfl)) rfl rfl hl.1 rfl (lv_room (Nat.le_of_ble_eq_true rfl)) dX1_clearText_13 ⟨by first | exact Nat.le_of_ble_eq_true rfl | omega | (show _ ≤ _; omega) | (dsimp only [headSpec]; omega), by first | exact Nat.le_of_ble_eq_true rfl | omega | (show _ ≤ _; omega) | (dsimp only [headSpec]; omega)⟩) hS_2 (fun q _ h => by (try dsimp only at h); (try dsimp only); (try simp only [kNW] at h); (try simp only [kNW]); omega) (fun q h => by (try dsimp only at h); (try dsimp only); (try simp only [kNW] at h); (try simp only [kNW]); omega) (fun H_8 locs_5 hz_7 hF_9 hS_6 => ?_)
  have hzf_11 := hF_9.1
  refine W.widen (k := 0) (n := 0) (Nat.le_of_ble_eq_true rfl) (Nat.le_of_ble_eq_true rfl) ?_
  obtain ⟨ml2_12, ho_13⟩ := hz_7
  have h_14 := hBa.fr hF_9 (fun h => by have h9 := hBa.lt; (try dsimp only at h); (try simp only [kNW] at h); omega)
  have hTx9 : kTx D H_8 bu vb ([] : List Int) := ⟨_, cap, gt, ho_13, h_14, fun i hi => absurd hi (Nat.not_lt_zero i), Nat.zero_le _, hc3, Nat.zero_le _⟩
  refine lv_iload_n hx hb dX1_clearText_16 rfl (lv_at hl 0 rfl) ?_
  have h_15 := hO_x1.fr hF_9 (fun h => by have h9 := hO_x1.lt; (try dsimp only at h); (try simp only [kNW] at h); omega)
  exact kx_iret (z := ((t.length : Nat) : Int)) hx hb hr hlk (⟨by rfl, h_15, hTx9⟩) hS_6 dX1_clearText_17

set_option maxHeartbeats 4000000 in
set_option maxRecDepth 100000 in
theorem m_X1_errorPosition (l : Launch) (D : kG) (H : Heap) (x1 : Nat) (st : Nat) (snp : Option Nat) (hi : Nat) (bu : Nat) (vb : Nat) (t : List Int) (hO_x1 : kO D H x1 0 [.ref st, va_rf (snp), .ref hi, .ref bu]) (hP_kTx_bu : kTx D H bu vb t) : Met l yX1_errorPosition (ws_ yX1_errorPosition cX1_errorPosition 2 (some .int)) ({ frames := 10, cells := 66, slots := 769, locals := 3166 } : Room) (kPre D H [.ref x1]) (kQi (fun (r : Int) H' => (r = ((tx_pos t : Nat) : Int)) ∧ (True)) (kNW H)) (66) (769) ((kNW H)) := by
  refine Met.ofW (cc := cX1_errorPosition) (maxL := 2) (ret := (some .int)) (by decide) rfl ?_
  intro p e s m args below meth c s₁ B hml hv
  obtain ⟨rfl, hH, hK⟩ := hv
  subst hH
  have hx := B.exec
  have hb := B.bytes
  have hr := B.returns
  have hts := atoms_spec (ws := ws_ yX1_errorPosition cX1_errorPosition 2 (some .int)) B.pre
  have hts : ∀ w ∈ lw_all, w.before _ s = true := fun w h => hts w (List.mem_cons_of_mem _ h)
  have hown : s.vm.findClass RX1 = some m.cls := findClass_of_methodNamed B.named
  have hlk := B.notSynchronized
  have hS : va_S (kNW s.heap) s.heap s.heap [] := va_S.rf
  have hB : ∀ q, (kNW s.heap) q → kBase D ≤ q := fun q h => Nat.le_trans hK.size h
  have hl := lv_entry ([.ref x1]) (n := 2) (Nat.le_of_ble_eq_true rfl)
  rw [lg_entry_eq]
  generalize (lg_sl ([.ref x1]) ++ List.replicate (2 - (lg_sl ([.ref x1])).length) Slot.unset).toArray = ls at hl ⊢
  have hl : lv_has ls 2 [(0, .ref x1)] := hl
  have hks9 := hK.size
  obtain ⟨ml, cap, gt, hBo, hBa, hT, hcap, hc3, ht60⟩ := id hP_kTx_bu
  have hd9 := hK.dis
  have hltbu := hBo.lt
  have hltvb := hBa.lt
  have hltx1 := hO_x1.lt
  have ne_bu_vb : bu ≠ vb := kOA_ne hd9 hBo hBa (by decide) (by decide)
  have ne_x1_bu : x1 ≠ bu := kO_ne hd9 hO_x1 hBo (by decide) (by decide) (by decide)
  have ne_x1_vb : x1 ≠ vb := kOA_ne hd9 hO_x1 hBa (by decide) (by decide)
  refine kx_new (ci := 8) (fs := [.int (kI (0)), .int (kI (kb (false))), .null, .int (kI (0)), .null]) (C := RX9) (T := TX9) (N := 5) hx hb hts in_X9 hown hK tyX9 tyX9_ok q1533 q1534 q125 hS rfl (fun j hj => by rcases (show j = 0 ∨ j = 1 ∨ j = 2 ∨ j = 3 ∨ j = 4 by omega) with rfl | rfl | rfl | rfl | rfl <;> rfl) (by first | exact Nat.le_of_ble_eq_true rfl | omega | (show _ ≤ _; omega) | (dsimp only [headSpec]; omega)) (by first | exact Nat.le_of_ble_eq_true rfl | omega | (show _ ≤ _; omega) | (dsimp only [headSpec]; omega)) dX1_errorPosition_0 (fun rd9 H_1 hq_2 hz_3 hO_4 hE_5 hS_6 => ?_)
  have hge_rd9 : s.heap.size ≤ rd9 := by rw [hq_2]; exact hS.1
  refine W.widen (k := 1) (n := 5) (Nat.le_of_ble_eq_true rfl) (Nat.le_of_ble_eq_true rfl) ?_
  refine lv_dup hx hb dX1_errorPosition_3 rfl ?_
  refine lv_aload_n hx hb dX1_errorPosition_4 rfl (lv_at hl 0 rfl) ?_
  refine kx_cv (va_runIN (As := [.ref x1]) (rest := [.ref rd9]) ⟨hx, hb, hml, hown, hts⟩ (m_X9_init l D H_1 rd9 x1 hO_4 (by first | assumption | omega)) ⟨va_cnB 1 hts (lw_meth q1537) rfl rfl rfl (hK.w q1535 rfl) (hts _ q125) (by decide +kernel) ⟨Nat.le_of_ble_eq_true rfl, Nat.le_of_ble_eq_true rfl⟩, rfl, hts _ q1536⟩ (kx_ps hK hS_6 hB) rfl rfl hl.1 rfl (lv_room (Nat.le_of_ble_eq_true rfl)) dX1_errorPosition_5 ⟨by first | exact Nat.le_of_ble_eq_true rfl | omega | (show _ ≤ _; omega) | (dsimp only [headSpec]; omega), by first | exact Nat.le_of_ble_eq_true rfl | omega | (show _ ≤ _; omega) | (dsimp only [headSpec]; omega)⟩) hS_6 (fun q _ h => by have h9 := hS_6.1; (try dsimp only at h); (try dsimp only); (try simp only [kNW] at h); (try simp only [kNW]); omega) (fun q h => by have h9 := hS_6.1; (try dsimp only at h); (try dsimp only); (try simp only [kNW] at h); (try simp only [kNW]); omega) (fun H_10 locs_7 hz_9 hF_11 hS_8 => ?_)
  have hzf_13 := hF_11.1
  refine W.widen (k := 2) (n := 65) (Nat.le_of_ble_eq_true rfl) (Nat.le_of_ble_eq_true rfl) ?_
  obtain ⟨oa9, ho_15, ho_16, hno9⟩ := hz_9
  refine lv_astore_n (lv' := [(1, .ref rd9), (0, .ref x1)]) hx hb dX1_errorPosition_8 rfl hl (by decide) rfl (fun ls hl => ?_)
  refine lv_aload_n hx hb dX1_errorPosition_9 rfl (lv_at hl 0 rfl) ?_
  obtain ⟨b0, hb0e⟩ : ∃ z, z = H_10.size := ⟨_, rfl⟩
  have hltr9 := ho_15.lt
  have hlto9 := ho_16.lt
  have h_17 := hO_x1.ex hE_5
  have h_18 := h_17.fr hF_11 (fun h => by have h9 := h_17.lt; (try dsimp only at h); (try simp only [kNW] at h); omega)
  have h_19 := hBo.ex hE_5
  have h_20 := h_19.fr hF_11 (fun h => by have h9 := h_19.lt; (try dsimp only at h); (try simp only [kNW] at h); omega)
  have h_21 := hBa.ex hE_5
  have h_22 := h_21.fr hF_11 (fun h => by have h9 := h_21.lt; (try dsimp only at h); (try simp only [kNW] at h); omega)
  refine kx_cb (va_runV (As := []) (rest := []) ⟨hx, hb, hml, hown, hts⟩ (m_X9_readAll l D H_10 rd9 oa9 x1 st snp hi bu vb ml cap gt t ((fun _ => none)) b0 ho_15 h_18 h_20 h_22 ho_16 hT ht60 hcap ((by omega)) ((by omega)) ((by omega)) ((by omega)) ((by omega)) ((by omega))) (cwV 0 hts (lw_V q1558 q1559 q1560 q125 q1561) rfl rfl rfl (by decide +kernel) ⟨Nat.le_of_ble_eq_true rfl, Nat.le_of_ble_eq_true rfl⟩) (kx_pv hK hS_8 hB (kx_rc hK ho_15 (C := RX9) (T := TX9) (N := 5) rfl)) rfl rfl hl.1 rfl (lv_room (Nat.le_of_ble_eq_true rfl)) dX1_errorPosition_10 ⟨by first | exact Nat.le_of_ble_eq_true rfl | omega | (show _ ≤ _; omega) | (dsimp only [headSpec]; omega), by first | exact Nat.le_of_ble_eq_true rfl | omega | (show _ ≤ _; omega) | (dsimp only [headSpec]; omega)⟩) hS_8 (fun q _ h => by have h9 := hS_8.1; (try dsimp only at h); (try dsimp only); (try simp only [kNW] at h); (try simp only [kNW]); omega) (fun q h => by have h9 := hS_8.1; (try dsimp only at h); (try dsimp only); (try simp only [kNW] at h); (try simp only [kNW]); omega) (fun z_28 H_26 locs_23 hz_25 hF_27 hS_24 => ?_)
  have hzf_29 := hF_27.1
  refine W.widen (k := 66) (n := 769) (Nat.le_of_ble_eq_true rfl) (Nat.le_of_ble_eq_true rfl) ?_
  obtain ⟨mn9, go9, b9, hv_33, ho_34, ho_35, ho_36, hbr9, hmn9, hvl9, hop9⟩ := hz_25
  subst z_28
  refine lv_pop hx hb dX1_errorPosition_13 rfl ?_
  refine lv_aload_n hx hb dX1_errorPosition_14 rfl (lv_at hl 0 rfl) ?_
  refine kx_getN (v := .int (kI (((tx_all t).2 : Nat) : Int))) (C := RX9) (T := TX9) (N := 5) hx hb hts in_X9 hown hK ho_34 rfl 0 (by decide) (hK.w q1542 rfl) (fun _ h9 => h9) rfl dX1_errorPosition_15 ?_
  refine kx_eqi (((tx_pos t : Nat) : Int)) (by unfold tx_pos; split; (rename_i z; rw [tx_all_end hT z]); rfl) ?_
  exact kx_iret (z := ((tx_pos t : Nat) : Int)) hx hb hr hlk (⟨by rfl, by first | assumption | rfl | omega | grind⟩) hS_24 dX1_errorPosition_18

