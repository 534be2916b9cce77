set_option maxHeartbeats 4000000 in
set_option maxRecDepth 100000 in
theorem m_J3_inc (l : Launch) (D : kG) (H : Heap) (i : Nat) (hi : i < 17) : Met l yJ3_inc (ws_ yJ3_inc cJ3_inc 2 (some .int)) ({ frames := 0, cells := 0, slots := 0, locals := 0 } : Room) (kPre D H [.int (kI ((i : Nat) : Int)), .int (kI ((17 : Nat) : Int))]) (kQi (fun (r : Int) H' => H' = H ∧ r = (((i + 1) % 17 : Nat) : Int)) kNO) (0) (0) (kNO) := by
  refine Met.ofW (cc := cJ3_inc) (maxL := 2) (ret := (some .int)) (by decide) rfl ?_
  intro p e s m args below meth c s₁ B hml hv
  obtain ⟨rfl, hH, hK⟩ := hv
  subst hH
  have hx := B.exec
  have hb := B.bytes
  have hr := B.returns
  have hts := atoms_spec (ws := ws_ yJ3_inc cJ3_inc 2 (some .int)) B.pre
  have hts : ∀ w ∈ lw_all, w.before _ s = true := fun w h => hts w (List.mem_cons_of_mem _ h)
  have hown : s.vm.findClass RJ3 = some m.cls := findClass_of_methodNamed B.named
  have hlk := B.notSynchronized
  have hS : va_S kNO s.heap s.heap [] := va_S.rf
  have hB : ∀ q, kNO q → kBase D ≤ q := fun _ h => h.elim
  have hl := lv_entry ([.int (kI ((i : Nat) : Int)), .int (kI ((17 : Nat) : Int))]) (n := 2) (Nat.le_of_ble_eq_true rfl)
  rw [lg_entry_eq]
  generalize (lg_sl ([.int (kI ((i : Nat) : Int)), .int (kI ((17 : Nat) : Int))]) ++ List.replicate (2 - (lg_sl ([.int (kI ((i : Nat) : Int)), .int (kI ((17 : Nat) : Int))])).length) Slot.unset).toArray = ls at hl ⊢
  have hl : lv_has ls 2 [(0, .int (kI ((i : Nat) : Int))), (1, .int (kI ((17 : Nat) : Int)))] := hl
  refine lv_iinc (v := kI (((i + 1 : Nat) : Int))) (lv' := [(0, .int (kI ((i + 1 : Nat) : Int))), (1, .int (kI ((17 : Nat) : Int)))]) hx hb dJ3_inc_0 hl (k := 0) rfl (kI_incN _ _) (by decide) rfl (fun ls hl => ?_)
  refine lv_iload_n hx hb dJ3_inc_3 rfl (lv_at hl 0 rfl) ?_
  refine lv_iload_n hx hb dJ3_inc_4 rfl (lv_at hl 1 rfl) ?_
  refine kx_icmp_lt (x := ((i + 1 : Nat) : Int)) (y := ((17 : Nat) : Int)) (tgt := 10) hx hb dJ3_inc_5 (by decide) (by omega) (by omega) (by omega) (by omega) (fun c_5_1 => ?_) (fun c_5_1 => ?_)
  · -- taken at 5
    refine lv_iload_n hx hb dJ3_inc_10 rfl (lv_at hl 0 rfl) ?_
    exact kx_iret (z := ((i + 1 : Nat) : Int)) hx hb hr hlk (⟨rfl, by omega⟩) hS dJ3_inc_11
  · -- not taken at 5
    refine kx_iconst hx hb dJ3_inc_8 ?_
    refine lv_istore_n (lv' := [(0, .int (kI (0))), (1, .int (kI ((17 : Nat) : Int)))]) hx hb dJ3_inc_9 rfl hl (by decide) rfl (fun ls hl => ?_)
    refine lv_iload_n hx hb dJ3_inc_10 rfl (lv_at hl 0 rfl) ?_
    exact kx_iret (z := 0) hx hb hr hlk (⟨rfl, by omega⟩) hS dJ3_inc_11

set_option maxHeartbeats 4000000 in
set_option maxRecDepth 100000 in
theorem m_J3_dec (l : Launch) (D : kG) (H : Heap) (i : Nat) (hi : i < 17) : Met l yJ3_dec (ws_ yJ3_dec cJ3_dec 2 (some .int)) ({ frames := 0, cells := 0, slots := 0, locals := 0 } : Room) (kPre D H [.int (kI ((i : Nat) : Int)), .int (kI ((17 : Nat) : Int))]) (kQi (fun (r : Int) H' => H' = H ∧ r = (((i + 16) % 17 : Nat) : Int)) kNO) (0) (0) (kNO) := by
  refine Met.ofW (cc := cJ3_dec) (maxL := 2) (ret := (some .int)) (by decide) rfl ?_
  intro p e s m args below meth c s₁ B hml hv
  obtain ⟨rfl, hH, hK⟩ := hv
  subst hH
  have hx := B.exec
  have hb := B.bytes
  have hr := B.returns
  have hts := atoms_spec (ws := ws_ yJ3_dec cJ3_dec 2 (some .int)) B.pre
  have hts : ∀ w ∈ lw_all, w.before _ s = true := fun w h => hts w (List.mem_cons_of_mem _ h)
  have hown : s.vm.findClass RJ3 = some m.cls := findClass_of_methodNamed B.named
  have hlk := B.notSynchronized
  have hS : va_S kNO s.heap s.heap [] := va_S.rf
  have hB : ∀ q, kNO q → kBase D ≤ q := fun _ h => h.elim
  have hl := lv_entry ([.int (kI ((i : Nat) : Int)), .int (kI ((17 : Nat) : Int))]) (n := 2) (Nat.le_of_ble_eq_true rfl)
  rw [lg_entry_eq]
  generalize (lg_sl ([.int (kI ((i : Nat) : Int)), .int (kI ((17 : Nat) : Int))]) ++ List.replicate (2 - (lg_sl ([.int (kI ((i : Nat) : Int)), .int (kI ((17 : Nat) : Int))])).length) Slot.unset).toArray = ls at hl ⊢
  have hl : lv_has ls 2 [(0, .int (kI ((i : Nat) : Int))), (1, .int (kI ((17 : Nat) : Int)))] := hl
  refine lv_iinc (v := kI ((((i : Nat) : Int) + (-1)))) (lv' := [(0, .int (kI ((((i : Nat) : Int) + (-1))))), (1, .int (kI ((17 : Nat) : Int)))]) hx hb dJ3_dec_0 hl (k := 0) rfl (kI_inc _ _) (by decide) rfl (fun ls hl => ?_)
  refine lv_iload_n hx hb dJ3_dec_3 rfl (lv_at hl 0 rfl) ?_
  refine kx_if_ge (x := (((i : Nat) : Int) + (-1))) (tgt := 11) hx hb dJ3_dec_4 (by decide) (by omega) (by omega) (fun c_4_1 => ?_) (fun c_4_1 => ?_)
  · -- taken at 4
    refine lv_iload_n hx hb dJ3_dec_11 rfl (lv_at hl 0 rfl) ?_
    exact kx_iret (z := (((i : Nat) : Int) + (-1))) hx hb hr hlk (⟨rfl, by omega⟩) hS dJ3_dec_12
  · -- not taken at 4
    refine lv_iload_n hx hb dJ3_dec_7 rfl (lv_at hl 1 rfl) ?_
    refine kx_iconst hx hb dJ3_dec_8 ?_
    refine kx_isub hx hb dJ3_dec_9 ?_
    refine lv_istore_n (lv' := [(0, .int (kI ((((17 : Nat) : Int) - 1)))), (1, .int (kI ((17 : Nat) : Int)))]) hx hb dJ3_dec_10 rfl hl (by decide) rfl (fun ls hl => ?_)
    refine lv_iload_n hx hb dJ3_dec_11 rfl (lv_at hl 0 rfl) ?_
    exact kx_iret (z := (((17 : Nat) : Int) - 1)) hx hb hr hlk (⟨rfl, by omega⟩) hS dJ3_dec_12

set_option maxHeartbeats 4000000 in
set_option maxRecDepth 100000 in
theorem m_J3_sub (l : Launch) (D : kG) (H : Heap) (t : Nat) (h : Nat) (hh : h < 17) (ht : t < 17) : Met l yJ3_sub (ws_ yJ3_sub cJ3_sub 3 (some .int)) ({ frames := 0, cells := 0, slots := 0, locals := 0 } : Room) (kPre D H [.int (kI ((t : Nat) : Int)), .int (kI ((h : Nat) : Int)), .int (kI ((17 : Nat) : Int))]) (kQi (fun (r : Int) H' => H' = H ∧ r = (((t + 17 - h) % 17 : Nat) : Int)) kNO) (0) (0) (kNO) := by
  refine Met.ofW (cc := cJ3_sub) (maxL := 3) (ret := (some .int)) (by decide) rfl ?_
  intro p e s m args below meth c s₁ B hml hv
  obtain ⟨rfl, hH, hK⟩ := hv
  subst hH
  have hx := B.exec
  have hb := B.bytes
  have hr := B.returns
  have hts := atoms_spec (ws := ws_ yJ3_sub cJ3_sub 3 (some .int)) B.pre
  have hts : ∀ w ∈ lw_all, w.before _ s = true := fun w h => hts w (List.mem_cons_of_mem _ h)
  have hown : s.vm.findClass RJ3 = some m.cls := findClass_of_methodNamed B.named
  have hlk := B.notSynchronized
  have hS : va_S kNO s.heap s.heap [] := va_S.rf
  have hB : ∀ q, kNO q → kBase D ≤ q := fun _ h => h.elim
  have hl := lv_entry ([.int (kI ((t : Nat) : Int)), .int (kI ((h : Nat) : Int)), .int (kI ((17 : Nat) : Int))]) (n := 3) (Nat.le_of_ble_eq_true rfl)
  rw [lg_entry_eq]
  generalize (lg_sl ([.int (kI ((t : Nat) : Int)), .int (kI ((h : Nat) : Int)), .int (kI ((17 : Nat) : Int))]) ++ List.replicate (3 - (lg_sl ([.int (kI ((t : Nat) : Int)), .int (kI ((h : Nat) : Int)), .int (kI ((17 : Nat) : Int))])).length) Slot.unset).toArray = ls at hl ⊢
  have hl : lv_has ls 3 [(0, .int (kI ((t : Nat) : Int))), (1, .int (kI ((h : Nat) : Int))), (2, .int (kI ((17 : Nat) : Int)))] := hl
  refine lv_iload_n hx hb dJ3_sub_0 rfl (lv_at hl 0 rfl) ?_
  refine lv_iload_n hx hb dJ3_sub_1 rfl (lv_at hl 1 rfl) ?_
  refine kx_isub hx hb dJ3_sub_2 ?_
  refine lv_dup hx hb dJ3_sub_3 rfl ?_
  refine lv_istore_n (lv' := [(0, .int (kI ((((t : Nat) : Int) - ((h : Nat) : Int))))), (1, .int (kI ((h : Nat) : Int))), (2, .int (kI ((17 : Nat) : Int)))]) hx hb dJ3_sub_4 rfl hl (by decide) rfl (fun ls hl => ?_)
  refine kx_if_ge (x := (((t : Nat) : Int) - ((h : Nat) : Int))) (tgt := 12) hx hb dJ3_sub_5 (by decide) (by omega) (by omega) (fun c_5_1 => ?_) (fun c_5_1 => ?_)
  · -- taken at 5
    refine lv_iload_n hx hb dJ3_sub_12 rfl (lv_at hl 0 rfl) ?_
    exact kx_iret (z := (((t : Nat) : Int) - ((h : Nat) : Int))) hx hb hr hlk (⟨rfl, by omega⟩) hS dJ3_sub_13
  · -- not taken at 5
    refine lv_iload_n hx hb dJ3_sub_8 rfl (lv_at hl 0 rfl) ?_
    refine lv_iload_n hx hb dJ3_sub_9 rfl (lv_at hl 2 rfl) ?_
    refine kx_iadd hx hb dJ3_sub_10 ?_
    refine lv_istore_n (lv' := [(0, .int (kI (((((t : Nat) : Int) - ((h : Nat) : Int)) + ((17 : Nat) : Int))))), (1, .int (kI ((h : Nat) : Int))), (2, .int (kI ((17 : Nat) : Int)))]) hx hb dJ3_sub_11 rfl hl (by decide) rfl (fun ls hl => ?_)
    refine lv_iload_n hx hb dJ3_sub_12 rfl (lv_at hl 0 rfl) ?_
    exact kx_iret (z := ((((t : Nat) : Int) - ((h : Nat) : Int)) + ((17 : Nat) : Int))) hx hb hr hlk (⟨rfl, by omega⟩) hS dJ3_sub_13

set_option maxHeartbeats 4000000 in
set_option maxRecDepth 100000 in
theorem m_J3_size (l : Launch) (D : kG) (H : Heap) (dq : Nat) (es : Nat) (h : Nat) (t : Nat) (g : Nat → Option Nat) (hO_dq : kO D H dq 10 [.ref es, .int (kI ((h : Nat) : Int)), .int (kI ((t : Nat) : Int))]) (hA_es : kAq D H es 4 17 g) (hh : h < 17) (ht : t < 17) : Met l yJ3_size (ws_ yJ3_size cJ3_size 1 (some .int)) ({ frames := 1, cells := 0, slots := 0, locals := 22 } : Room) (kPre D H [.ref dq]) (kQi (fun (r : Int) H' => H' = H ∧ r = (((t + 17 - h) % 17 : Nat) : Int)) kNO) (0) (0) (kNO) := by
  refine Met.ofW (cc := cJ3_size) (maxL := 1) (ret := (some .int)) (by decide) rfl ?_
  intro p e s m args below meth c s₁ B hml hv
  obtain ⟨rfl, hH, hK⟩ := hv
  subst hH
  have hx := B.exec
  have hb := B.bytes
  have hr := B.returns
  have hts := atoms_spec (ws := ws_ yJ3_size cJ3_size 1 (some .int)) B.pre
  have hts : ∀ w ∈ lw_all, w.before _ s = true := fun w h => hts w (List.mem_cons_of_mem _ h)
  have hown : s.vm.findClass RJ3 = some m.cls := findClass_of_methodNamed B.named
  have hlk := B.notSynchronized
  have hS : va_S kNO s.heap s.heap [] := va_S.rf
  have hB : ∀ q, kNO q → kBase D ≤ q := fun _ h => h.elim
  have hl := lv_entry ([.ref dq]) (n := 1) (Nat.le_of_ble_eq_true rfl)
  rw [lg_entry_eq]
  generalize (lg_sl ([.ref dq]) ++ List.replicate (1 - (lg_sl ([.ref dq])).length) Slot.unset).toArray = ls at hl ⊢
  have hl : lv_has ls 1 [(0, .ref dq)] := hl
  refine lv_aload_n hx hb dJ3_size_0 rfl (lv_at hl 0 rfl) ?_
  refine kx_get (v := .int (kI ((t : Nat) : Int))) (C := RJ3) (T := TJ3) (N := 3) hx hb hts in_J3 hown hK hO_dq rfl 2 (by decide) q188 (fun _ h9 => h9) rfl dJ3_size_1 ?_
  refine lv_aload_n hx hb dJ3_size_4 rfl (lv_at hl 0 rfl) ?_
  refine kx_get (v := .int (kI ((h : Nat) : Int))) (C := RJ3) (T := TJ3) (N := 3) hx hb hts in_J3 hown hK hO_dq rfl 1 (by decide) q187 (fun _ h9 => h9) rfl dJ3_size_5 ?_
  refine lv_aload_n hx hb dJ3_size_8 rfl (lv_at hl 0 rfl) ?_
  refine kx_get (v := .ref es) (C := RJ3) (T := TJ3) (N := 3) hx hb hts in_J3 hown hK hO_dq rfl 0 (by decide) q186 (fun _ h9 => h9) rfl dJ3_size_9 ?_
  refine kx_alen hx hb hK hA_es rfl dJ3_size_12 ?_
  refine kx_ci0 (va_runS (As := [.int (kI ((t : Nat) : Int)), .int (kI ((h : Nat) : Int)), .int (kI ((17 : Nat) : Int))]) (rest := []) ⟨hx, hb, hml, hown, hts⟩ (m_J3_sub l D s.heap t h  (by first | assumption | omega) (by first | assumption | omega)) (va_cwS 3 hts (lw_S q255 q256 q84 q257) rfl rfl rfl (by decide +kernel) ⟨Nat.le_of_ble_eq_true rfl, Nat.le_of_ble_eq_true rfl⟩) (kx_ps hK hS hB) rfl rfl hl.1 rfl (lv_room (Nat.le_of_ble_eq_true rfl)) dJ3_size_13 ⟨by first | exact Nat.le_of_ble_eq_true rfl | omega | (show _ ≤ _; omega) | (dsimp only [headSpec]; omega), by first | exact Nat.le_of_ble_eq_true rfl | omega | (show _ ≤ _; omega) | (dsimp only [headSpec]; omega)⟩) hS (fun z_4 locs_1 hz_3 hS_2 => ?_)
  subst z_4
  exact kx_iret (z := (((t + 17 - h) % 17 : Nat) : Int)) hx hb hr hlk (⟨rfl, by rfl⟩) hS_2 dJ3_size_16

set_option maxHeartbeats 4000000 in
set_option maxRecDepth 100000 in
theorem m_J3_isEmpty (l : Launch) (D : kG) (H : Heap) (dq : Nat) (es : Nat) (h : Nat) (t : Nat) (hO_dq : kO D H dq 10 [.ref es, .int (kI ((h : Nat) : Int)), .int (kI ((t : Nat) : Int))]) (hh : h < 17) (ht : t < 17) : Met l yJ3_isEmpty (ws_ yJ3_isEmpty cJ3_isEmpty 1 (some .boolean)) ({ frames := 0, cells := 0, slots := 0, locals := 0 } : Room) (kPre D H [.ref dq]) (kQb (fun (r : Bool) H' => H' = H ∧ r = decide (h = t)) kNO) (0) (0) (kNO) := by
  refine Met.ofW (cc := cJ3_isEmpty) (maxL := 1) (ret := (some .boolean)) (by decide) rfl ?_
  intro p e s m args below meth c s₁ B hml hv
  obtain ⟨rfl, hH, hK⟩ := hv
  subst hH
  have hx := B.exec
  have hb := B.bytes
  have hr := B.returns
  have hts := atoms_spec (ws := ws_ yJ3_isEmpty cJ3_isEmpty 1 (some .boolean)) B.pre
  have hts : ∀ w ∈ lw_all, w.before _ s = true := fun w h => hts w (List.mem_cons_of_mem _ h)
  have hown : s.vm.findClass RJ3 = some m.cls := findClass_of_methodNamed B.named
  have hlk := B.notSynchronized
  have hS : va_S kNO s.heap s.heap [] := va_S.rf
  have hB : ∀ q, kNO q → kBase D ≤ q := fun _ h => h.elim
  have hl := lv_entry ([.ref dq]) (n := 1) (Nat.le_of_ble_eq_true rfl)
  rw [lg_entry_eq]
  generalize (lg_sl ([.ref dq]) ++ List.replicate (1 - (lg_sl ([.ref dq])).length) Slot.unset).toArray = ls at hl ⊢
  have hl : lv_has ls 1 [(0, .ref dq)] := hl
  refine lv_aload_n hx hb dJ3_isEmpty_0 rfl (lv_at hl 0 rfl) ?_
  refine kx_get (v := .int (kI ((h : Nat) : Int))) (C := RJ3) (T := TJ3) (N := 3) hx hb hts in_J3 hown hK hO_dq rfl 1 (by decide) q187 (fun _ h9 => h9) rfl dJ3_isEmpty_1 ?_
  refine lv_aload_n hx hb dJ3_isEmpty_4 rfl (lv_at hl 0 rfl) ?_
  refine kx_get (v := .int (kI ((t : Nat) : Int))) (C := RJ3) (T := TJ3) (N := 3) hx hb hts in_J3 hown hK hO_dq rfl 2 (by decide) q188 (fun _ h9 => h9) rfl dJ3_isEmpty_5 ?_
  refine kx_icmp_ne (x := ((h : Nat) : Int)) (y := ((t : Nat) : Int)) (tgt := 15) hx hb dJ3_isEmpty_8 (by decide) (by omega) (by omega) (by omega) (by omega) (fun c_8_1 => ?_) (fun c_8_1 => ?_)
  · -- taken at 8
    refine kx_iconst hx hb dJ3_isEmpty_15 ?_
    exact kx_zret (z := false) hx hb hr hlk (⟨rfl, by first | rfl | exact (decide_eq_true (by omega)).symm | exact (decide_eq_false (by omega)).symm | grind⟩) hS dJ3_isEmpty_16
  · -- not taken at 8
    refine kx_iconst hx hb dJ3_isEmpty_11 ?_
    refine lv_goto (tgt := 16) hx hb dJ3_isEmpty_12 (by decide) ?_
    exact kx_zret (z := true) hx hb hr hlk (⟨rfl, by first | rfl | exact (decide_eq_true (by omega)).symm | exact (decide_eq_false (by omega)).symm | grind⟩) hS dJ3_isEmpty_16

set_option maxHeartbeats 4000000 in
set_option maxRecDepth 100000 in
theorem m_J3_init (l : Launch) (D : kG) (H : Heap) (dq : Nat) (hO_dq : kO D H dq 10 [.null, .int (kI (0)), .int (kI (0))]) (bs_dq : kBase D ≤ dq) : Met l yJ3_init (ws_ yJ3_init cJ3_init 1 none) ({ frames := 2, cells := 1, slots := 17, locals := 40 } : Room) (kPre D H [.ref dq]) (kQv (fun H' => ∃ (es : Nat), (kO D H' dq 10 [.ref es, .int (kI (0)), .int (kI (0))]) ∧ (kAq D H' es 4 17 ((fun _ => none))) ∧ (H.size ≤ es)) (fun q : Nat => q = dq ∨ H.size ≤ q)) (1) (17) ((fun q : Nat => q = dq ∨ H.size ≤ q)) := by
  refine Met.ofW (cc := cJ3_init) (maxL := 1) (ret := none) (by decide) rfl ?_
  intro p e s m args below meth c s₁ B hml hv
  obtain ⟨rfl, hH, hK⟩ := hv
  subst hH
  have hx := B.exec
  have hb := B.bytes
  have hr := B.returns
  have hts := atoms_spec (ws := ws_ yJ3_init cJ3_init 1 none) B.pre
  have hts : ∀ w ∈ lw_all, w.before _ s = true := fun w h => hts w (List.mem_cons_of_mem _ h)
  have hown : s.vm.findClass RJ3 = some m.cls := findClass_of_methodNamed B.named
  have hlk := B.notSynchronized
  have hin : meth.name = "<init>" := (name_of_methodNamed B.named B.method).1
  have hS : va_S (fun q : Nat => q = dq ∨ s.heap.size ≤ q) s.heap s.heap [] := va_S.rf
  have hB : ∀ q, (fun q : Nat => q = dq ∨ s.heap.size ≤ q) q → kBase D ≤ q := fun q h => by (try dsimp only at h); (try simp only [kNW] at h); have hks := hK.size; omega
  have hl := lv_entry ([.ref dq]) (n := 1) (Nat.le_of_ble_eq_true rfl)
  rw [lg_entry_eq]
  generalize (lg_sl ([.ref dq]) ++ List.replicate (1 - (lg_sl ([.ref dq])).length) Slot.unset).toArray = ls at hl ⊢
  have hl : lv_has ls 1 [(0, .ref dq)] := hl
  have hlt0 := hO_dq.lt
  refine lv_aload_n hx hb dJ3_init_0 rfl (lv_at hl 0 rfl) ?_
  refine kx_cv0 (va_runI (As := []) (rest := []) ⟨hx, hb, hml, hown, hts⟩ (m_J0_init l D s.heap dq  ) (cwI 0 hts (lw_meth q151) rfl rfl rfl (hts _ q81) (hts _ q183) (hts _ q150) rfl (by decide +kernel) ⟨Nat.le_of_ble_eq_true rfl, Nat.le_of_ble_eq_true rfl⟩) (kx_ps hK hS hB) rfl rfl hl.1 rfl (lv_room (Nat.le_of_ble_eq_true rfl)) dJ3_init_1 ⟨by first | exact Nat.le_of_ble_eq_true rfl | omega | (show _ ≤ _; omega) | (dsimp only [headSpec]; omega), by first | exact Nat.le_of_ble_eq_true rfl | omega | (show _ ≤ _; omega) | (dsimp only [headSpec]; omega)⟩) hS (fun locs_1 hz_3 hS_2 => ?_)
  refine lv_aload_n hx hb dJ3_init_4 rfl (lv_at hl 0 rfl) ?_
  refine kx_bipush hx hb (by decide) dJ3_init_5 ?_
  refine kx_eqi (((17 : Nat) : Int)) (by decide) ?_
  refine kx_anew (t := 4) (N' := 17) hx hb hts hown q184 hK (by decide) rfl hS_2 (by first | rfl | omega) (by omega) (by first | exact Nat.le_of_ble_eq_true rfl | omega | (show _ ≤ _; omega) | (dsimp only [headSpec]; omega)) (by first | exact Nat.le_of_ble_eq_true rfl | omega | (show _ ≤ _; omega) | (dsimp only [headSpec]; omega)) dJ3_init_7 (fun na_5 H_6 hq_7 hz_8 hA_9 hE_10 hS_11 => ?_)
  have hge_na_5 : s.heap.size ≤ na_5 := by rw [hq_7]; exact hS_2.1
  refine W.widen (k := 1) (n := 17) (Nat.le_of_ble_eq_true rfl) (Nat.le_of_ble_eq_true rfl) ?_
  have h_12 := hO_dq.ex hE_10
  refine kx_put (v := .ref na_5) (C := RJ3) (T := TJ3) (N := 3) hx hb hts in_J3 hown hK h_12 rfl 0 (by decide) tyJ3 tyJ3_ok nmJ3 hS_11 (by first | rfl | exact Or.inl rfl | exact Or.inr rfl | exact Or.inr (Or.inl rfl) | exact Or.inr (Or.inr rfl) | exact Or.inr (Or.inr (Or.inl rfl)) | exact Or.inr (Or.inr (Or.inr rfl)) | ((try dsimp only); (try simp only [kNW]); omega)) q186 (fun _ h9 => h9) rfl rfl rfl rfl (Nat.le_of_ble_eq_true rfl) dJ3_init_10 (fun H_15 locs_16 hO_14 hU_13 hS_17 => ?_)
  have hO_14 : kO D H_15 dq 10 [.ref na_5, .int (kI (0)), .int (kI (0))] := hO_14
  have hzu_18 := hU_13.1
  have h_19 := hA_9.up hU_13 (by first | assumption | exact Ne.symm (by assumption) | omega | (have h9 := hA_9.lt; omega))
  exact kx_vret hx hb hr hlk (⟨na_5, hO_14, h_19, by first | assumption | rfl | omega | grind⟩) hS_17 dJ3_init_13

set_option maxHeartbeats 4000000 in
set_option maxRecDepth 100000 in
theorem m_J3_elementAt (l : Launch) (D : kG) (H : Heap) (es : Nat) (g : Nat → Option Nat) (i : Nat) (b : Nat) (hA_es : kAq D H es 4 17 g) (hi : i < 17) (hg : g i = some b) : Met l yJ3_elementAt (ws_ yJ3_elementAt cJ3_elementAt 2 (some (.object "java/lang/Object"))) ({ frames := 0, cells := 0, slots := 0, locals := 0 } : Room) (kPre D H [.ref es, .int (kI ((i : Nat) : Int))]) (kQr (fun (r : Nat) H' => H' = H ∧ r = b) kNO) (0) (0) (kNO) := by
  refine Met.ofW (cc := cJ3_elementAt) (maxL := 2) (ret := (some (.object "java/lang/Object"))) (by decide) rfl ?_
  intro p e s m args below meth c s₁ B hml hv
  obtain ⟨rfl, hH, hK⟩ := hv
  subst hH
  have hx := B.exec
  have hb := B.bytes
  have hr := B.returns
  have hts := atoms_spec (ws := ws_ yJ3_elementAt cJ3_elementAt 2 (some (.object "java/lang/Object"))) B.pre
  have hts : ∀ w ∈ lw_all, w.before _ s = true := fun w h => hts w (List.mem_cons_of_mem _ h)
  have hown : s.vm.findClass RJ3 = some m.cls := findClass_of_methodNamed B.named
  have hlk := B.notSynchronized
  have hS : va_S kNO s.heap s.heap [] := va_S.rf
  have hB : ∀ q, kNO q → kBase D ≤ q := fun _ h => h.elim
  have hl := lv_entry ([.ref es, .int (kI ((i : Nat) : Int))]) (n := 2) (Nat.le_of_ble_eq_true rfl)
  rw [lg_entry_eq]
  generalize (lg_sl ([.ref es, .int (kI ((i : Nat) : Int))]) ++ List.replicate (2 - (lg_sl ([.ref es, .int (kI ((i : Nat) : Int))])).length) Slot.unset).toArray = ls at hl ⊢
  have hl : lv_has ls 2 [(0, .ref es), (1, .int (kI ((i : Nat) : Int)))] := hl
  refine lv_aload_n hx hb dJ3_elementAt_0 rfl (lv_at hl 0 rfl) ?_
  refine lv_iload_n hx hb dJ3_elementAt_1 rfl (lv_at hl 1 rfl) ?_
  refine kx_aald hx hb hK (t := 4) rfl hA_es i (rfl) (by omega) (by omega) dJ3_elementAt_2 ?_
  refine kx_eqq hx hb (b := b) (hg) ?_
  exact kx_aret (z := b) hx hb hr (by first | exact Or.inl ⟨_, rfl⟩ | exact Or.inr ⟨_, rfl⟩) hlk (⟨rfl, by rfl⟩) hS dJ3_elementAt_3

set_option maxHeartbeats 4000000 in
set_option maxRecDepth 100000 in
theorem m_J3_addLast (l : Launch) (D : kG) (H : Heap) (dq : Nat) (es : Nat) (h : Nat) (t : Nat) (g : Nat → Option Nat) (v : Nat) (vfs : List Value) (hO_dq : kO D H dq 10 [.ref es, .int (kI ((h : Nat) : Int)), .int (kI ((t : Nat) : Int))]) (hA_es : kAq D H es 4 17 g) (hO_v : kO D H v 1 vfs) (hh : h < 17) (ht : t < 17) (ne_dq_es : dq ≠ es) (bs_dq : kBase D ≤ dq) (bs_es : kBase D ≤ es) (hroom : (t + 1) % 17 ≠ h) : Met l yJ3_addLast (ws_ yJ3_addLast cJ3_addLast 3 none) ({ frames := 1, cells := 0, slots := 0, locals := 21 } : Room) (kPre D H [.ref dq, .ref v]) (kQv (fun H' => (kO D H' dq 10 [.ref es, .int (kI ((h : Nat) : Int)), .int (kI (((t + 1) % 17 : Nat) : Int))]) ∧ (kAq D H' es 4 17 (kupq g t (some v)))) (fun q : Nat => q = dq ∨ q = es)) (0) (0) ((fun q : Nat => q = dq ∨ q = es)) := by
  refine Met.ofW (cc := cJ3_addLast) (maxL := 3) (ret := none) (by decide) rfl ?_
  intro p e s m args below meth c s₁ B hml hv
  obtain ⟨rfl, hH, hK⟩ := hv
  subst hH
  have hx := B.exec
  have hb := B.bytes
  have hr := B.returns
  have hts := atoms_spec (ws := ws_ yJ3_addLast cJ3_addLast 3 none) B.pre
  have hts : ∀ w ∈ lw_all, w.before _ s = true := fun w h => hts w (List.mem_cons_of_mem _ h)
  have hown : s.vm.findClass RJ3 = some m.cls := findClass_of_methodNamed B.named
  have hlk := B.notSynchronized
  have hS : va_S (fun q : Nat => q = dq ∨ q = es) s.heap s.heap [] := va_S.rf
  have hB : ∀ q, (fun q : Nat => q = dq ∨ q = es) q → kBase D ≤ q := fun q h => by (try dsimp only at h); (try simp only [kNW] at h); have hks := hK.size; omega
  have hl := lv_entry ([.ref dq, .ref v]) (n := 3) (Nat.le_of_ble_eq_true rfl)
  rw [lg_entry_eq]
  generalize (lg_sl ([.ref dq, .ref v]) ++ List.replicate (3 - (lg_sl ([.ref dq, .ref v])).length) Slot.unset).toArray = ls at hl ⊢
  have hl : lv_has ls 3 [(0, .ref dq), (1, .ref v)] := hl
  refine lv_aload_n hx hb dJ3_addLast_0 rfl (lv_at hl 1 rfl) ?_
  refine lv_ifnonnull (tgt := 12) hx hb dJ3_addLast_1 (by decide) ?_
  refine lv_aload_n hx hb dJ3_addLast_12 rfl (lv_at hl 0 rfl) ?_
  refine kx_get (v := .ref es) (C := RJ3) (T := TJ3) (N := 3) hx hb hts in_J3 hown hK hO_dq rfl 0 (by decide) q186 (fun _ h9 => h9) rfl dJ3_addLast_13 ?_
  refine lv_astore_n (lv' := [(2, .ref es), (0, .ref dq), (1, .ref v)]) hx hb dJ3_addLast_16 rfl hl (by decide) rfl (fun ls hl => ?_)
  refine lv_aload_n hx hb dJ3_addLast_17 rfl (lv_at hl 0 rfl) ?_
  refine lv_aload_n hx hb dJ3_addLast_18 rfl (lv_at hl 1 rfl) ?_
  refine kx_get (v := .int (kI ((t : Nat) : Int))) (C := RJ3) (T := TJ3) (N := 3) hx hb hts in_J3 hown hK hO_dq rfl 2 (by decide) q188 (fun _ h9 => h9) rfl dJ3_addLast_19 ?_
  refine lv_aload_n hx hb dJ3_addLast_22 rfl (lv_at hl 2 rfl) ?_
  refine kx_aast hx hb hK (t := 4) rfl hA_es hS (by first | rfl | exact Or.inl rfl | exact Or.inr rfl | exact Or.inr (Or.inl rfl) | exact Or.inr (Or.inr rfl) | exact Or.inr (Or.inr (Or.inl rfl)) | exact Or.inr (Or.inr (Or.inr rfl)) | ((try dsimp only); (try simp only [kNW]); omega)) t (rfl) (by omega) (by omega) (kx_rc hK hO_v (C := RX2) (T := TX2) (N := 2) rfl) (vb_asgC (hK.w q2668 rfl)) dJ3_addLast_23 (fun H_3 locs_4 hA_2 hU_1 hS_5 => ?_)
  have hzu_6 := hU_1.1
  refine lv_aload_n hx hb dJ3_addLast_24 rfl (lv_at hl 1 rfl) ?_
  have h_7 := hO_dq.up hU_1 (by first | assumption | exact Ne.symm (by assumption) | omega | (have h9 := hO_dq.lt; omega))
  refine kx_get (v := .int (kI ((h : Nat) : Int))) (C := RJ3) (T := TJ3) (N := 3) hx hb hts in_J3 hown hK h_7 rfl 1 (by decide) q187 (fun _ h9 => h9) rfl dJ3_addLast_25 ?_
  refine lv_aload_n hx hb dJ3_addLast_28 rfl (lv_at hl 1 rfl) ?_
  refine lv_aload_n hx hb dJ3_addLast_29 rfl (lv_at hl 1 rfl) ?_
  refine kx_get (v := .int (kI ((t : Nat) : Int))) (C := RJ3) (T := TJ3) (N := 3) hx hb hts in_J3 hown hK h_7 rfl 2 (by decide) q188 (fun _ h9 => h9) rfl dJ3_addLast_30 ?_
  refine lv_aload_n hx hb dJ3_addLast_33 rfl (lv_at hl 0 rfl) ?_
  refine kx_alen hx hb hK hA_2 rfl dJ3_addLast_34 ?_
  refine kx_ci0 (va_runS (As := [.int (kI ((t : Nat) : Int)), .int (kI ((17 : Nat) : Int))]) (rest := [.ref dq, .int (kI ((h : Nat) : Int))]) ⟨hx, hb, hml, hown, hts⟩ (m_J3_inc l D H_3 t  (by first | assumption | omega)) (va_cwS 2 hts (lw_S q269 q270 q84 q271) rfl rfl rfl (by decide +kernel) ⟨Nat.le_of_ble_eq_true rfl, Nat.le_of_ble_eq_true rfl⟩) (kx_ps hK hS_5 hB) rfl rfl hl.1 rfl (lv_room (Nat.le_of_ble_eq_true rfl)) dJ3_addLast_35 ⟨by first | exact Nat.le_of_ble_eq_true rfl | omega | (show _ ≤ _; omega) | (dsimp only [headSpec]; omega), by first | exact Nat.le_of_ble_eq_true rfl | omega | (show _ ≤ _; omega) | (dsimp only [headSpec]; omega)⟩) hS_5 (fun z_11 locs_8 hz_10 hS_9 => ?_)
  subst z_11
  refine lv_dup_x1 hx hb dJ3_addLast_38 rfl rfl ?_
  refine kx_put (v := .int (kI (((t + 1) % 17 : Nat) : Int))) (C := RJ3) (T := TJ3) (N := 3) hx hb hts in_J3 hown hK h_7 rfl 2 (by decide) tyJ3 tyJ3_ok nmJ3 hS_9 (by first | rfl | exact Or.inl rfl | exact Or.inr rfl | exact Or.inr (Or.inl rfl) | exact Or.inr (Or.inr rfl) | exact Or.inr (Or.inr (Or.inl rfl)) | exact Or.inr (Or.inr (Or.inr rfl)) | ((try dsimp only); (try simp only [kNW]); omega)) q188 (fun _ h9 => h9) rfl rfl rfl rfl (Nat.le_of_ble_eq_true rfl) dJ3_addLast_39 (fun H_14 locs_15 hO_13 hU_12 hS_16 => ?_)
  have hO_13 : kO D H_14 dq 10 [.ref es, .int (kI ((h : Nat) : Int)), .int (kI (((t + 1) % 17 : Nat) : Int))] := hO_13
  have hzu_17 := hU_12.1
  refine kx_icmp_ne (x := ((h : Nat) : Int)) (y := (((t + 1) % 17 : Nat) : Int)) (tgt := 50) hx hb dJ3_addLast_42 (by decide) (by omega) (by omega) (by omega) (by omega) (fun c_42_18 => ?_) (fun c_42_18 => ?_)
  · -- taken at 42
    have h_19 := hA_2.up hU_12 (by first | assumption | exact Ne.symm (by assumption) | omega | (have h9 := hA_2.lt; omega))
    exact kx_vret hx hb hr hlk (⟨hO_13, h_19⟩) hS_16 dJ3_addLast_50
  · -- not taken at 42
    exfalso; omega

set_option maxHeartbeats 4000000 in
set_option maxRecDepth 100000 in
theorem m_J3_pollFirst (l : Launch) (D : kG) (H : Heap) (dq : Nat) (es : Nat) (h : Nat) (t : Nat) (g : Nat → Option Nat) (b : Nat) (hO_dq : kO D H dq 10 [.ref es, .int (kI ((h : Nat) : Int)), .int (kI ((t : Nat) : Int))]) (hA_es : kAq D H es 4 17 g) (hh : h < 17) (ht : t < 17) (ne_dq_es : dq ≠ es) (bs_dq : kBase D ≤ dq) (bs_es : kBase D ≤ es) (hg : g h = some b) : Met l yJ3_pollFirst (ws_ yJ3_pollFirst cJ3_pollFirst 4 (some (.object "java/lang/Object"))) ({ frames := 1, cells := 0, slots := 0, locals := 21 } : Room) (kPre D H [.ref dq]) (kQr (fun (r : Nat) H' => (r = b) ∧ (kO D H' dq 10 [.ref es, .int (kI (((h + 1) % 17 : Nat) : Int)), .int (kI ((t : Nat) : Int))]) ∧ (kAq D H' es 4 17 (kupq g h none))) (fun q : Nat => q = dq ∨ q = es)) (0) (0) ((fun q : Nat => q = dq ∨ q = es)) := by
  refine Met.ofW (cc := cJ3_pollFirst) (maxL := 4) (ret := (some (.object "java/lang/Object"))) (by decide) rfl ?_
  intro p e s m args below meth c s₁ B hml hv
  obtain ⟨rfl, hH, hK⟩ := hv
  subst hH
  have hx := B.exec
  have hb := B.bytes
  have hr := B.returns
  have hts := atoms_spec (ws := ws_ yJ3_pollFirst cJ3_pollFirst 4 (some (.object "java/lang/Object"))) B.pre
  have hts : ∀ w ∈ lw_all, w.before _ s = true := fun w h => hts w (List.mem_cons_of_mem _ h)
  have hown : s.vm.findClass RJ3 = some m.cls := findClass_of_methodNamed B.named
  have hlk := B.notSynchronized
  have hS : va_S (fun q : Nat => q = dq ∨ q = es) s.heap s.heap [] := va_S.rf
  have hB : ∀ q, (fun q : Nat => q = dq ∨ q = es) q → kBase D ≤ q := fun q h => by (try dsimp only at h); (try simp only [kNW] at h); have hks := hK.size; omega
  have hl := lv_entry ([.ref dq]) (n := 4) (Nat.le_of_ble_eq_true rfl)
  rw [lg_entry_eq]
  generalize (lg_sl ([.ref dq]) ++ List.replicate (4 - (lg_sl ([.ref dq])).length) Slot.unset).toArray = ls at hl ⊢
  have hl : lv_has ls 4 [(0, .ref dq)] := hl
  refine lv_aload_n hx hb dJ3_pollFirst_0 rfl (lv_at hl 0 rfl) ?_
  refine kx_get (v := .ref es) (C := RJ3) (T := TJ3) (N := 3) hx hb hts in_J3 hown hK hO_dq rfl 0 (by decide) q186 (fun _ h9 => h9) rfl dJ3_pollFirst_1 ?_
  refine lv_dup hx hb dJ3_pollFirst_4 rfl ?_
  refine lv_astore_n (lv' := [(1, .ref es), (0, .ref dq)]) hx hb dJ3_pollFirst_5 rfl hl (by decide) rfl (fun ls hl => ?_)
  refine lv_aload_n hx hb dJ3_pollFirst_6 rfl (lv_at hl 1 rfl) ?_
  refine kx_get (v := .int (kI ((h : Nat) : Int))) (C := RJ3) (T := TJ3) (N := 3) hx hb hts in_J3 hown hK hO_dq rfl 1 (by decide) q187 (fun _ h9 => h9) rfl dJ3_pollFirst_7 ?_
  refine lv_dup hx hb dJ3_pollFirst_10 rfl ?_
  refine lv_istore_n (lv' := [(2, .int (kI ((h : Nat) : Int))), (1, .ref es), (0, .ref dq)]) hx hb dJ3_pollFirst_11 rfl hl (by decide) rfl (fun ls hl => ?_)
  refine kx_cr0 (va_runS (As := [.ref es, .int (kI ((h : Nat) : Int))]) (rest := []) ⟨hx, hb, hml, hown, hts⟩ (m_J3_elementAt l D s.heap es g h b hA_es (by first | assumption | omega) (by first | assumption | omega)) (va_cwS 2 hts (lw_S q266 q267 q84 q268) rfl rfl rfl (by decide +kernel) ⟨Nat.le_of_ble_eq_true rfl, Nat.le_of_ble_eq_true rfl⟩) (kx_ps hK hS hB) rfl rfl hl.1 rfl (lv_room (Nat.le_of_ble_eq_true rfl)) dJ3_pollFirst_12 ⟨by first | exact Nat.le_of_ble_eq_true rfl | omega | (show _ ≤ _; omega) | (dsimp only [headSpec]; omega), by first | exact Nat.le_of_ble_eq_true rfl | omega | (show _ ≤ _; omega) | (dsimp only [headSpec]; omega)⟩) hS (fun z_4 locs_1 hz_3 hS_2 => ?_)
  subst z_4
  refine lv_astore_n (lv' := [(3, .ref b), (2, .int (kI ((h : Nat) : Int))), (1, .ref es), (0, .ref dq)]) hx hb dJ3_pollFirst_15 rfl hl (by decide) rfl (fun ls hl => ?_)
  refine lv_aload_n hx hb dJ3_pollFirst_16 rfl (lv_at hl 0 rfl) ?_
  refine lv_ifnull hx hb dJ3_pollFirst_17 ?_
  refine lv_aload_n hx hb dJ3_pollFirst_20 rfl (lv_at hl 2 rfl) ?_
  refine lv_iload_n hx hb dJ3_pollFirst_21 rfl (lv_at hl 1 rfl) ?_
  refine lv_null hx hb dJ3_pollFirst_22 ?_
  refine kx_aastN hx hb hK (t := 4) rfl hA_es hS_2 (by first | rfl | exact Or.inl rfl | exact Or.inr rfl | exact Or.inr (Or.inl rfl) | exact Or.inr (Or.inr rfl) | exact Or.inr (Or.inr (Or.inl rfl)) | exact Or.inr (Or.inr (Or.inr rfl)) | ((try dsimp only); (try simp only [kNW]); omega)) h (rfl) (by omega) (by omega) dJ3_pollFirst_23 (fun H_7 locs_8 hA_6 hU_5 hS_9 => ?_)
  have hzu_10 := hU_5.1
  refine lv_aload_n hx hb dJ3_pollFirst_24 rfl (lv_at hl 3 rfl) ?_
  refine lv_iload_n hx hb dJ3_pollFirst_25 rfl (lv_at hl 1 rfl) ?_
  refine lv_aload_n hx hb dJ3_pollFirst_26 rfl (lv_at hl 2 rfl) ?_
  refine kx_alen hx hb hK hA_6 rfl dJ3_pollFirst_27 ?_
  refine kx_ci0 (va_runS (As := [.int (kI ((h : Nat) : Int)), .int (kI ((17 : Nat) : Int))]) (rest := [.ref dq]) ⟨hx, hb, hml, hown, hts⟩ (m_J3_inc l D H_7 h  (by first | assumption | omega)) (va_cwS 2 hts (lw_S q269 q270 q84 q271) rfl rfl rfl (by decide +kernel) ⟨Nat.le_of_ble_eq_true rfl, Nat.le_of_ble_eq_true rfl⟩) (kx_ps hK hS_9 hB) rfl rfl hl.1 rfl (lv_room (Nat.le_of_ble_eq_true rfl)) dJ3_pollFirst_28 ⟨by first | exact Nat.le_of_ble_eq_true rfl | omega | (show _ ≤ _; omega) | (dsimp only [headSpec]; omega), by first | exact Nat.le_of_ble_eq_true rfl | omega | (show _ ≤ _; omega) | (dsimp only [headSpec]; omega)⟩) hS_9 (fun z_14 locs_11 hz_13 hS_12 => ?_)
  subst z_14
  have h_15 := hO_dq.up hU_5 (by first | assumption | exact Ne.symm (by assumption) | omega | (have h9 := hO_dq.lt; omega))
  refine kx_put (v := .int (kI (((h + 1) % 17 : Nat) : Int))) (C := RJ3) (T := TJ3) (N := 3) hx hb hts in_J3 hown hK h_15 rfl 1 (by decide) tyJ3 tyJ3_ok nmJ3 hS_12 (by first | rfl | exact Or.inl rfl | exact Or.inr rfl | exact Or.inr (Or.inl rfl) | exact Or.inr (Or.inr rfl) | exact Or.inr (Or.inr (Or.inl rfl)) | exact Or.inr (Or.inr (Or.inr rfl)) | ((try dsimp only); (try simp only [kNW]); omega)) q187 (fun _ h9 => h9) rfl rfl rfl rfl (Nat.le_of_ble_eq_true rfl) dJ3_pollFirst_31 (fun H_18 locs_19 hO_17 hU_16 hS_20 => ?_)
  have hO_17 : kO D H_18 dq 10 [.ref es, .int (kI (((h + 1) % 17 : Nat) : Int)), .int (kI ((t : Nat) : Int))] := hO_17
  have hzu_21 := hU_16.1
  refine lv_aload_n hx hb dJ3_pollFirst_34 rfl (lv_at hl 0 rfl) ?_
  have h_22 := hA_6.up hU_16 (by first | assumption | exact Ne.symm (by assumption) | omega | (have h9 := hA_6.lt; omega))
  exact kx_aret (z := b) hx hb hr (by first | exact Or.inl ⟨_, rfl⟩ | exact Or.inr ⟨_, rfl⟩) hlk (⟨by rfl, hO_17, h_22⟩) hS_20 dJ3_pollFirst_35

set_option maxHeartbeats 4000000 in
set_option maxRecDepth 100000 in
theorem m_J3_removeFirst (l : Launch) (D : kG) (H : Heap) (dq : Nat) (es : Nat) (h : Nat) (t : Nat) (g : Nat → Option Nat) (b : Nat) (hO_dq : kO D H dq 10 [.ref es, .int (kI ((h : Nat) : Int)), .int (kI ((t : Nat) : Int))]) (hA_es : kAq D H es 4 17 g) (hh : h < 17) (ht : t < 17) (ne_dq_es : dq ≠ es) (bs_dq : kBase D ≤ dq) (bs_es : kBase D ≤ es) (hg : g h = some b) : Met l yJ3_removeFirst (ws_ yJ3_removeFirst cJ3_removeFirst 2 (some (.object "java/lang/Object"))) ({ frames := 2, cells := 0, slots := 0, locals := 44 } : Room) (kPre D H [.ref dq]) (kQr (fun (r : Nat) H' => (r = b) ∧ (kO D H' dq 10 [.ref es, .int (kI (((h + 1) % 17 : Nat) : Int)), .int (kI ((t : Nat) : Int))]) ∧ (kAq D H' es 4 17 (kupq g h none))) (fun q : Nat => q = dq ∨ q = es)) (0) (0) ((fun q : Nat => q = dq ∨ q = es)) := by
  refine Met.ofW (cc := cJ3_removeFirst) (maxL := 2) (ret := (some (.object "java/lang/Object"))) (by decide) rfl ?_
  intro p e s m args below meth c s₁ B hml hv
  obtain ⟨rfl, hH, hK⟩ := hv
  subst hH
  have hx := B.exec
  have hb := B.bytes
  have hr := B.returns
  have hts := atoms_spec (ws := ws_ yJ3_removeFirst cJ3_removeFirst 2 (some (.object "java/lang/Object"))) B.pre
  have hts : ∀ w ∈ lw_all, w.before _ s = true := fun w h => hts w (List.mem_cons_of_mem _ h)
  have hown : s.vm.findClass RJ3 = some m.cls := findClass_of_methodNamed B.named
  have hlk := B.notSynchronized
  have hS : va_S (fun q : Nat => q = dq ∨ q = es) s.heap s.heap [] := va_S.rf
  have hB : ∀ q, (fun q : Nat => q = dq ∨ q = es) q → kBase D ≤ q := fun q h => by (try dsimp only at h); (try simp only [kNW] at h); have hks := hK.size; omega
  have hl := lv_entry ([.ref dq]) (n := 2) (Nat.le_of_ble_eq_true rfl)
  rw [lg_entry_eq]
  generalize (lg_sl ([.ref dq]) ++ List.replicate (2 - (lg_sl ([.ref dq])).length) Slot.unset).toArray = ls at hl ⊢
  have hl : lv_has ls 2 [(0, .ref dq)] := hl
  refine lv_aload_n hx hb dJ3_removeFirst_0 rfl (lv_at hl 0 rfl) ?_
  refine kx_cr (va_runV (As := []) (rest := []) ⟨hx, hb, hml, hown, hts⟩ (m_J3_pollFirst l D s.heap dq es h t g b hO_dq hA_es (by first | assumption | omega) (by first | assumption | omega) (by first | assumption | omega) (by first | assumption | omega) (by first | assumption | omega) (by first | assumption | omega)) (cwV 0 hts (lw_V q262 q263 q264 q84 q265) rfl rfl rfl (by decide +kernel) ⟨Nat.le_of_ble_eq_true rfl, Nat.le_of_ble_eq_true rfl⟩) (kx_pv hK hS hB (kx_rc hK hO_dq (C := RJ3) (T := TJ3) (N := 3) rfl)) rfl rfl hl.1 rfl (lv_room (Nat.le_of_ble_eq_true rfl)) dJ3_removeFirst_1 ⟨by first | exact Nat.le_of_ble_eq_true rfl | omega | (show _ ≤ _; omega) | (dsimp only [headSpec]; omega), by first | exact Nat.le_of_ble_eq_true rfl | omega | (show _ ≤ _; omega) | (dsimp only [headSpec]; omega)⟩) hS (fun q _ h => by (try dsimp only at h); (try dsimp only); (try simp only [kNW] at h); (try simp only [kNW]); omega) (fun q h => by (try dsimp only at h); (try dsimp only); (try simp only [kNW] at h); (try simp only [kNW]); omega) (fun z_6 H_4 locs_1 hz_3 hF_5 hS_2 => ?_)
  have hzf_7 := hF_5.1
  refine W.widen (k := 0) (n := 0) (Nat.le_of_ble_eq_true rfl) (Nat.le_of_ble_eq_true rfl) ?_
  obtain ⟨hv_8, ho_9, ho_10⟩ := hz_3
  subst z_6
  refine lv_astore_n (lv' := [(1, .ref b), (0, .ref dq)]) hx hb dJ3_removeFirst_4 rfl hl (by decide) rfl (fun ls hl => ?_)
  refine lv_aload_n hx hb dJ3_removeFirst_5 rfl (lv_at hl 0 rfl) ?_
  refine lv_ifnonnull (tgt := 17) hx hb dJ3_removeFirst_6 (by decide) ?_
  refine lv_aload_n hx hb dJ3_removeFirst_17 rfl (lv_at hl 0 rfl) ?_
  exact kx_aret (z := b) hx hb hr (by first | exact Or.inl ⟨_, rfl⟩ | exact Or.inr ⟨_, rfl⟩) hlk (⟨by rfl, ho_9, ho_10⟩) hS_2 dJ3_removeFirst_18

set_option maxHeartbeats 4000000 in
set_option maxRecDepth 100000 in
theorem m_J3_pollLast (l : Launch) (D : kG) (H : Heap) (dq : Nat) (es : Nat) (h : Nat) (t : Nat) (g : Nat → Option Nat) (b : Nat) (hO_dq : kO D H dq 10 [.ref es, .int (kI ((h : Nat) : Int)), .int (kI ((t : Nat) : Int))]) (hA_es : kAq D H es 4 17 g) (hh : h < 17) (ht : t < 17) (ne_dq_es : dq ≠ es) (bs_dq : kBase D ≤ dq) (bs_es : kBase D ≤ es) (hg : g ((t + 16) % 17) = some b) : Met l yJ3_pollLast (ws_ yJ3_pollLast cJ3_pollLast 4 (some (.object "java/lang/Object"))) ({ frames := 1, cells := 0, slots := 0, locals := 21 } : Room) (kPre D H [.ref dq]) (kQr (fun (r : Nat) H' => (r = b) ∧ (kO D H' dq 10 [.ref es, .int (kI ((h : Nat) : Int)), .int (kI (((t + 16) % 17 : Nat) : Int))]) ∧ (kAq D H' es 4 17 (kupq g ((t + 16) % 17) none))) (fun q : Nat => q = dq ∨ q = es)) (0) (0) ((fun q : Nat => q = dq ∨ q = es)) := by
  refine Met.ofW (cc := cJ3_pollLast) (maxL := 4) (ret := (some (.object "java/lang/Object"))) (by decide) rfl ?_
  intro p e s m args below meth c s₁ B hml hv
  obtain ⟨rfl, hH, hK⟩ := hv
  subst hH
  have hx := B.exec
  have hb := B.bytes
  have hr := B.returns
  have hts := atoms_spec (ws := ws_ yJ3_pollLast cJ3_pollLast 4 (some (.object "java/lang/Object"))) B.pre
  have hts : ∀ w ∈ lw_all, w.before _ s = true := fun w h => hts w (List.mem_cons_of_mem _ h)
  have hown : s.vm.findClass RJ3 = some m.cls := findClass_of_methodNamed B.named
  have hlk := B.notSynchronized
  have hS : va_S (fun q : Nat => q = dq ∨ q = es) s.heap s.heap [] := va_S.rf
  have hB : ∀ q, (fun q : Nat => q = dq ∨ q = es) q → kBase D ≤ q := fun q h => by (try dsimp only at h); (try simp only [kNW] at h); have hks := hK.size; omega
  have hl := lv_entry ([.ref dq]) (n := 4) (Nat.le_of_ble_eq_true rfl)
  rw [lg_entry_eq]
  generalize (lg_sl ([.ref dq]) ++ List.replicate (4 - (lg_sl ([.ref dq])).length) Slot.unset).toArray = ls at hl ⊢
  have hl : lv_has ls 4 [(0, .ref dq)] := hl
  refine lv_aload_n hx hb dJ3_pollLast_0 rfl (lv_at hl 0 rfl) ?_
  refine kx_get (v := .ref es) (C := RJ3) (T := TJ3) (N := 3) hx hb hts in_J3 hown hK hO_dq rfl 0 (by decide) q186 (fun _ h9 => h9) rfl dJ3_pollLast_1 ?_
  refine lv_dup hx hb dJ3_pollLast_4 rfl ?_
  refine lv_astore_n (lv' := [(1, .ref es), (0, .ref dq)]) hx hb dJ3_pollLast_5 rfl hl (by decide) rfl (fun ls hl => ?_)
  refine lv_aload_n hx hb dJ3_pollLast_6 rfl (lv_at hl 1 rfl) ?_
  refine kx_get (v := .int (kI ((t : Nat) : Int))) (C := RJ3) (T := TJ3) (N := 3) hx hb hts in_J3 hown hK hO_dq rfl 2 (by decide) q188 (fun _ h9 => h9) rfl dJ3_pollLast_7 ?_
  refine lv_aload_n hx hb dJ3_pollLast_10 rfl (lv_at hl 0 rfl) ?_
  refine kx_alen hx hb hK hA_es rfl dJ3_pollLast_11 ?_
  refine kx_ci0 (va_runS (As := [.int (kI ((t : Nat) : Int)), .int (kI ((17 : Nat) : Int))]) (rest := [.ref es]) ⟨hx, hb, hml, hown, hts⟩ (m_J3_dec l D s.heap t  (by first | assumption | omega)) (va_cwS 2 hts (lw_S q2222 q2223 q84 q2224) rfl rfl rfl (by decide +kernel) ⟨Nat.le_of_ble_eq_true rfl, Nat.le_of_ble_eq_true rfl⟩) (kx_ps hK hS hB) rfl rfl hl.1 rfl (lv_room (Nat.le_of_ble_eq_true rfl)) dJ3_pollLast_12 ⟨by first | exact Nat.le_of_ble_eq_true rfl | omega | (show _ ≤ _; omega) | (dsimp only [headSpec]; omega), by first | exact Nat.le_of_ble_eq_true rfl | omega | (show _ ≤ _; omega) | (dsimp only [headSpec]; omega)⟩) hS (fun z_4 locs_1 hz_3 hS_2 => ?_)
  subst z_4
  refine lv_dup hx hb dJ3_pollLast_15 rfl ?_
  refine lv_istore_n (lv' := [(2, .int (kI (((t + 16) % 17 : Nat) : Int))), (1, .ref es), (0, .ref dq)]) hx hb dJ3_pollLast_16 rfl hl (by decide) rfl (fun ls hl => ?_)
  refine kx_cr0 (va_runS (As := [.ref es, .int (kI (((t + 16) % 17 : Nat) : Int))]) (rest := []) ⟨hx, hb, hml, hown, hts⟩ (m_J3_elementAt l D s.heap es g ((t + 16) % 17) b hA_es (by first | assumption | omega) (by first | assumption | omega)) (va_cwS 2 hts (lw_S q266 q267 q84 q268) rfl rfl rfl (by decide +kernel) ⟨Nat.le_of_ble_eq_true rfl, Nat.le_of_ble_eq_true rfl⟩) (kx_ps hK hS_2 hB) rfl rfl hl.1 rfl (lv_room (Nat.le_of_ble_eq_true rfl)) dJ3_pollLast_17 ⟨by first | exact Nat.le_of_ble_eq_true rfl | omega | (show _ ≤ _; omega) | (dsimp only [headSpec]; omega), by first | exact Nat.le_of_ble_eq_true rfl | omega | (show _ ≤ _; omega) | (dsimp only [headSpec]; omega)⟩) hS_2 (fun z_8 locs_5 hz_7 hS_6 => ?_)
  subst z_8
  refine lv_astore_n (lv' := [(3, .ref b), (2, .int (kI (((t + 16) % 17 : Nat) : Int))), (1, .ref es), (0, .ref dq)]) hx hb dJ3_pollLast_20 rfl hl (by decide) rfl (fun ls hl => ?_)
  refine lv_aload_n hx hb dJ3_pollLast_21 rfl (lv_at hl 0 rfl) ?_
  refine lv_ifnull hx hb dJ3_pollLast_22 ?_
  refine lv_aload_n hx hb dJ3_pollLast_25 rfl (lv_at hl 2 rfl) ?_
  refine lv_aload_n hx hb dJ3_pollLast_26 rfl (lv_at hl 3 rfl) ?_
  refine lv_iload_n hx hb dJ3_pollLast_27 rfl (lv_at hl 1 rfl) ?_
  refine lv_dup_x1 hx hb dJ3_pollLast_28 rfl rfl ?_
  refine kx_put (v := .int (kI (((t + 16) % 17 : Nat) : Int))) (C := RJ3) (T := TJ3) (N := 3) hx hb hts in_J3 hown hK hO_dq rfl 2 (by decide) tyJ3 tyJ3_ok nmJ3 hS_6 (by first | rfl | exact Or.inl rfl | exact Or.inr rfl | exact Or.inr (Or.inl rfl) | exact Or.inr (Or.inr rfl) | exact Or.inr (Or.inr (Or.inl rfl)) | exact Or.inr (Or.inr (Or.inr rfl)) | ((try dsimp only); (try simp only [kNW]); omega)) q188 (fun _ h9 => h9) rfl rfl rfl rfl (Nat.le_of_ble_eq_true rfl) dJ3_pollLast_29 (fun H_11 locs_12 hO_10 hU_9 hS_13 => ?_)
  have hO_10 : kO D H_11 dq 10 [.ref es, .int (kI ((h : Nat) : Int)), .int (kI (((t + 16) % 17 : Nat) : Int))] := hO_10
  have hzu_14 := hU_9.1
  refine lv_null hx hb dJ3_pollLast_32 ?_
  have h_15 := hA_es.up hU_9 (by first | assumption | exact Ne.symm (by assumption) | omega | (have h9 := hA_es.lt; omega))
  refine kx_aastN hx hb hK (t := 4) rfl h_15 hS_13 (by first | rfl | exact Or.inl rfl | exact Or.inr rfl | exact Or.inr (Or.inl rfl) | exact Or.inr (Or.inr rfl) | exact Or.inr (Or.inr (Or.inl rfl)) | exact Or.inr (Or.inr (Or.inr rfl)) | ((try dsimp only); (try simp only [kNW]); omega)) ((t + 16) % 17) (rfl) (by omega) (by omega) dJ3_pollLast_33 (fun H_18 locs_19 hA_17 hU_16 hS_20 => ?_)
  have hzu_21 := hU_16.1
  refine lv_aload_n hx hb dJ3_pollLast_34 rfl (lv_at hl 0 rfl) ?_
  have h_22 := hO_10.up hU_16 (by first | assumption | exact Ne.symm (by assumption) | omega | (have h9 := hO_10.lt; omega))
  exact kx_aret (z := b) hx hb hr (by first | exact Or.inl ⟨_, rfl⟩ | exact Or.inr ⟨_, rfl⟩) hlk (⟨by rfl, h_22, hA_17⟩) hS_20 dJ3_pollLast_35

set_option maxHeartbeats 4000000 in
set_option maxRecDepth 100000 in
theorem m_J3_removeLast (l : Launch) (D : kG) (H : Heap) (dq : Nat) (es : Nat) (h : Nat) (t : Nat) (g : Nat → Option Nat) (b : Nat) (hO_dq : kO D H dq 10 [.ref es, .int (kI ((h : Nat) : Int)), .int (kI ((t : Nat) : Int))]) (hA_es : kAq D H es 4 17 g) (hh : h < 17) (ht : t < 17) (ne_dq_es : dq ≠ es) (bs_dq : kBase D ≤ dq) (bs_es : kBase D ≤ es) (hg : g ((t + 16) % 17) = some b) : Met l yJ3_removeLast (ws_ yJ3_removeLast cJ3_removeLast 2 (some (.object "java/lang/Object"))) ({ frames := 2, cells := 0, slots := 0, locals := 44 } : Room) (kPre D H [.ref dq]) (kQr (fun (r : Nat) H' => (r = b) ∧ (kO D H' dq 10 [.ref es, .int (kI ((h : Nat) : Int)), .int (kI (((t + 16) % 17 : Nat) : Int))]) ∧ (kAq D H' es 4 17 (kupq g ((t + 16) % 17) none))) (fun q : Nat => q = dq ∨ q = es)) (0) (0) ((fun q : Nat => q = dq ∨ q = es)) := by
  refine Met.ofW (cc := cJ3_removeLast) (maxL := 2) (ret := (some (.object "java/lang/Object"))) (by decide) rfl ?_
  intro p e s m args below meth c s₁ B hml hv
  obtain ⟨rfl, hH, hK⟩ := hv
  subst hH
  have hx := B.exec
  have hb := B.bytes
  have hr := B.returns
  have hts := atoms_spec (ws := ws_ yJ3_removeLast cJ3_removeLast 2 (some (.object "java/lang/Object"))) B.pre
  have hts : ∀ w ∈ lw_all, w.before _ s = true := fun w h => hts w (List.mem_cons_of_mem _ h)
  have hown : s.vm.findClass RJ3 = some m.cls := findClass_of_methodNamed B.named
  have hlk := B.notSynchronized
  have hS : va_S (fun q : Nat => q = dq ∨ q = es) s.heap s.heap [] := va_S.rf
  have hB : ∀ q, (fun q : Nat => q = dq ∨ q = es) q → kBase D ≤ q := fun q h => by (try dsimp only at h); (try simp only [kNW] at h); have hks := hK.size; omega
  have hl := lv_entry ([.ref dq]) (n := 2) (Nat.le_of_ble_eq_true rfl)
  rw [lg_entry_eq]
  generalize (lg_sl ([.ref dq]) ++ List.replicate (2 - (lg_sl ([.ref dq])).length) Slot.unset).toArray = ls at hl ⊢
  have hl : lv_has ls 2 [(0, .ref dq)] := hl
  refine lv_aload_n hx hb dJ3_removeLast_0 rfl (lv_at hl 0 rfl) ?_
  refine kx_cr (va_runV (As := []) (rest := []) ⟨hx, hb, hml, hown, hts⟩ (m_J3_pollLast l D s.heap dq es h t g b hO_dq hA_es (by first | assumption | omega) (by first | assumption | omega) (by first | assumption | omega) (by first | assumption | omega) (by first | assumption | omega) (by first | assumption | omega)) (cwV 0 hts (lw_V q2218 q2219 q2220 q84 q2221) rfl rfl rfl (by decide +kernel) ⟨Nat.le_of_ble_eq_true rfl, Nat.le_of_ble_eq_true rfl⟩) (kx_pv hK hS hB (kx_rc hK hO_dq (C := RJ3) (T := TJ3) (N := 3) rfl)) rfl rfl hl.1 rfl (lv_room (Nat.le_of_ble_eq_true rfl)) dJ3_removeLast_1 ⟨by first | exact Nat.le_of_ble_eq_true rfl | omega | (show _ ≤ _; omega) | (dsimp only [headSpec]; omega), by first | exact Nat.le_of_ble_eq_true rfl | omega | (show _ ≤ _; omega) | (dsimp only [headSpec]; omega)⟩) hS (fun q _ h => by (try dsimp only at h); (try dsimp only); (try simp only [kNW] at h); (try simp only [kNW]); omega) (fun q h => by (try dsimp only at h); (try dsimp only); (try simp only [kNW] at h); (try simp only [kNW]); omega) (fun z_6 H_4 locs_1 hz_3 hF_5 hS_2 => ?_)
  have hzf_7 := hF_5.1
  refine W.widen (k := 0) (n := 0) (Nat.le_of_ble_eq_true rfl) (Nat.le_of_ble_eq_true rfl) ?_
  obtain ⟨hv_8, ho_9, ho_10⟩ := hz_3
  subst z_6
  refine lv_astore_n (lv' := [(1, .ref b), (0, .ref dq)]) hx hb dJ3_removeLast_4 rfl hl (by decide) rfl (fun ls hl => ?_)
  refine lv_aload_n hx hb dJ3_removeLast_5 rfl (lv_at hl 0 rfl) ?_
  refine lv_ifnonnull (tgt := 17) hx hb dJ3_removeLast_6 (by decide) ?_
  refine lv_aload_n hx hb dJ3_removeLast_17 rfl (lv_at hl 0 rfl) ?_
  exact kx_aret (z := b) hx hb hr (by first | exact Or.inl ⟨_, rfl⟩ | exact Or.inr ⟨_, rfl⟩) hlk (⟨by rfl, ho_9, ho_10⟩) hS_2 dJ3_removeLast_18

