/-! MATH 56: letters -/
def kLtr (j : Nat) : Int := ([110, 115, 119, 108, 117, 98, 97, 103] : List Int).getD j 0
theorem kLtr_rng (j : Nat) : 0 ≤ kLtr j ∧ kLtr j < 128 := by
  rcases (show j = 0 ∨ j = 1 ∨ j = 2 ∨ j = 3 ∨ j = 4 ∨ j = 5 ∨ j = 6 ∨ j = 7 ∨ 8 ≤ j by omega) with h | h | h | h | h | h | h | h | h
  all_goals first | (subst h; decide) | (unfold kLtr; rw [List.getD_eq_getElem?_getD, List.getElem?_eq_none (by simpa using h)]; decide)
def lt_ix (x : Int) : Int := firstIdx (fun j => decide (kLtr j = x)) 8 0
theorem lt_ix_in {x : Int} (h : tx_let x) : 0 ≤ lt_ix x := by
  rcases h with h | h | h | h | h | h | h | h <;> subst h <;> decide
theorem lt_ix_out {x : Int} (h : ¬ tx_let x) : lt_ix x = -1 := by
  unfold lt_ix
  refine firstIdx_no _ _ (fun j _ hj => decide_eq_false (fun e => h ?_))
  rcases (show j = 0 ∨ j = 1 ∨ j = 2 ∨ j = 3 ∨ j = 4 ∨ j = 5 ∨ j = 6 ∨ j = 7 by omega) with q | q | q | q | q | q | q | q
  all_goals (subst q; rw [← e]; unfold tx_let; decide)
theorem lt_ix_rng (x : Int) : -1 ≤ lt_ix x ∧ lt_ix x ≤ 8 := by
  by_cases h : tx_let x
  · rcases h with h | h | h | h | h | h | h | h <;> subst h <;> decide
  · have := lt_ix_out h; omega
/-- the letters' constant, still there -/
theorem kK.ltO {D : kG} {s : State} {A : Nat → Prop} {H : Heap} {locs : List Loc} (hK : kK D s) (hS : va_S A s.heap H locs) (hB : ∀ q, A q → kBase D ≤ q) : ∃ h z : Value, kO D H (D.2.2.2 7) 12 [.ref (D.2.2.2 8), .int (kI 0), h, z] := by
  obtain ⟨⟨h, z, g⟩, n⟩ := hK.cLt
  exact ⟨h, z, g.kp (hS.2.1 _ g.lt (fun a => n (hB _ a)))⟩
theorem b8_narB : ∀ z : Nat, z < 128 → narrow .byte (.int (kI (z : Int))) = .int (kI (z : Int)) := by decide +kernel
theorem kx_yret {p : Program} {l : Launch} {e : Env} {R : Room} {s : State} {m : MethodId} {args : Array Value} {below : List Frame} {meth : Method} {c : Code} {H : Heap} {locs : List Loc} {cells slots : Nat} {cc : ByteArray} {pc : Nat} {ls : Array Slot} {A : Nat → Prop} {P : Int → Heap → Prop} {z : Int} (hx : p.tables.exec = Jvm.exec) (hb : c.code = cc) (hr : meth.sig.returnType = some .byte) (hlocks : meth.locks = false) (h1 : 0 ≤ z) (h2 : z < 128) (hP : P z H) (hS : va_S A s.heap H locs) (d : decode cc pc = .ok (.ireturn, 1)) : W p l e R s m args below meth c H locs cells slots (MQ below (kQi P A) args s cells slots A) (F0 m pc ls [.int (kI z)]) := W.zret (v := kI z) hx hb hr (b8_lift (P := fun z => narrow .byte (.int (kI z)) = .int (kI z)) b8_narB h1 h2) (fun t ht hW => ⟨⟨kI z, z, rfl, rfl, by subst ht; exact hP⟩, hS.F ht⟩) hS.2.2 d hlocks
set_option maxHeartbeats 4000000 in
set_option maxRecDepth 100000 in
theorem m_J6_isLatin1 (l : Launch) (D : kG) (H : Heap) (hv : Value) (zv : Value) (hO_D_2_2_2_7 : kO D H (D.2.2.2 7) 12 [.ref (D.2.2.2 8), .int (kI (0)), hv, zv]) : Met l yJ6_isLatin1 (ws_ yJ6_isLatin1 cJ6_isLatin1 1 (some .boolean)) ({ frames := 0, cells := 0, slots := 0, locals := 0 } : Room) (kPre D H [.ref (D.2.2.2 7)]) (kQb (fun (r : Bool) H' => H' = H ∧ r = true) kNO) (0) (0) (kNO) := by
  refine Met.ofW (cc := cJ6_isLatin1) (maxL := 1) (ret := (some .boolean)) (by decide) rfl ?_
  intro p e s m args below meth c s₁ B hml hv
  obtain ⟨rfl, hH, hK⟩ := hv
  subst hH
  have hx := B.exec
  have hb := B.bytes
  have hr := B.returns
  have hts := atoms_spec (ws := ws_ yJ6_isLatin1 cJ6_isLatin1 1 (some .boolean)) B.pre
  have hts : ∀ w ∈ lw_all, w.before _ s = true := fun w h => hts w (List.mem_cons_of_mem _ h)
  have hown : s.vm.findClass RJ6 = some m.cls := findClass_of_methodNamed B.named
  have hlk := B.notSynchronized
  have hS : va_S kNO s.heap s.heap [] := va_S.rf
  have hB : ∀ q, kNO q → kBase D ≤ q := fun _ h => h.elim
  have hl := lv_entry ([.ref (D.2.2.2 7)]) (n := 1) (Nat.le_of_ble_eq_true rfl)
  rw [lg_entry_eq]
  generalize (lg_sl ([.ref (D.2.2.2 7)]) ++ List.replicate (1 - (lg_sl ([.ref (D.2.2.2 7)])).length) Slot.unset).toArray = ls at hl ⊢
  have hl : lv_has ls 1 [(0, .ref (D.2.2.2 7))] := hl
  refine kx_gets (v := .int (kI (1))) hx hb hts hK.sCS hS hB hown q636 (fun _ h9 => h9) dJ6_isLatin1_0 ?_
  refine kx_if_eq (x := 1) (tgt := 17) hx hb dJ6_isLatin1_3 (by decide) (by omega) (by omega) (fun c_3_1 => ?_) (fun c_3_1 => ?_)
  · -- taken at 3
    exfalso; omega
  · -- not taken at 3
    refine lv_aload_n hx hb dJ6_isLatin1_6 rfl (lv_at hl 0 rfl) ?_
    refine kx_get (v := .int (kI (0))) (C := RJ6) (T := TJ6) (N := 4) hx hb hts in_J6 hown hK hO_D_2_2_2_7 rfl 1 (by decide) q1469 (fun _ h9 => h9) rfl dJ6_isLatin1_7 ?_
    refine kx_if_ne (x := 0) (tgt := 17) hx hb dJ6_isLatin1_10 (by decide) (by omega) (by omega) (fun c_10_2 => ?_) (fun c_10_2 => ?_)
    · -- taken at 10
      exfalso; omega
    · -- not taken at 10
      refine kx_iconst hx hb dJ6_isLatin1_13 ?_
      refine lv_goto (tgt := 18) hx hb dJ6_isLatin1_14 (by decide) ?_
      exact kx_zret (z := true) hx hb hr hlk (⟨rfl, by first | rfl | exact (decide_eq_true (by omega)).symm | exact (decide_eq_false (by omega)).symm | grind⟩) hS dJ6_isLatin1_18

set_option maxHeartbeats 4000000 in
set_option maxRecDepth 100000 in
theorem m_J6_coder (l : Launch) (D : kG) (H : Heap) (hv : Value) (zv : Value) (hO_D_2_2_2_7 : kO D H (D.2.2.2 7) 12 [.ref (D.2.2.2 8), .int (kI (0)), hv, zv]) : Met l yJ6_coder (ws_ yJ6_coder cJ6_coder 1 (some .byte)) ({ frames := 0, cells := 0, slots := 0, locals := 0 } : Room) (kPre D H [.ref (D.2.2.2 7)]) (kQi (fun (r : Int) H' => H' = H ∧ r = 0) kNO) (0) (0) (kNO) := by
  refine Met.ofW (cc := cJ6_coder) (maxL := 1) (ret := (some .byte)) (by decide) rfl ?_
  intro p e s m args below meth c s₁ B hml hv
  obtain ⟨rfl, hH, hK⟩ := hv
  subst hH
  have hx := B.exec
  have hb := B.bytes
  have hr := B.returns
  have hts := atoms_spec (ws := ws_ yJ6_coder cJ6_coder 1 (some .byte)) B.pre
  have hts : ∀ w ∈ lw_all, w.before _ s = true := fun w h => hts w (List.mem_cons_of_mem _ h)
  have hown : s.vm.findClass RJ6 = some m.cls := findClass_of_methodNamed B.named
  have hlk := B.notSynchronized
  have hS : va_S kNO s.heap s.heap [] := va_S.rf
  have hB : ∀ q, kNO q → kBase D ≤ q := fun _ h => h.elim
  have hl := lv_entry ([.ref (D.2.2.2 7)]) (n := 1) (Nat.le_of_ble_eq_true rfl)
  rw [lg_entry_eq]
  generalize (lg_sl ([.ref (D.2.2.2 7)]) ++ List.replicate (1 - (lg_sl ([.ref (D.2.2.2 7)])).length) Slot.unset).toArray = ls at hl ⊢
  have hl : lv_has ls 1 [(0, .ref (D.2.2.2 7))] := hl
  refine kx_gets (v := .int (kI (1))) hx hb hts hK.sCS hS hB hown q636 (fun _ h9 => h9) dJ6_coder_0 ?_
  refine kx_if_eq (x := 1) (tgt := 13) hx hb dJ6_coder_3 (by decide) (by omega) (by omega) (fun c_3_1 => ?_) (fun c_3_1 => ?_)
  · -- taken at 3
    exfalso; omega
  · -- not taken at 3
    refine lv_aload_n hx hb dJ6_coder_6 rfl (lv_at hl 0 rfl) ?_
    refine kx_get (v := .int (kI (0))) (C := RJ6) (T := TJ6) (N := 4) hx hb hts in_J6 hown hK hO_D_2_2_2_7 rfl 1 (by decide) q1469 (fun _ h9 => h9) rfl dJ6_coder_7 ?_
    refine lv_goto (tgt := 14) hx hb dJ6_coder_10 (by decide) ?_
    exact kx_yret (z := 0) hx hb hr hlk (by omega) (by omega) (⟨rfl, by first | rfl | omega | grind⟩) hS dJ6_coder_14

set_option maxHeartbeats 4000000 in
set_option maxRecDepth 100000 in
theorem m_J6_length (l : Launch) (D : kG) (H : Heap) (hv : Value) (zv : Value) (hO_D_2_2_2_7 : kO D H (D.2.2.2 7) 12 [.ref (D.2.2.2 8), .int (kI (0)), hv, zv]) : Met l yJ6_length (ws_ yJ6_length cJ6_length 1 (some .int)) ({ frames := 1, cells := 0, slots := 0, locals := 20 } : Room) (kPre D H [.ref (D.2.2.2 7)]) (kQi (fun (r : Int) H' => H' = H ∧ r = ((8 : Nat) : Int)) kNO) (0) (0) (kNO) := by
  refine Met.ofW (cc := cJ6_length) (maxL := 1) (ret := (some .int)) (by decide) rfl ?_
  intro p e s m args below meth c s₁ B hml hv
  obtain ⟨rfl, hH, hK⟩ := hv
  subst hH
  have hx := B.exec
  have hb := B.bytes
  have hr := B.returns
  have hts := atoms_spec (ws := ws_ yJ6_length cJ6_length 1 (some .int)) B.pre
  have hts : ∀ w ∈ lw_all, w.before _ s = true := fun w h => hts w (List.mem_cons_of_mem _ h)
  have hown : s.vm.findClass RJ6 = some m.cls := findClass_of_methodNamed B.named
  have hlk := B.notSynchronized
  have hS : va_S kNO s.heap s.heap [] := va_S.rf
  have hB : ∀ q, kNO q → kBase D ≤ q := fun _ h => h.elim
  have hl := lv_entry ([.ref (D.2.2.2 7)]) (n := 1) (Nat.le_of_ble_eq_true rfl)
  rw [lg_entry_eq]
  generalize (lg_sl ([.ref (D.2.2.2 7)]) ++ List.replicate (1 - (lg_sl ([.ref (D.2.2.2 7)])).length) Slot.unset).toArray = ls at hl ⊢
  have hl : lv_has ls 1 [(0, .ref (D.2.2.2 7))] := hl
  refine lv_aload_n hx hb dJ6_length_0 rfl (lv_at hl 0 rfl) ?_
  refine kx_get (v := .ref (D.2.2.2 8)) (C := RJ6) (T := TJ6) (N := 4) hx hb hts in_J6 hown hK hO_D_2_2_2_7 rfl 0 (by decide) q1468 (fun _ h9 => h9) rfl dJ6_length_1 ?_
  refine kx_tlen hx hb hK.tLt hS hB dJ6_length_4 ?_
  refine lv_aload_n hx hb dJ6_length_5 rfl (lv_at hl 0 rfl) ?_
  refine kx_ci0 (va_runV (As := []) (rest := [.int (kI ((8 : Nat) : Int))]) ⟨hx, hb, hml, hown, hts⟩ (m_J6_coder l D s.heap hv zv hO_D_2_2_2_7 ) (cwV 0 hts (lw_V q632 q633 q634 q87 q635) rfl rfl rfl (by decide +kernel) ⟨Nat.le_of_ble_eq_true rfl, Nat.le_of_ble_eq_true rfl⟩) (kx_pv hK hS hB (kx_rc hK hO_D_2_2_2_7 (C := RJ6) (T := TJ6) (N := 4) rfl)) rfl rfl hl.1 rfl (lv_room (Nat.le_of_ble_eq_true rfl)) dJ6_length_6 ⟨by first | exact Nat.le_of_ble_eq_true rfl | omega | (show _ ≤ _; omega) | (dsimp only [headSpec]; omega), by first | exact Nat.le_of_ble_eq_true rfl | omega | (show _ ≤ _; omega) | (dsimp only [headSpec]; omega)⟩) hS (fun z_4 locs_1 hz_3 hS_2 => ?_)
  subst z_4
  refine kx_ishr0 hx hb (z := ((8 : Nat) : Int)) dJ6_length_9 ?_
  exact kx_iret (z := ((8 : Nat) : Int)) hx hb hr hlk (⟨rfl, by first | rfl | omega | grind⟩) hS_2 dJ6_length_10

set_option maxHeartbeats 4000000 in
set_option maxRecDepth 100000 in
theorem m_J24_canEncode (l : Launch) (D : kG) (H : Heap) (x : Int) (hxr : 0 ≤ x ∧ x < 128) : Met l yJ24_canEncode (ws_ yJ24_canEncode cJ24_canEncode 1 (some .boolean)) ({ frames := 0, cells := 0, slots := 0, locals := 0 } : Room) (kPre D H [.int (kI (x))]) (kQb (fun (r : Bool) H' => H' = H ∧ r = true) kNO) (0) (0) (kNO) := by
  refine Met.ofW (cc := cJ24_canEncode) (maxL := 1) (ret := (some .boolean)) (by decide) rfl ?_
  intro p e s m args below meth c s₁ B hml hv
  obtain ⟨rfl, hH, hK⟩ := hv
  subst hH
  have hx := B.exec
  have hb := B.bytes
  have hr := B.returns
  have hts := atoms_spec (ws := ws_ yJ24_canEncode cJ24_canEncode 1 (some .boolean)) B.pre
  have hts : ∀ w ∈ lw_all, w.before _ s = true := fun w h => hts w (List.mem_cons_of_mem _ h)
  have hown : s.vm.findClass RJ24 = some m.cls := findClass_of_methodNamed B.named
  have hlk := B.notSynchronized
  have hS : va_S kNO s.heap s.heap [] := va_S.rf
  have hB : ∀ q, kNO q → kBase D ≤ q := fun _ h => h.elim
  have hl := lv_entry ([.int (kI (x))]) (n := 1) (Nat.le_of_ble_eq_true rfl)
  rw [lg_entry_eq]
  generalize (lg_sl ([.int (kI (x))]) ++ List.replicate (1 - (lg_sl ([.int (kI (x))])).length) Slot.unset).toArray = ls at hl ⊢
  have hl : lv_has ls 1 [(0, .int (kI (x)))] := hl
  refine lv_iload_n hx hb dJ24_canEncode_0 rfl (lv_at hl 0 rfl) ?_
  refine kx_if_lt (x := x) (tgt := 15) hx hb dJ24_canEncode_1 (by decide) (by omega) (by omega) (fun c_1_1 => ?_) (fun c_1_1 => ?_)
  · -- taken at 1
    exfalso; omega
  · -- not taken at 1
    refine lv_iload_n hx hb dJ24_canEncode_4 rfl (lv_at hl 0 rfl) ?_
    refine kx_sipush hx hb (by decide) dJ24_canEncode_5 ?_
    refine kx_icmp_gt (x := x) (y := 255) (tgt := 15) hx hb dJ24_canEncode_8 (by decide) (by omega) (by omega) (by omega) (by omega) (fun c_8_2 => ?_) (fun c_8_2 => ?_)
    · -- taken at 8
      exfalso; omega
    · -- not taken at 8
      refine kx_iconst hx hb dJ24_canEncode_11 ?_
      refine lv_goto (tgt := 16) hx hb dJ24_canEncode_12 (by decide) ?_
      exact kx_zret (z := true) hx hb hr hlk (⟨rfl, by first | rfl | exact (decide_eq_true (by omega)).symm | exact (decide_eq_false (by omega)).symm | grind⟩) hS dJ24_canEncode_16

set_option maxHeartbeats 4000000 in
set_option maxRecDepth 100000 in
theorem m_J24_indexOfChar (l : Launch) (D : kG) (H : Heap) (x : Int) (hxr : 0 ≤ x ∧ x < 128) : Met l yJ24_indexOfChar (ws_ yJ24_indexOfChar cJ24_indexOfChar 6 (some .int)) ({ frames := 0, cells := 0, slots := 0, locals := 0 } : Room) (kPre D H [.ref (D.2.2.2 8), .int (kI (x)), .int (kI (0)), .int (kI (8))]) (kQi (fun (r : Int) H' => H' = H ∧ r = lt_ix x) kNO) (0) (0) (kNO) := by
  refine Met.ofW (cc := cJ24_indexOfChar) (maxL := 6) (ret := (some .int)) (by decide) rfl ?_
  intro p e s m args below meth c s₁ B hml hv
  obtain ⟨rfl, hH, hK⟩ := hv
  subst hH
  have hx := B.exec
  have hb := B.bytes
  have hr := B.returns
  have hts := atoms_spec (ws := ws_ yJ24_indexOfChar cJ24_indexOfChar 6 (some .int)) B.pre
  have hts : ∀ w ∈ lw_all, w.before _ s = true := fun w h => hts w (List.mem_cons_of_mem _ h)
  have hown : s.vm.findClass RJ24 = some m.cls := findClass_of_methodNamed B.named
  have hlk := B.notSynchronized
  have hS : va_S kNO s.heap s.heap [] := va_S.rf
  have hB : ∀ q, kNO q → kBase D ≤ q := fun _ h => h.elim
  have hl := lv_entry ([.ref (D.2.2.2 8), .int (kI (x)), .int (kI (0)), .int (kI (8))]) (n := 6) (Nat.le_of_ble_eq_true rfl)
  rw [lg_entry_eq]
  generalize (lg_sl ([.ref (D.2.2.2 8), .int (kI (x)), .int (kI (0)), .int (kI (8))]) ++ List.replicate (6 - (lg_sl ([.ref (D.2.2.2 8), .int (kI (x)), .int (kI (0)), .int (kI (8))])).length) Slot.unset).toArray = ls at hl ⊢
  have hl : lv_has ls 6 [(0, .ref (D.2.2.2 8)), (1, .int (kI (x))), (2, .int (kI (0))), (3, .int (kI (8)))] := hl
  refine lv_iload_n hx hb dJ24_indexOfChar_0 rfl (lv_at hl 1 rfl) ?_
  refine kx_i2b hx hb (z := x) (by omega) (by omega) dJ24_indexOfChar_1 ?_
  refine lv_istore (lv' := [(4, .int (kI (x))), (0, .ref (D.2.2.2 8)), (1, .int (kI (x))), (2, .int (kI (0))), (3, .int (kI (8)))]) hx hb dJ24_indexOfChar_2 hl (by decide) rfl (fun ls hl => ?_)
  refine lv_iload_n hx hb dJ24_indexOfChar_4 rfl (lv_at hl 3 rfl) ?_
  refine lv_istore (lv' := [(5, .int (kI (0))), (4, .int (kI (x))), (0, .ref (D.2.2.2 8)), (1, .int (kI (x))), (2, .int (kI (0))), (3, .int (kI (8)))]) hx hb dJ24_indexOfChar_5 hl (by decide) rfl (fun ls hl => ?_)
  have lp_7_x_1 : ∀ (n_7 : Nat) (j : Nat) (hj : j ≤ 8) (hno : ∀ k, k < j → kLtr k ≠ x) (locs : List Loc) (hS : va_S kNO s.heap s.heap locs) (hm_7 : 8 - j < n_7) (ls : Array Slot), lv_has ls 6 [(0, .ref (D.2.2.2 8)), (1, .int (kI (x))), (3, .int (kI (8))), (4, .int (kI (x))), (5, .int (kI ((j : Nat) : Int)))] → W p l e (headSpec (ws_ yJ24_indexOfChar cJ24_indexOfChar 6 (some .int)) ({ frames := 0, cells := 0, slots := 0, locals := 0 } : Room)).room s m ([.ref (D.2.2.2 8), .int (kI (x)), .int (kI (0)), .int (kI (8))] : List Value).toArray below meth c s.heap locs (0) (0) (MQ below (kQi (fun (r : Int) H' => H' = s.heap ∧ r = lt_ix x) kNO) ([.ref (D.2.2.2 8), .int (kI (x)), .int (kI (0)), .int (kI (8))] : List Value).toArray s (0) (0) (kNO)) (F0 m 7 ls []) := by
    intro n_7
    induction n_7 with
    | zero => intro j hj hno locs hS hm_7; exact absurd hm_7 (Nat.not_lt_zero _)
    | succ n_7 ih_7 =>
      intro j hj hno locs hS hm_7 ls hl
      refine lv_iload hx hb dJ24_indexOfChar_7 (lv_at hl 4 rfl) ?_
      refine lv_iload_n hx hb dJ24_indexOfChar_9 rfl (lv_at hl 2 rfl) ?_
      refine kx_icmp_ge (x := ((j : Nat) : Int)) (y := 8) (tgt := 31) hx hb dJ24_indexOfChar_10 (by decide) (by omega) (by omega) (by omega) (by omega) (fun c_10_2 => ?_) (fun c_10_2 => ?_)
      · -- taken at 10
        refine kx_iconst hx hb dJ24_indexOfChar_31 ?_
        exact kx_iret (z := (-1)) hx hb hr hlk (⟨rfl, by first | (unfold lt_ix; exact (firstIdx_first (P := fun k => decide (kLtr k = x)) (by omega) (decide_eq_true c19) (fun k hk => decide_eq_false (hno k hk))).symm) | (unfold lt_ix; exact (firstIdx_no _ _ (fun k _ hk => decide_eq_false (hno k (by omega)))).symm)⟩) hS dJ24_indexOfChar_32
      · -- not taken at 10
        refine lv_aload_n hx hb dJ24_indexOfChar_13 rfl (lv_at hl 0 rfl) ?_
        refine lv_iload hx hb dJ24_indexOfChar_14 (lv_at hl 4 rfl) ?_
        refine kx_tabb hx hb hK.tLt hS hB j (rfl) (by omega) (by decide) dJ24_indexOfChar_16 ?_
        refine lv_iload hx hb dJ24_indexOfChar_17 (lv_at hl 3 rfl) ?_
        refine kx_icmp_ne (x := (kLtr j)) (y := x) (tgt := 25) hx hb dJ24_indexOfChar_19 (by decide) (by have := kLtr_rng j; omega) (by have := kLtr_rng j; omega) (by have := kLtr_rng j; omega) (by have := kLtr_rng j; omega) (fun c19 => ?_) (fun c19 => ?_)
        · -- taken at 19
          refine lv_iinc (v := kI (((j + 1 : Nat) : Int))) (lv' := [(5, .int (kI ((j + 1 : Nat) : Int))), (0, .ref (D.2.2.2 8)), (1, .int (kI (x))), (3, .int (kI (8))), (4, .int (kI (x)))]) hx hb dJ24_indexOfChar_25 hl (k := 4) rfl (kI_incN _ _) (by decide) rfl (fun ls hl => ?_)
          refine lv_goto (tgt := 7) hx hb dJ24_indexOfChar_28 (by decide) ?_
          exact ih_7  (j + 1) (by first | assumption | omega | (simp_all; done) | grind) (fun k hk => by by_cases e9 : k = j; (rw [e9]; exact c19); exact hno k (by omega)) _ hS (by omega) ls (lv_sub hl [1, 2, 3, 4, 0] rfl)
        · -- not taken at 19
          refine lv_iload hx hb dJ24_indexOfChar_22 (lv_at hl 4 rfl) ?_
          exact kx_iret (z := ((j : Nat) : Int)) hx hb hr hlk (⟨rfl, by first | (unfold lt_ix; exact (firstIdx_first (P := fun k => decide (kLtr k = x)) (by omega) (decide_eq_true c19) (fun k hk => decide_eq_false (hno k hk))).symm) | (unfold lt_ix; exact (firstIdx_no _ _ (fun k _ hk => decide_eq_false (hno k (by omega)))).symm)⟩) hS dJ24_indexOfChar_24
  exact lp_7_x_1 (8 - 0 + 1) 0 (by first | assumption | omega | (simp_all; done) | grind) (fun k hk => absurd hk (Nat.not_lt_zero k)) _ hS (Nat.lt_succ_self _) ls (lv_sub hl [2, 3, 5, 1, 0] rfl)

set_option maxHeartbeats 4000000 in
set_option maxRecDepth 100000 in
theorem m_J24_indexOf (l : Launch) (D : kG) (H : Heap) (x : Int) (hxr : 0 ≤ x ∧ x < 128) : Met l yJ24_indexOf (ws_ yJ24_indexOf cJ24_indexOf 4 (some .int)) ({ frames := 1, cells := 0, slots := 0, locals := 30 } : Room) (kPre D H [.ref (D.2.2.2 8), .int (kI (x)), .int (kI (0)), .int (kI ((8 : Nat) : Int))]) (kQi (fun (r : Int) H' => H' = H ∧ r = lt_ix x) kNO) (0) (0) (kNO) := by
  refine Met.ofW (cc := cJ24_indexOf) (maxL := 4) (ret := (some .int)) (by decide) rfl ?_
  intro p e s m args below meth c s₁ B hml hv
  obtain ⟨rfl, hH, hK⟩ := hv
  subst hH
  have hx := B.exec
  have hb := B.bytes
  have hr := B.returns
  have hts := atoms_spec (ws := ws_ yJ24_indexOf cJ24_indexOf 4 (some .int)) B.pre
  have hts : ∀ w ∈ lw_all, w.before _ s = true := fun w h => hts w (List.mem_cons_of_mem _ h)
  have hown : s.vm.findClass RJ24 = some m.cls := findClass_of_methodNamed B.named
  have hlk := B.notSynchronized
  have hS : va_S kNO s.heap s.heap [] := va_S.rf
  have hB : ∀ q, kNO q → kBase D ≤ q := fun _ h => h.elim
  have hl := lv_entry ([.ref (D.2.2.2 8), .int (kI (x)), .int (kI (0)), .int (kI ((8 : Nat) : Int))]) (n := 4) (Nat.le_of_ble_eq_true rfl)
  rw [lg_entry_eq]
  generalize (lg_sl ([.ref (D.2.2.2 8), .int (kI (x)), .int (kI (0)), .int (kI ((8 : Nat) : Int))]) ++ List.replicate (4 - (lg_sl ([.ref (D.2.2.2 8), .int (kI (x)), .int (kI (0)), .int (kI ((8 : Nat) : Int))])).length) Slot.unset).toArray = ls at hl ⊢
  have hl : lv_has ls 4 [(0, .ref (D.2.2.2 8)), (1, .int (kI (x))), (2, .int (kI (0))), (3, .int (kI ((8 : Nat) : Int)))] := hl
  refine lv_iload_n hx hb dJ24_indexOf_0 rfl (lv_at hl 1 rfl) ?_
  refine kx_cb0 (va_runS (As := [.int (kI (x))]) (rest := []) ⟨hx, hb, hml, hown, hts⟩ (m_J24_canEncode l D s.heap x  (by first | assumption | omega)) (va_cwS 1 hts (lw_S q1601 q1602 q112 q1603) rfl rfl rfl (by decide +kernel) ⟨Nat.le_of_ble_eq_true rfl, Nat.le_of_ble_eq_true rfl⟩) (kx_ps hK hS hB) rfl rfl hl.1 rfl (lv_room (Nat.le_of_ble_eq_true rfl)) dJ24_indexOf_1 ⟨by first | exact Nat.le_of_ble_eq_true rfl | omega | (show _ ≤ _; omega) | (dsimp only [headSpec]; omega), by first | exact Nat.le_of_ble_eq_true rfl | omega | (show _ ≤ _; omega) | (dsimp only [headSpec]; omega)⟩) hS (fun z_4 locs_1 hz_3 hS_2 => ?_)
  subst z_4
  refine kx_ifnz (tgt := 9) hx hb dJ24_indexOf_4 (by decide) (fun c_4_5 => ?_) (fun c_4_5 => ?_)
  · -- taken at 4
    refine lv_iload_n hx hb dJ24_indexOf_9 rfl (lv_at hl 2 rfl) ?_
    refine kx_iconst hx hb dJ24_indexOf_10 ?_
    refine kx_mmax (x := 0) (y := 0) hx hb hml hl.1 hts hown q1604 q389 q102 q390 (by first | exact Nat.le_of_ble_eq_true rfl | omega | (show _ ≤ _; omega) | (dsimp only [headSpec]; omega)) (by first | exact Nat.le_of_ble_eq_true rfl | omega | (show _ ≤ _; omega) | (dsimp only [headSpec]; omega)) (by first | exact Nat.le_of_ble_eq_true rfl | omega | (show _ ≤ _; omega) | (dsimp only [headSpec]; omega)) (by first | exact Nat.le_of_ble_eq_true rfl | omega | (show _ ≤ _; omega) | (dsimp only [headSpec]; omega)) (by omega) (by omega) (by omega) (by omega) dJ24_indexOf_11 ?_
    refine kx_eqi (0) (by decide) ?_
    refine lv_istore_n (lv' := [(2, .int (kI (0))), (0, .ref (D.2.2.2 8)), (1, .int (kI (x))), (3, .int (kI ((8 : Nat) : Int)))]) hx hb dJ24_indexOf_14 rfl hl (by decide) rfl (fun ls hl => ?_)
    refine lv_iload_n hx hb dJ24_indexOf_15 rfl (lv_at hl 3 rfl) ?_
    refine lv_aload_n hx hb dJ24_indexOf_16 rfl (lv_at hl 1 rfl) ?_
    refine kx_tlen hx hb hK.tLt hS_2 hB dJ24_indexOf_17 ?_
    refine kx_mmin (x := ((8 : Nat) : Int)) (y := ((8 : Nat) : Int)) hx hb hml hl.1 hts hown q643 q433 q102 q434 (by first | exact Nat.le_of_ble_eq_true rfl | omega | (show _ ≤ _; omega) | (dsimp only [headSpec]; omega)) (by first | exact Nat.le_of_ble_eq_true rfl | omega | (show _ ≤ _; omega) | (dsimp only [headSpec]; omega)) (by first | exact Nat.le_of_ble_eq_true rfl | omega | (show _ ≤ _; omega) | (dsimp only [headSpec]; omega)) (by first | exact Nat.le_of_ble_eq_true rfl | omega | (show _ ≤ _; omega) | (dsimp only [headSpec]; omega)) (by omega) (by omega) (by omega) (by omega) dJ24_indexOf_18 ?_
    refine kx_eqi (8) (by decide) ?_
    refine lv_istore_n (lv' := [(3, .int (kI (8))), (2, .int (kI (0))), (0, .ref (D.2.2.2 8)), (1, .int (kI (x)))]) hx hb dJ24_indexOf_21 rfl hl (by decide) rfl (fun ls hl => ?_)
    refine lv_iload_n hx hb dJ24_indexOf_22 rfl (lv_at hl 1 rfl) ?_
    refine lv_iload_n hx hb dJ24_indexOf_23 rfl (lv_at hl 0 rfl) ?_
    refine kx_icmp_lt (x := 0) (y := 8) (tgt := 29) hx hb dJ24_indexOf_24 (by decide) (by omega) (by omega) (by omega) (by omega) (fun c_24_6 => ?_) (fun c_24_6 => ?_)
    · -- taken at 24
      refine lv_aload_n hx hb dJ24_indexOf_29 rfl (lv_at hl 2 rfl) ?_
      refine lv_iload_n hx hb dJ24_indexOf_30 rfl (lv_at hl 3 rfl) ?_
      refine lv_iload_n hx hb dJ24_indexOf_31 rfl (lv_at hl 1 rfl) ?_
      refine lv_iload_n hx hb dJ24_indexOf_32 rfl (lv_at hl 0 rfl) ?_
      refine kx_ci0 (va_runS (As := [.ref (D.2.2.2 8), .int (kI (x)), .int (kI (0)), .int (kI (8))]) (rest := []) ⟨hx, hb, hml, hown, hts⟩ (m_J24_indexOfChar l D s.heap x  (by first | assumption | omega)) (va_cwS 4 hts (lw_S q1605 q1606 q112 q1607) rfl rfl rfl (by decide +kernel) ⟨Nat.le_of_ble_eq_true rfl, Nat.le_of_ble_eq_true rfl⟩) (kx_ps hK hS_2 hB) rfl rfl hl.1 rfl (lv_room (Nat.le_of_ble_eq_true rfl)) dJ24_indexOf_33 ⟨by first | exact Nat.le_of_ble_eq_true rfl | omega | (show _ ≤ _; omega) | (dsimp only [headSpec]; omega), by first | exact Nat.le_of_ble_eq_true rfl | omega | (show _ ≤ _; omega) | (dsimp only [headSpec]; omega)⟩) hS_2 (fun z_10 locs_7 hz_9 hS_8 => ?_)
      subst z_10
      exact kx_iret (z := lt_ix x) hx hb hr hlk (⟨rfl, by rfl⟩) hS_8 dJ24_indexOf_36
    · -- not taken at 24
      exfalso; omega
  · -- not taken at 4
    first | exact absurd c_4_5 (by decide) | exact Bool.noConfusion c_4_5 | (simp at c_4_5; done)

set_option maxHeartbeats 4000000 in
set_option maxRecDepth 100000 in
theorem m_J6_indexOf_2 (l : Launch) (D : kG) (H : Heap) (x : Int) (hv : Value) (zv : Value) (hO_D_2_2_2_7 : kO D H (D.2.2.2 7) 12 [.ref (D.2.2.2 8), .int (kI (0)), hv, zv]) (hxr : 0 ≤ x ∧ x < 128) : Met l yJ6_indexOf_2 (ws_ yJ6_indexOf_2 cJ6_indexOf_2 3 (some .int)) ({ frames := 2, cells := 0, slots := 0, locals := 53 } : Room) (kPre D H [.ref (D.2.2.2 7), .int (kI (x)), .int (kI (0))]) (kQi (fun (r : Int) H' => H' = H ∧ r = lt_ix x) kNO) (0) (0) (kNO) := by
  refine Met.ofW (cc := cJ6_indexOf_2) (maxL := 3) (ret := (some .int)) (by decide) rfl ?_
  intro p e s m args below meth c s₁ B hml hv
  obtain ⟨rfl, hH, hK⟩ := hv
  subst hH
  have hx := B.exec
  have hb := B.bytes
  have hr := B.returns
  have hts := atoms_spec (ws := ws_ yJ6_indexOf_2 cJ6_indexOf_2 3 (some .int)) B.pre
  have hts : ∀ w ∈ lw_all, w.before _ s = true := fun w h => hts w (List.mem_cons_of_mem _ h)
  have hown : s.vm.findClass RJ6 = some m.cls := findClass_of_methodNamed B.named
  have hlk := B.notSynchronized
  have hS : va_S kNO s.heap s.heap [] := va_S.rf
  have hB : ∀ q, kNO q → kBase D ≤ q := fun _ h => h.elim
  have hl := lv_entry ([.ref (D.2.2.2 7), .int (kI (x)), .int (kI (0))]) (n := 3) (Nat.le_of_ble_eq_true rfl)
  rw [lg_entry_eq]
  generalize (lg_sl ([.ref (D.2.2.2 7), .int (kI (x)), .int (kI (0))]) ++ List.replicate (3 - (lg_sl ([.ref (D.2.2.2 7), .int (kI (x)), .int (kI (0))])).length) Slot.unset).toArray = ls at hl ⊢
  have hl : lv_has ls 3 [(0, .ref (D.2.2.2 7)), (1, .int (kI (x))), (2, .int (kI (0)))] := hl
  refine lv_aload_n hx hb dJ6_indexOf_2_0 rfl (lv_at hl 0 rfl) ?_
  refine kx_cb0 (va_runV (As := []) (rest := []) ⟨hx, hb, hml, hown, hts⟩ (m_J6_isLatin1 l D s.heap hv zv hO_D_2_2_2_7 ) (cwV 0 hts (lw_V q1593 q1594 q1595 q87 q1596) rfl rfl rfl (by decide +kernel) ⟨Nat.le_of_ble_eq_true rfl, Nat.le_of_ble_eq_true rfl⟩) (kx_pv hK hS hB (kx_rc hK hO_D_2_2_2_7 (C := RJ6) (T := TJ6) (N := 4) rfl)) rfl rfl hl.1 rfl (lv_room (Nat.le_of_ble_eq_true rfl)) dJ6_indexOf_2_1 ⟨by first | exact Nat.le_of_ble_eq_true rfl | omega | (show _ ≤ _; omega) | (dsimp only [headSpec]; omega), by first | exact Nat.le_of_ble_eq_true rfl | omega | (show _ ≤ _; omega) | (dsimp only [headSpec]; omega)⟩) hS (fun z_4 locs_1 hz_3 hS_2 => ?_)
  subst z_4
  refine kx_ifz (tgt := 23) hx hb dJ6_indexOf_2_4 (by decide) (fun c_4_5 => ?_) (fun c_4_5 => ?_)
  · -- taken at 4
    first | exact absurd c_4_5 (by decide) | exact Bool.noConfusion c_4_5 | (simp at c_4_5; done)
  · -- not taken at 4
    refine lv_aload_n hx hb dJ6_indexOf_2_7 rfl (lv_at hl 0 rfl) ?_
    refine kx_get (v := .ref (D.2.2.2 8)) (C := RJ6) (T := TJ6) (N := 4) hx hb hts in_J6 hown hK hO_D_2_2_2_7 rfl 0 (by decide) q1468 (fun _ h9 => h9) rfl dJ6_indexOf_2_8 ?_
    refine lv_iload_n hx hb dJ6_indexOf_2_11 rfl (lv_at hl 1 rfl) ?_
    refine lv_iload_n hx hb dJ6_indexOf_2_12 rfl (lv_at hl 2 rfl) ?_
    refine lv_aload_n hx hb dJ6_indexOf_2_13 rfl (lv_at hl 0 rfl) ?_
    refine kx_ci0 (va_runV (As := []) (rest := [.int (kI (0)), .int (kI (x)), .ref (D.2.2.2 8)]) ⟨hx, hb, hml, hown, hts⟩ (m_J6_length l D s.heap hv zv hO_D_2_2_2_7 ) (cwV 0 hts (lw_V q1597 q1356 q1357 q87 q1358) rfl rfl rfl (by decide +kernel) ⟨Nat.le_of_ble_eq_true rfl, Nat.le_of_ble_eq_true rfl⟩) (kx_pv hK hS_2 hB (kx_rc hK hO_D_2_2_2_7 (C := RJ6) (T := TJ6) (N := 4) rfl)) rfl rfl hl.1 rfl (lv_room (Nat.le_of_ble_eq_true rfl)) dJ6_indexOf_2_14 ⟨by first | exact Nat.le_of_ble_eq_true rfl | omega | (show _ ≤ _; omega) | (dsimp only [headSpec]; omega), by first | exact Nat.le_of_ble_eq_true rfl | omega | (show _ ≤ _; omega) | (dsimp only [headSpec]; omega)⟩) hS_2 (fun z_9 locs_6 hz_8 hS_7 => ?_)
    subst z_9
    refine kx_ci0 (va_runS (As := [.ref (D.2.2.2 8), .int (kI (x)), .int (kI (0)), .int (kI ((8 : Nat) : Int))]) (rest := []) ⟨hx, hb, hml, hown, hts⟩ (m_J24_indexOf l D s.heap x  (by first | assumption | omega)) (va_cwS 4 hts (lw_S q1598 q1599 q112 q1600) rfl rfl rfl (by decide +kernel) ⟨Nat.le_of_ble_eq_true rfl, Nat.le_of_ble_eq_true rfl⟩) (kx_ps hK hS_7 hB) rfl rfl hl.1 rfl (lv_room (Nat.le_of_ble_eq_true rfl)) dJ6_indexOf_2_17 ⟨by first | exact Nat.le_of_ble_eq_true rfl | omega | (show _ ≤ _; omega) | (dsimp only [headSpec]; omega), by first | exact Nat.le_of_ble_eq_true rfl | omega | (show _ ≤ _; omega) | (dsimp only [headSpec]; omega)⟩) hS_7 (fun z_13 locs_10 hz_12 hS_11 => ?_)
    subst z_13
    refine lv_goto (tgt := 36) hx hb dJ6_indexOf_2_20 (by decide) ?_
    exact kx_iret (z := lt_ix x) hx hb hr hlk (⟨rfl, by rfl⟩) hS_11 dJ6_indexOf_2_36

set_option maxHeartbeats 4000000 in
set_option maxRecDepth 100000 in
theorem m_J6_indexOf (l : Launch) (D : kG) (H : Heap) (x : Int) (hv : Value) (zv : Value) (hO_D_2_2_2_7 : kO D H (D.2.2.2 7) 12 [.ref (D.2.2.2 8), .int (kI (0)), hv, zv]) (hxr : 0 ≤ x ∧ x < 128) : Met l yJ6_indexOf (ws_ yJ6_indexOf cJ6_indexOf 2 (some .int)) ({ frames := 3, cells := 0, slots := 0, locals := 75 } : Room) (kPre D H [.ref (D.2.2.2 7), .int (kI (x))]) (kQi (fun (r : Int) H' => H' = H ∧ r = lt_ix x) kNO) (0) (0) (kNO) := by
  refine Met.ofW (cc := cJ6_indexOf) (maxL := 2) (ret := (some .int)) (by decide) rfl ?_
  intro p e s m args below meth c s₁ B hml hv
  obtain ⟨rfl, hH, hK⟩ := hv
  subst hH
  have hx := B.exec
  have hb := B.bytes
  have hr := B.returns
  have hts := atoms_spec (ws := ws_ yJ6_indexOf cJ6_indexOf 2 (some .int)) B.pre
  have hts : ∀ w ∈ lw_all, w.before _ s = true := fun w h => hts w (List.mem_cons_of_mem _ h)
  have hown : s.vm.findClass RJ6 = some m.cls := findClass_of_methodNamed B.named
  have hlk := B.notSynchronized
  have hS : va_S kNO s.heap s.heap [] := va_S.rf
  have hB : ∀ q, kNO q → kBase D ≤ q := fun _ h => h.elim
  have hl := lv_entry ([.ref (D.2.2.2 7), .int (kI (x))]) (n := 2) (Nat.le_of_ble_eq_true rfl)
  rw [lg_entry_eq]
  generalize (lg_sl ([.ref (D.2.2.2 7), .int (kI (x))]) ++ List.replicate (2 - (lg_sl ([.ref (D.2.2.2 7), .int (kI (x))])).length) Slot.unset).toArray = ls at hl ⊢
  have hl : lv_has ls 2 [(0, .ref (D.2.2.2 7)), (1, .int (kI (x)))] := hl
  refine lv_aload_n hx hb dJ6_indexOf_0 rfl (lv_at hl 0 rfl) ?_
  refine lv_iload_n hx hb dJ6_indexOf_1 rfl (lv_at hl 1 rfl) ?_
  refine kx_iconst hx hb dJ6_indexOf_2 ?_
  refine kx_ci0 (va_runV (As := [.int (kI (x)), .int (kI (0))]) (rest := []) ⟨hx, hb, hml, hown, hts⟩ (m_J6_indexOf_2 l D s.heap x hv zv hO_D_2_2_2_7 (by first | assumption | omega)) (cwV 2 hts (lw_V q1589 q1590 q1591 q87 q1592) rfl rfl rfl (by decide +kernel) ⟨Nat.le_of_ble_eq_true rfl, Nat.le_of_ble_eq_true rfl⟩) (kx_pv hK hS hB (kx_rc hK hO_D_2_2_2_7 (C := RJ6) (T := TJ6) (N := 4) rfl)) rfl rfl hl.1 rfl (lv_room (Nat.le_of_ble_eq_true rfl)) dJ6_indexOf_3 ⟨by first | exact Nat.le_of_ble_eq_true rfl | omega | (show _ ≤ _; omega) | (dsimp only [headSpec]; omega), by first | exact Nat.le_of_ble_eq_true rfl | omega | (show _ ≤ _; omega) | (dsimp only [headSpec]; omega)⟩) hS (fun z_4 locs_1 hz_3 hS_2 => ?_)
  subst z_4
  exact kx_iret (z := lt_ix x) hx hb hr hlk (⟨rfl, by rfl⟩) hS_2 dJ6_indexOf_6

