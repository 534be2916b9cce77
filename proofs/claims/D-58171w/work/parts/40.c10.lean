/-! MATH 26: the fine map -/
section KX5
variable {p : Program} {l : Launch} {e : Env} {R : Room} {s : State} {m : MethodId} {args : Array Value} {below : List Frame} {meth : Method} {c : Code} {H : Heap} {locs : List Loc} {cells slots : Nat} {Q : State → Prop}
variable {cc : ByteArray} {pc : Nat} {ls : Array Slot} {rest : List Value}
def t2 (x : Int) : Int := if x % 2 = 0 then 0 else if x < 0 then -1 else 1
theorem kI_t2n : ∀ n : Nat, n < 111 → kI ((n : Int) - 10) - kI ((n : Int) - 10) / kI 2 * kI 2 = kI (t2 ((n : Int) - 10)) := by decide +kernel
theorem kI_t2 {x : Int} (x1 : -10 ≤ x) (x2 : x ≤ 100) : kI x - kI x / kI 2 * kI 2 = kI (t2 x) := by
  have h := kI_t2n (x + 10).toNat (by omega)
  rw [show (((x + 10).toNat : Nat) : Int) - 10 = x by omega] at h
  exact h
theorem kx_iremT (hx : p.tables.exec = Jvm.exec) (hb : c.code = cc) {x : Int} (x1 : -10 ≤ x) (x2 : x ≤ 100) (d : decode cc pc = .ok (.irem, 1)) (k : W p l e R s m args below meth c H locs cells slots Q (F0 m (pc + 1) ls (.int (kI (t2 x)) :: rest))) : W p l e R s m args below meth c H locs cells slots Q (F0 m pc ls (.int (kI 2) :: .int (kI x) :: rest)) :=
  lv_irem hx hb d (kI_ne0 (by decide) (by decide)) (by rw [kI_t2 x1 x2]; exact k)
theorem t2_0 (x : Int) : (t2 x = 0 ↔ x % 2 = 0) ∧ -1 ≤ t2 x ∧ t2 x ≤ 1 := by unfold t2; split; omega; split <;> omega
end KX5
def f_spot (p : Int) : Int := 102 * (p / 24 + 1) + 2 * (p % 24 + 1)
/-- the point of the map at a place of the fine map -/
def f_pt (c r : Int) : Int := if c % 2 = 0 ∧ r % 2 = 0 ∧ 0 < c ∧ c ≤ 48 ∧ 0 < r ∧ r ≤ 32 then 24 * (r / 2 - 1) + c / 2 - 1 else -1
def f_st (L : Ln) (a b : Int) : Bool := decide (a ≠ -1) && (decide (b ≠ -1) && ln_step L a b)
def f_bar (L : Ln) (c r d : Int) : Bool := decide (d % 2 = 1) && (f_st L (f_pt (c + ac d) r) (f_pt (c - ac d) (r + 2 * dn d)) || f_st L (f_pt c (r + dn d)) (f_pt (c + 2 * ac d) (r - dn d)))
theorem f_pt_rng (c r : Int) : -1 ≤ f_pt c r ∧ f_pt c r ≤ 383 := by unfold f_pt; split <;> omega
/-- the fine map with the first k points and steps of a line -/
def f_map (L : Ln) : Nat → Nat → Int
  | 0 => fun _ => 0
  | k + 1 => kup (kup (f_map L k) (f_spot (ln_pos L k)).toNat 1) (f_spot (ln_pos L k) + 51 * dn (ln_d L k) + ac (ln_d L k)).toNat 1
set_option maxHeartbeats 4000000 in
set_option maxRecDepth 100000 in
theorem m_X2_spot (l : Launch) (D : kG) (H : Heap) (x : Int) (hpt : 0 ≤ x ∧ x ≤ 383) : Met l yX2_spot (ws_ yX2_spot cX2_spot 1 (some .int)) ({ frames := 1, cells := 0, slots := 0, locals := 20 } : Room) (kPre D H [.int (kI (x))]) (kQi (fun (r : Int) H' => H' = H ∧ r = f_spot x) kNO) (0) (0) (kNO) := by
  refine Met.ofW (cc := cX2_spot) (maxL := 1) (ret := (some .int)) (by decide) rfl ?_
  intro p e s m args below meth c s₁ B hml hv
  obtain ⟨rfl, hH, hK⟩ := hv
  subst hH
  have hx := B.exec
  have hb := B.bytes
  have hr := B.returns
  have hts := atoms_spec (ws := ws_ yX2_spot cX2_spot 1 (some .int)) B.pre
  have hts : ∀ w ∈ lw_all, w.before _ s = true := fun w h => hts w (List.mem_cons_of_mem _ h)
  have hown : s.vm.findClass RX2 = some m.cls := findClass_of_methodNamed B.named
  have hlk := B.notSynchronized
  have hS : va_S kNO s.heap s.heap [] := va_S.rf
  have hB : ∀ q, kNO q → kBase D ≤ q := fun _ h => h.elim
  have hl := lv_entry ([.int (kI (x))]) (n := 1) (Nat.le_of_ble_eq_true rfl)
  rw [lg_entry_eq]
  generalize (lg_sl ([.int (kI (x))]) ++ List.replicate (1 - (lg_sl ([.int (kI (x))])).length) Slot.unset).toArray = ls at hl ⊢
  have hl : lv_has ls 1 [(0, .int (kI (x)))] := hl
  refine kx_bipush hx hb (by decide) dX2_spot_0 ?_
  refine lv_iload_n hx hb dX2_spot_2 rfl (lv_at hl 0 rfl) ?_
  refine kx_ci0 (va_runSN (As := [.int (kI (x))]) (rest := [.int (kI (102))]) ⟨hx, hb, hml, hown, hts⟩ (m_X1_row l D s.heap x  (by first | assumption | omega)) ⟨va_cnB 1 hts (lw_meth q1144) rfl rfl rfl (hK.w q2106 rfl) (hts _ q79) (by decide +kernel) ⟨Nat.le_of_ble_eq_true rfl, Nat.le_of_ble_eq_true rfl⟩, hts _ q1143, trivial⟩ (kx_ps hK hS hB) rfl rfl hl.1 rfl (lv_room (Nat.le_of_ble_eq_true rfl)) dX2_spot_3 ⟨by first | exact Nat.le_of_ble_eq_true rfl | omega | (show _ ≤ _; omega) | (dsimp only [headSpec]; omega), by first | exact Nat.le_of_ble_eq_true rfl | omega | (show _ ≤ _; omega) | (dsimp only [headSpec]; omega)⟩) hS (fun z_4 locs_1 hz_3 hS_2 => ?_)
  subst z_4
  refine kx_iconst hx hb dX2_spot_6 ?_
  refine kx_iadd hx hb dX2_spot_7 ?_
  refine kx_imul hx hb dX2_spot_8 ?_
  refine kx_iconst hx hb dX2_spot_9 ?_
  refine lv_iload_n hx hb dX2_spot_10 rfl (lv_at hl 0 rfl) ?_
  refine kx_ci0 (va_runSN (As := [.int (kI (x))]) (rest := [.int (kI (2)), .int (kI ((102 * (x / 24 + 1))))]) ⟨hx, hb, hml, hown, hts⟩ (m_X1_column l D s.heap x  (by first | assumption | omega)) ⟨va_cnB 1 hts (lw_meth q1154) rfl rfl rfl (hK.w q2107 rfl) (hts _ q79) (by decide +kernel) ⟨Nat.le_of_ble_eq_true rfl, Nat.le_of_ble_eq_true rfl⟩, hts _ q1153, trivial⟩ (kx_ps hK hS_2 hB) rfl rfl hl.1 rfl (lv_room (Nat.le_of_ble_eq_true rfl)) dX2_spot_11 ⟨by first | exact Nat.le_of_ble_eq_true rfl | omega | (show _ ≤ _; omega) | (dsimp only [headSpec]; omega), by first | exact Nat.le_of_ble_eq_true rfl | omega | (show _ ≤ _; omega) | (dsimp only [headSpec]; omega)⟩) hS_2 (fun z_8 locs_5 hz_7 hS_6 => ?_)
  subst z_8
  refine kx_iconst hx hb dX2_spot_14 ?_
  refine kx_iadd hx hb dX2_spot_15 ?_
  refine kx_imul hx hb dX2_spot_16 ?_
  refine kx_iadd hx hb dX2_spot_17 ?_
  exact kx_iret (z := ((102 * (x / 24 + 1)) + (2 * (x % 24 + 1)))) hx hb hr hlk (⟨rfl, by rfl⟩) hS_6 dX2_spot_18

set_option maxHeartbeats 4000000 in
set_option maxRecDepth 100000 in
theorem m_X2_pointAt (l : Launch) (D : kG) (H : Heap) (x : Int) (y : Int) (hpx : -10 ≤ x ∧ x ≤ 100) (hpy : -10 ≤ y ∧ y ≤ 100) : Met l yX2_pointAt (ws_ yX2_pointAt cX2_pointAt 3 (some .int)) ({ frames := 0, cells := 0, slots := 0, locals := 0 } : Room) (kPre D H [.int (kI (x)), .int (kI (y))]) (kQi (fun (r : Int) H' => H' = H ∧ r = f_pt x y) kNO) (0) (0) (kNO) := by
  refine Met.ofW (cc := cX2_pointAt) (maxL := 3) (ret := (some .int)) (by decide) rfl ?_
  intro p e s m args below meth c s₁ B hml hv
  obtain ⟨rfl, hH, hK⟩ := hv
  subst hH
  have hx := B.exec
  have hb := B.bytes
  have hr := B.returns
  have hts := atoms_spec (ws := ws_ yX2_pointAt cX2_pointAt 3 (some .int)) B.pre
  have hts : ∀ w ∈ lw_all, w.before _ s = true := fun w h => hts w (List.mem_cons_of_mem _ h)
  have hown : s.vm.findClass RX2 = some m.cls := findClass_of_methodNamed B.named
  have hlk := B.notSynchronized
  have hS : va_S kNO s.heap s.heap [] := va_S.rf
  have hB : ∀ q, kNO q → kBase D ≤ q := fun _ h => h.elim
  have hl := lv_entry ([.int (kI (x)), .int (kI (y))]) (n := 3) (Nat.le_of_ble_eq_true rfl)
  rw [lg_entry_eq]
  generalize (lg_sl ([.int (kI (x)), .int (kI (y))]) ++ List.replicate (3 - (lg_sl ([.int (kI (x)), .int (kI (y))])).length) Slot.unset).toArray = ls at hl ⊢
  have hl : lv_has ls 3 [(0, .int (kI (x))), (1, .int (kI (y)))] := hl
  have t3 := t2_0 x
  have t9 := t2_0 y
  refine lv_iload_n hx hb dX2_pointAt_0 rfl (lv_at hl 0 rfl) ?_
  refine kx_iconst hx hb dX2_pointAt_1 ?_
  refine kx_iremT (x := x) hx hb (by omega) (by omega) dX2_pointAt_2 ?_
  refine kx_if_ne (x := (t2 x)) (tgt := 36) hx hb dX2_pointAt_3 (by decide) (by omega) (by omega) (fun c3 => ?_) (fun c3 => ?_)
  · -- taken at 3
    refine kx_iconst hx hb dX2_pointAt_36 ?_
    refine lv_istore_n (lv' := [(2, .int (kI (0))), (0, .int (kI (x))), (1, .int (kI (y)))]) hx hb dX2_pointAt_37 rfl hl (by decide) rfl (fun ls hl => ?_)
    refine lv_iload_n hx hb dX2_pointAt_38 rfl (lv_at hl 0 rfl) ?_
    refine kx_if_eq (x := 0) (tgt := 59) hx hb dX2_pointAt_39 (by decide) (by omega) (by omega) (fun c_39_1 => ?_) (fun c_39_1 => ?_)
    · -- taken at 39
      refine kx_iconst hx hb dX2_pointAt_59 ?_
      exact kx_iret (z := (-1)) hx hb hr hlk (⟨rfl, by unfold f_pt; first | (rw [if_pos ⟨by omega, by omega, by omega, by omega, by omega, by omega⟩]; done) | (rw [if_neg (by omega)]; done)⟩) hS dX2_pointAt_60
    · -- not taken at 39
      exfalso; omega
  · -- not taken at 3
    refine lv_iload_n hx hb dX2_pointAt_6 rfl (lv_at hl 1 rfl) ?_
    refine kx_iconst hx hb dX2_pointAt_7 ?_
    refine kx_iremT (x := y) hx hb (by omega) (by omega) dX2_pointAt_8 ?_
    refine kx_if_ne (x := (t2 y)) (tgt := 36) hx hb dX2_pointAt_9 (by decide) (by omega) (by omega) (fun c9 => ?_) (fun c9 => ?_)
    · -- taken at 9
      refine kx_iconst hx hb dX2_pointAt_36 ?_
      refine lv_istore_n (lv' := [(2, .int (kI (0))), (0, .int (kI (x))), (1, .int (kI (y)))]) hx hb dX2_pointAt_37 rfl hl (by decide) rfl (fun ls hl => ?_)
      refine lv_iload_n hx hb dX2_pointAt_38 rfl (lv_at hl 0 rfl) ?_
      refine kx_if_eq (x := 0) (tgt := 59) hx hb dX2_pointAt_39 (by decide) (by omega) (by omega) (fun c_39_2 => ?_) (fun c_39_2 => ?_)
      · -- taken at 39
        refine kx_iconst hx hb dX2_pointAt_59 ?_
        exact kx_iret (z := (-1)) hx hb hr hlk (⟨rfl, by unfold f_pt; first | (rw [if_pos ⟨by omega, by omega, by omega, by omega, by omega, by omega⟩]; done) | (rw [if_neg (by omega)]; done)⟩) hS dX2_pointAt_60
      · -- not taken at 39
        exfalso; omega
    · -- not taken at 9
      refine lv_iload_n hx hb dX2_pointAt_12 rfl (lv_at hl 0 rfl) ?_
      refine kx_if_le (x := x) (tgt := 36) hx hb dX2_pointAt_13 (by decide) (by omega) (by omega) (fun c_13_3 => ?_) (fun c_13_3 => ?_)
      · -- taken at 13
        refine kx_iconst hx hb dX2_pointAt_36 ?_
        refine lv_istore_n (lv' := [(2, .int (kI (0))), (0, .int (kI (x))), (1, .int (kI (y)))]) hx hb dX2_pointAt_37 rfl hl (by decide) rfl (fun ls hl => ?_)
        refine lv_iload_n hx hb dX2_pointAt_38 rfl (lv_at hl 0 rfl) ?_
        refine kx_if_eq (x := 0) (tgt := 59) hx hb dX2_pointAt_39 (by decide) (by omega) (by omega) (fun c_39_4 => ?_) (fun c_39_4 => ?_)
        · -- taken at 39
          refine kx_iconst hx hb dX2_pointAt_59 ?_
          exact kx_iret (z := (-1)) hx hb hr hlk (⟨rfl, by unfold f_pt; first | (rw [if_pos ⟨by omega, by omega, by omega, by omega, by omega, by omega⟩]; done) | (rw [if_neg (by omega)]; done)⟩) hS dX2_pointAt_60
        · -- not taken at 39
          exfalso; omega
      · -- not taken at 13
        refine lv_iload_n hx hb dX2_pointAt_16 rfl (lv_at hl 0 rfl) ?_
        refine kx_bipush hx hb (by decide) dX2_pointAt_17 ?_
        refine kx_icmp_gt (x := x) (y := 48) (tgt := 36) hx hb dX2_pointAt_19 (by decide) (by omega) (by omega) (by omega) (by omega) (fun c_19_5 => ?_) (fun c_19_5 => ?_)
        · -- taken at 19
          refine kx_iconst hx hb dX2_pointAt_36 ?_
          refine lv_istore_n (lv' := [(2, .int (kI (0))), (0, .int (kI (x))), (1, .int (kI (y)))]) hx hb dX2_pointAt_37 rfl hl (by decide) rfl (fun ls hl => ?_)
          refine lv_iload_n hx hb dX2_pointAt_38 rfl (lv_at hl 0 rfl) ?_
          refine kx_if_eq (x := 0) (tgt := 59) hx hb dX2_pointAt_39 (by decide) (by omega) (by omega) (fun c_39_6 => ?_) (fun c_39_6 => ?_)
          · -- taken at 39
            refine kx_iconst hx hb dX2_pointAt_59 ?_
            exact kx_iret (z := (-1)) hx hb hr hlk (⟨rfl, by unfold f_pt; first | (rw [if_pos ⟨by omega, by omega, by omega, by omega, by omega, by omega⟩]; done) | (rw [if_neg (by omega)]; done)⟩) hS dX2_pointAt_60
          · -- not taken at 39
            exfalso; omega
        · -- not taken at 19
          refine lv_iload_n hx hb dX2_pointAt_22 rfl (lv_at hl 1 rfl) ?_
          refine kx_if_le (x := y) (tgt := 36) hx hb dX2_pointAt_23 (by decide) (by omega) (by omega) (fun c_23_7 => ?_) (fun c_23_7 => ?_)
          · -- taken at 23
            refine kx_iconst hx hb dX2_pointAt_36 ?_
            refine lv_istore_n (lv' := [(2, .int (kI (0))), (0, .int (kI (x))), (1, .int (kI (y)))]) hx hb dX2_pointAt_37 rfl hl (by decide) rfl (fun ls hl => ?_)
            refine lv_iload_n hx hb dX2_pointAt_38 rfl (lv_at hl 0 rfl) ?_
            refine kx_if_eq (x := 0) (tgt := 59) hx hb dX2_pointAt_39 (by decide) (by omega) (by omega) (fun c_39_8 => ?_) (fun c_39_8 => ?_)
            · -- taken at 39
              refine kx_iconst hx hb dX2_pointAt_59 ?_
              exact kx_iret (z := (-1)) hx hb hr hlk (⟨rfl, by unfold f_pt; first | (rw [if_pos ⟨by omega, by omega, by omega, by omega, by omega, by omega⟩]; done) | (rw [if_neg (by omega)]; done)⟩) hS dX2_pointAt_60
            · -- not taken at 39
              exfalso; omega
          · -- not taken at 23
            refine lv_iload_n hx hb dX2_pointAt_26 rfl (lv_at hl 1 rfl) ?_
            refine kx_bipush hx hb (by decide) dX2_pointAt_27 ?_
            refine kx_icmp_gt (x := y) (y := 32) (tgt := 36) hx hb dX2_pointAt_29 (by decide) (by omega) (by omega) (by omega) (by omega) (fun c_29_9 => ?_) (fun c_29_9 => ?_)
            · -- taken at 29
              refine kx_iconst hx hb dX2_pointAt_36 ?_
              refine lv_istore_n (lv' := [(2, .int (kI (0))), (0, .int (kI (x))), (1, .int (kI (y)))]) hx hb dX2_pointAt_37 rfl hl (by decide) rfl (fun ls hl => ?_)
              refine lv_iload_n hx hb dX2_pointAt_38 rfl (lv_at hl 0 rfl) ?_
              refine kx_if_eq (x := 0) (tgt := 59) hx hb dX2_pointAt_39 (by decide) (by omega) (by omega) (fun c_39_10 => ?_) (fun c_39_10 => ?_)
              · -- taken at 39
                refine kx_iconst hx hb dX2_pointAt_59 ?_
                exact kx_iret (z := (-1)) hx hb hr hlk (⟨rfl, by unfold f_pt; first | (rw [if_pos ⟨by omega, by omega, by omega, by omega, by omega, by omega⟩]; done) | (rw [if_neg (by omega)]; done)⟩) hS dX2_pointAt_60
              · -- not taken at 39
                exfalso; omega
            · -- not taken at 29
              refine kx_iconst hx hb dX2_pointAt_32 ?_
              refine lv_goto (tgt := 37) hx hb dX2_pointAt_33 (by decide) ?_
              refine lv_istore_n (lv' := [(2, .int (kI (1))), (0, .int (kI (x))), (1, .int (kI (y)))]) hx hb dX2_pointAt_37 rfl hl (by decide) rfl (fun ls hl => ?_)
              refine lv_iload_n hx hb dX2_pointAt_38 rfl (lv_at hl 0 rfl) ?_
              refine kx_if_eq (x := 1) (tgt := 59) hx hb dX2_pointAt_39 (by decide) (by omega) (by omega) (fun c_39_11 => ?_) (fun c_39_11 => ?_)
              · -- taken at 39
                exfalso; omega
              · -- not taken at 39
                refine kx_bipush hx hb (by decide) dX2_pointAt_42 ?_
                refine lv_iload_n hx hb dX2_pointAt_44 rfl (lv_at hl 2 rfl) ?_
                refine kx_iconst hx hb dX2_pointAt_45 ?_
                refine kx_idiv (x := y) (y := 2) hx hb (by omega) (by omega) (by omega) (by omega) dX2_pointAt_46 ?_
                refine kx_iconst hx hb dX2_pointAt_47 ?_
                refine kx_isub hx hb dX2_pointAt_48 ?_
                refine kx_imul hx hb dX2_pointAt_49 ?_
                refine lv_iload_n hx hb dX2_pointAt_50 rfl (lv_at hl 1 rfl) ?_
                refine kx_iconst hx hb dX2_pointAt_51 ?_
                refine kx_idiv (x := x) (y := 2) hx hb (by omega) (by omega) (by omega) (by omega) dX2_pointAt_52 ?_
                refine kx_iadd hx hb dX2_pointAt_53 ?_
                refine kx_iconst hx hb dX2_pointAt_54 ?_
                refine kx_isub hx hb dX2_pointAt_55 ?_
                refine lv_goto (tgt := 60) hx hb dX2_pointAt_56 (by decide) ?_
                exact kx_iret (z := (((24 * ((y / 2) - 1)) + (x / 2)) - 1)) hx hb hr hlk (⟨rfl, by unfold f_pt; first | (rw [if_pos ⟨by omega, by omega, by omega, by omega, by omega, by omega⟩]; done) | (rw [if_neg (by omega)]; done)⟩) hS dX2_pointAt_60

set_option maxHeartbeats 4000000 in
set_option maxRecDepth 100000 in
theorem m_X2_isStep (l : Launch) (D : kG) (H : Heap) (a : Nat) (pa : Nat) (sa : Nat) (ea : Nat) (gp : Nat → Int) (gs : Nat → Int) (L : Ln) (x : Int) (y : Int) (hO_a : kO D H a 3 [.int (kI (ln_lv L)), .ref pa, .ref sa, .int (kI ((ln_n L : Nat) : Int)), .ref ea, .int (kI (ln_lb L))]) (hA_pa : kAi D H pa 61 gp) (hA_sa : kAi D H sa 60 gs) (hM : MLn gp gs L) (hok : LnOK L) (hr_x : -2147483648 ≤ x ∧ x ≤ 2147483647) (hr_y : -2147483648 ≤ y ∧ y ≤ 2147483647) : Met l yX2_isStep (ws_ yX2_isStep cX2_isStep 3 (some .boolean)) ({ frames := 1, cells := 0, slots := 0, locals := 24 } : Room) (kPre D H [.ref a, .int (kI (x)), .int (kI (y))]) (kQb (fun (r : Bool) H' => H' = H ∧ r = f_st L x y) kNO) (0) (0) (kNO) := by
  refine Met.ofW (cc := cX2_isStep) (maxL := 3) (ret := (some .boolean)) (by decide) rfl ?_
  intro p e s m args below meth c s₁ B hml hv
  obtain ⟨rfl, hH, hK⟩ := hv
  subst hH
  have hx := B.exec
  have hb := B.bytes
  have hr := B.returns
  have hts := atoms_spec (ws := ws_ yX2_isStep cX2_isStep 3 (some .boolean)) B.pre
  have hts : ∀ w ∈ lw_all, w.before _ s = true := fun w h => hts w (List.mem_cons_of_mem _ h)
  have hown : s.vm.findClass RX2 = some m.cls := findClass_of_methodNamed B.named
  have hlk := B.notSynchronized
  have hS : va_S kNO s.heap s.heap [] := va_S.rf
  have hB : ∀ q, kNO q → kBase D ≤ q := fun _ h => h.elim
  have hl := lv_entry ([.ref a, .int (kI (x)), .int (kI (y))]) (n := 3) (Nat.le_of_ble_eq_true rfl)
  rw [lg_entry_eq]
  generalize (lg_sl ([.ref a, .int (kI (x)), .int (kI (y))]) ++ List.replicate (3 - (lg_sl ([.ref a, .int (kI (x)), .int (kI (y))])).length) Slot.unset).toArray = ls at hl ⊢
  have hl : lv_has ls 3 [(0, .ref a), (1, .int (kI (x))), (2, .int (kI (y)))] := hl
  refine lv_iload_n hx hb dX2_isStep_0 rfl (lv_at hl 1 rfl) ?_
  refine kx_iconst hx hb dX2_isStep_1 ?_
  refine kx_icmp_eq (x := x) (y := (-1)) (tgt := 23) hx hb dX2_isStep_2 (by decide) (by omega) (by omega) (by omega) (by omega) (fun c_2_1 => ?_) (fun c_2_1 => ?_)
  · -- taken at 2
    refine kx_iconst hx hb dX2_isStep_23 ?_
    exact kx_zret (z := false) hx hb hr hlk (⟨rfl, by unfold f_st; simp [*]⟩) hS dX2_isStep_24
  · -- not taken at 2
    refine lv_iload_n hx hb dX2_isStep_5 rfl (lv_at hl 2 rfl) ?_
    refine kx_iconst hx hb dX2_isStep_6 ?_
    refine kx_icmp_eq (x := y) (y := (-1)) (tgt := 23) hx hb dX2_isStep_7 (by decide) (by omega) (by omega) (by omega) (by omega) (fun c_7_2 => ?_) (fun c_7_2 => ?_)
    · -- taken at 7
      refine kx_iconst hx hb dX2_isStep_23 ?_
      exact kx_zret (z := false) hx hb hr hlk (⟨rfl, by unfold f_st; simp [*]⟩) hS dX2_isStep_24
    · -- not taken at 7
      refine lv_aload_n hx hb dX2_isStep_10 rfl (lv_at hl 0 rfl) ?_
      refine lv_iload_n hx hb dX2_isStep_11 rfl (lv_at hl 1 rfl) ?_
      refine lv_iload_n hx hb dX2_isStep_12 rfl (lv_at hl 2 rfl) ?_
      refine kx_cb0 (va_runV (As := [.int (kI (x)), .int (kI (y))]) (rest := []) ⟨hx, hb, hml, hown, hts⟩ (m_X4_hasStep l D s.heap a pa sa ea gp gs L x y hO_a hA_pa hA_sa (by first | assumption | omega) (by first | assumption | omega) (by first | assumption | omega) (by first | assumption | omega)) (cwV 2 hts (lw_V q1723 q1724 q1725 q99 q1726) rfl rfl rfl (by decide +kernel) ⟨Nat.le_of_ble_eq_true rfl, Nat.le_of_ble_eq_true rfl⟩) (kx_pv hK hS hB (kx_rc hK hO_a (C := RX4) (T := TX4) (N := 6) rfl)) rfl rfl hl.1 rfl (lv_room (Nat.le_of_ble_eq_true rfl)) dX2_isStep_13 ⟨by first | exact Nat.le_of_ble_eq_true rfl | omega | (show _ ≤ _; omega) | (dsimp only [headSpec]; omega), by first | exact Nat.le_of_ble_eq_true rfl | omega | (show _ ≤ _; omega) | (dsimp only [headSpec]; omega)⟩) hS (fun z_6 locs_3 hz_5 hS_4 => ?_)
      subst z_6
      refine kx_ifz (tgt := 23) hx hb dX2_isStep_16 (by decide) (fun c_16_7 => ?_) (fun c_16_7 => ?_)
      · -- taken at 16
        refine kx_iconst hx hb dX2_isStep_23 ?_
        exact kx_zret (z := false) hx hb hr hlk (⟨rfl, by unfold f_st; simp [*]⟩) hS_4 dX2_isStep_24
      · -- not taken at 16
        refine kx_iconst hx hb dX2_isStep_19 ?_
        refine lv_goto (tgt := 24) hx hb dX2_isStep_20 (by decide) ?_
        exact kx_zret (z := true) hx hb hr hlk (⟨rfl, by unfold f_st; simp [*]⟩) hS_4 dX2_isStep_24

set_option maxHeartbeats 4000000 in
set_option maxRecDepth 100000 in
theorem m_X2_isBarred (l : Launch) (D : kG) (H : Heap) (a : Nat) (pa : Nat) (sa : Nat) (ea : Nat) (gp : Nat → Int) (gs : Nat → Int) (L : Ln) (x : Int) (y : Int) (d : Int) (hO_a : kO D H a 3 [.int (kI (ln_lv L)), .ref pa, .ref sa, .int (kI ((ln_n L : Nat) : Int)), .ref ea, .int (kI (ln_lb L))]) (hA_pa : kAi D H pa 61 gp) (hA_sa : kAi D H sa 60 gs) (hM : MLn gp gs L) (hok : LnOK L) (hpx : 0 ≤ x ∧ x ≤ 60) (hpy : 0 ≤ y ∧ y ≤ 60) (hd : 0 ≤ d ∧ d ≤ 7) : Met l yX2_isBarred (ws_ yX2_isBarred cX2_isBarred 8 (some .boolean)) ({ frames := 2, cells := 0, slots := 0, locals := 46 } : Room) (kPre D H [.ref a, .int (kI (x)), .int (kI (y)), .int (kI (d))]) (kQb (fun (r : Bool) H' => H' = H ∧ r = f_bar L x y d) kNO) (0) (0) (kNO) := by
  refine Met.ofW (cc := cX2_isBarred) (maxL := 8) (ret := (some .boolean)) (by decide) rfl ?_
  intro p e s m args below meth c s₁ B hml hv
  obtain ⟨rfl, hH, hK⟩ := hv
  subst hH
  have hx := B.exec
  have hb := B.bytes
  have hr := B.returns
  have hts := atoms_spec (ws := ws_ yX2_isBarred cX2_isBarred 8 (some .boolean)) B.pre
  have hts : ∀ w ∈ lw_all, w.before _ s = true := fun w h => hts w (List.mem_cons_of_mem _ h)
  have hown : s.vm.findClass RX2 = some m.cls := findClass_of_methodNamed B.named
  have hlk := B.notSynchronized
  have hS : va_S kNO s.heap s.heap [] := va_S.rf
  have hB : ∀ q, kNO q → kBase D ≤ q := fun _ h => h.elim
  have hl := lv_entry ([.ref a, .int (kI (x)), .int (kI (y)), .int (kI (d))]) (n := 8) (Nat.le_of_ble_eq_true rfl)
  rw [lg_entry_eq]
  generalize (lg_sl ([.ref a, .int (kI (x)), .int (kI (y)), .int (kI (d))]) ++ List.replicate (8 - (lg_sl ([.ref a, .int (kI (x)), .int (kI (y)), .int (kI (d))])).length) Slot.unset).toArray = ls at hl ⊢
  have hl : lv_has ls 8 [(0, .ref a), (1, .int (kI (x))), (2, .int (kI (y))), (3, .int (kI (d)))] := hl
  have hac := ac_rng d
  have hdn := dn_rng d
  have r1 := f_pt_rng (x + ac d) y
  have r2 := f_pt_rng (x - ac d) (y + 2 * dn d)
  have r3 := f_pt_rng x (y + dn d)
  have r4 := f_pt_rng (x + 2 * ac d) (y - dn d)
  refine kx_getsN (v := .ref (D.2.2.2 0)) hx hb hK.sA hS hB hown (hK.w q1718 rfl) (fun _ h9 => h9) dX2_isBarred_0 ?_
  refine lv_iload_n hx hb dX2_isBarred_3 rfl (lv_at hl 3 rfl) ?_
  refine kx_tab hx hb hK.tA hS hB d.toNat (by omega) (by omega) (by decide) dX2_isBarred_4 ?_
  refine lv_istore (lv' := [(4, .int (kI ((ac d)))), (0, .ref a), (1, .int (kI (x))), (2, .int (kI (y))), (3, .int (kI (d)))]) hx hb dX2_isBarred_5 hl (by decide) rfl (fun ls hl => ?_)
  refine kx_getsN (v := .ref (D.2.2.2 1)) hx hb hK.sD hS hB hown (hK.w q1719 rfl) (fun _ h9 => h9) dX2_isBarred_7 ?_
  refine lv_iload_n hx hb dX2_isBarred_10 rfl (lv_at hl 4 rfl) ?_
  refine kx_tab hx hb hK.tD hS hB d.toNat (by omega) (by omega) (by decide) dX2_isBarred_11 ?_
  refine lv_istore (lv' := [(5, .int (kI ((dn d)))), (4, .int (kI ((ac d)))), (0, .ref a), (1, .int (kI (x))), (2, .int (kI (y))), (3, .int (kI (d)))]) hx hb dX2_isBarred_12 hl (by decide) rfl (fun ls hl => ?_)
  refine lv_aload_n hx hb dX2_isBarred_14 rfl (lv_at hl 2 rfl) ?_
  refine lv_iload_n hx hb dX2_isBarred_15 rfl (lv_at hl 3 rfl) ?_
  refine lv_iload hx hb dX2_isBarred_16 (lv_at hl 1 rfl) ?_
  refine kx_iadd hx hb dX2_isBarred_18 ?_
  refine lv_iload_n hx hb dX2_isBarred_19 rfl (lv_at hl 4 rfl) ?_
  refine kx_ci0 (va_runS (As := [.int (kI ((x + (ac d)))), .int (kI (y))]) (rest := [.ref a]) ⟨hx, hb, hml, hown, hts⟩ (m_X2_pointAt l D s.heap ((x + (ac d))) y  (by first | assumption | omega) (by first | assumption | omega)) (va_cwS 2 hts (lw_S q2111 q2112 q80 q2113) rfl rfl rfl (by decide +kernel) ⟨Nat.le_of_ble_eq_true rfl, Nat.le_of_ble_eq_true rfl⟩) (kx_ps hK hS hB) rfl rfl hl.1 rfl (lv_room (Nat.le_of_ble_eq_true rfl)) dX2_isBarred_20 ⟨by first | exact Nat.le_of_ble_eq_true rfl | omega | (show _ ≤ _; omega) | (dsimp only [headSpec]; omega), by first | exact Nat.le_of_ble_eq_true rfl | omega | (show _ ≤ _; omega) | (dsimp only [headSpec]; omega)⟩) hS (fun z_4 locs_1 hz_3 hS_2 => ?_)
  subst z_4
  refine lv_iload_n hx hb dX2_isBarred_23 rfl (lv_at hl 3 rfl) ?_
  refine lv_iload hx hb dX2_isBarred_24 (lv_at hl 1 rfl) ?_
  refine kx_isub hx hb dX2_isBarred_26 ?_
  refine lv_iload_n hx hb dX2_isBarred_27 rfl (lv_at hl 4 rfl) ?_
  refine kx_iconst hx hb dX2_isBarred_28 ?_
  refine lv_iload hx hb dX2_isBarred_29 (lv_at hl 0 rfl) ?_
  refine kx_imul hx hb dX2_isBarred_31 ?_
  refine kx_iadd hx hb dX2_isBarred_32 ?_
  refine kx_ci0 (va_runS (As := [.int (kI ((x - (ac d)))), .int (kI ((y + (2 * (dn d)))))]) (rest := [.int (kI (f_pt ((x + (ac d))) y)), .ref a]) ⟨hx, hb, hml, hown, hts⟩ (m_X2_pointAt l D s.heap ((x - (ac d))) ((y + (2 * (dn d))))  (by first | assumption | omega) (by first | assumption | omega)) (va_cwS 2 hts (lw_S q2111 q2112 q80 q2113) rfl rfl rfl (by decide +kernel) ⟨Nat.le_of_ble_eq_true rfl, Nat.le_of_ble_eq_true rfl⟩) (kx_ps hK hS_2 hB) rfl rfl hl.1 rfl (lv_room (Nat.le_of_ble_eq_true rfl)) dX2_isBarred_33 ⟨by first | exact Nat.le_of_ble_eq_true rfl | omega | (show _ ≤ _; omega) | (dsimp only [headSpec]; omega), by first | exact Nat.le_of_ble_eq_true rfl | omega | (show _ ≤ _; omega) | (dsimp only [headSpec]; omega)⟩) hS_2 (fun z_8 locs_5 hz_7 hS_6 => ?_)
  subst z_8
  refine kx_cb0 (va_runS (As := [.ref a, .int (kI (f_pt ((x + (ac d))) y)), .int (kI (f_pt ((x - (ac d))) ((y + (2 * (dn d))))))]) (rest := []) ⟨hx, hb, hml, hown, hts⟩ (m_X2_isStep l D s.heap a pa sa ea gp gs L (f_pt ((x + (ac d))) y) (f_pt ((x - (ac d))) ((y + (2 * (dn d))))) hO_a hA_pa hA_sa (by first | assumption | omega) (by first | assumption | omega) (by first | assumption | omega) (by first | assumption | omega)) (va_cwS 3 hts (lw_S q2114 q2115 q80 q2116) rfl rfl rfl (by decide +kernel) ⟨Nat.le_of_ble_eq_true rfl, Nat.le_of_ble_eq_true rfl⟩) (kx_ps hK hS_6 hB) rfl rfl hl.1 rfl (lv_room (Nat.le_of_ble_eq_true rfl)) dX2_isBarred_36 ⟨by first | exact Nat.le_of_ble_eq_true rfl | omega | (show _ ≤ _; omega) | (dsimp only [headSpec]; omega), by first | exact Nat.le_of_ble_eq_true rfl | omega | (show _ ≤ _; omega) | (dsimp only [headSpec]; omega)⟩) hS_6 (fun z_12 locs_9 hz_11 hS_10 => ?_)
  subst z_12
  refine lv_istore (lv' := [(6, .int (kI (kb (f_st L (f_pt ((x + (ac d))) y) (f_pt ((x - (ac d))) ((y + (2 * (dn d))))))))), (5, .int (kI ((dn d)))), (4, .int (kI ((ac d)))), (0, .ref a), (1, .int (kI (x))), (2, .int (kI (y))), (3, .int (kI (d)))]) hx hb dX2_isBarred_39 hl (by decide) rfl (fun ls hl => ?_)
  refine lv_aload_n hx hb dX2_isBarred_41 rfl (lv_at hl 3 rfl) ?_
  refine lv_iload_n hx hb dX2_isBarred_42 rfl (lv_at hl 4 rfl) ?_
  refine lv_iload_n hx hb dX2_isBarred_43 rfl (lv_at hl 5 rfl) ?_
  refine lv_iload hx hb dX2_isBarred_44 (lv_at hl 1 rfl) ?_
  refine kx_iadd hx hb dX2_isBarred_46 ?_
  refine kx_ci0 (va_runS (As := [.int (kI (x)), .int (kI ((y + (dn d))))]) (rest := [.ref a]) ⟨hx, hb, hml, hown, hts⟩ (m_X2_pointAt l D s.heap x ((y + (dn d)))  (by first | assumption | omega) (by first | assumption | omega)) (va_cwS 2 hts (lw_S q2111 q2112 q80 q2113) rfl rfl rfl (by decide +kernel) ⟨Nat.le_of_ble_eq_true rfl, Nat.le_of_ble_eq_true rfl⟩) (kx_ps hK hS_10 hB) rfl rfl hl.1 rfl (lv_room (Nat.le_of_ble_eq_true rfl)) dX2_isBarred_47 ⟨by first | exact Nat.le_of_ble_eq_true rfl | omega | (show _ ≤ _; omega) | (dsimp only [headSpec]; omega), by first | exact Nat.le_of_ble_eq_true rfl | omega | (show _ ≤ _; omega) | (dsimp only [headSpec]; omega)⟩) hS_10 (fun z_16 locs_13 hz_15 hS_14 => ?_)
  subst z_16
  refine lv_iload_n hx hb dX2_isBarred_50 rfl (lv_at hl 4 rfl) ?_
  refine kx_iconst hx hb dX2_isBarred_51 ?_
  refine lv_iload hx hb dX2_isBarred_52 (lv_at hl 2 rfl) ?_
  refine kx_imul hx hb dX2_isBarred_54 ?_
  refine kx_iadd hx hb dX2_isBarred_55 ?_
  refine lv_iload_n hx hb dX2_isBarred_56 rfl (lv_at hl 5 rfl) ?_
  refine lv_iload hx hb dX2_isBarred_57 (lv_at hl 1 rfl) ?_
  refine kx_isub hx hb dX2_isBarred_59 ?_
  refine kx_ci0 (va_runS (As := [.int (kI ((x + (2 * (ac d))))), .int (kI ((y - (dn d))))]) (rest := [.int (kI (f_pt x ((y + (dn d))))), .ref a]) ⟨hx, hb, hml, hown, hts⟩ (m_X2_pointAt l D s.heap ((x + (2 * (ac d)))) ((y - (dn d)))  (by first | assumption | omega) (by first | assumption | omega)) (va_cwS 2 hts (lw_S q2111 q2112 q80 q2113) rfl rfl rfl (by decide +kernel) ⟨Nat.le_of_ble_eq_true rfl, Nat.le_of_ble_eq_true rfl⟩) (kx_ps hK hS_14 hB) rfl rfl hl.1 rfl (lv_room (Nat.le_of_ble_eq_true rfl)) dX2_isBarred_60 ⟨by first | exact Nat.le_of_ble_eq_true rfl | omega | (show _ ≤ _; omega) | (dsimp only [headSpec]; omega), by first | exact Nat.le_of_ble_eq_true rfl | omega | (show _ ≤ _; omega) | (dsimp only [headSpec]; omega)⟩) hS_14 (fun z_20 locs_17 hz_19 hS_18 => ?_)
  subst z_20
  refine kx_cb0 (va_runS (As := [.ref a, .int (kI (f_pt x ((y + (dn d))))), .int (kI (f_pt ((x + (2 * (ac d)))) ((y - (dn d)))))]) (rest := []) ⟨hx, hb, hml, hown, hts⟩ (m_X2_isStep l D s.heap a pa sa ea gp gs L (f_pt x ((y + (dn d)))) (f_pt ((x + (2 * (ac d)))) ((y - (dn d)))) hO_a hA_pa hA_sa (by first | assumption | omega) (by first | assumption | omega) (by first | assumption | omega) (by first | assumption | omega)) (va_cwS 3 hts (lw_S q2114 q2115 q80 q2116) rfl rfl rfl (by decide +kernel) ⟨Nat.le_of_ble_eq_true rfl, Nat.le_of_ble_eq_true rfl⟩) (kx_ps hK hS_18 hB) rfl rfl hl.1 rfl (lv_room (Nat.le_of_ble_eq_true rfl)) dX2_isBarred_63 ⟨by first | exact Nat.le_of_ble_eq_true rfl | omega | (show _ ≤ _; omega) | (dsimp only [headSpec]; omega), by first | exact Nat.le_of_ble_eq_true rfl | omega | (show _ ≤ _; omega) | (dsimp only [headSpec]; omega)⟩) hS_18 (fun z_24 locs_21 hz_23 hS_22 => ?_)
  subst z_24
  refine lv_istore (lv' := [(7, .int (kI (kb (f_st L (f_pt x ((y + (dn d)))) (f_pt ((x + (2 * (ac d)))) ((y - (dn d)))))))), (6, .int (kI (kb (f_st L (f_pt ((x + (ac d))) y) (f_pt ((x - (ac d))) ((y + (2 * (dn d))))))))), (5, .int (kI ((dn d)))), (4, .int (kI ((ac d)))), (0, .ref a), (1, .int (kI (x))), (2, .int (kI (y))), (3, .int (kI (d)))]) hx hb dX2_isBarred_66 hl (by decide) rfl (fun ls hl => ?_)
  refine lv_iload_n hx hb dX2_isBarred_68 rfl (lv_at hl 7 rfl) ?_
  refine kx_cb0 (va_runSN (As := [.int (kI (d))]) (rest := []) ⟨hx, hb, hml, hown, hts⟩ (m_X1_isSlanting l D s.heap d  (by first | assumption | omega)) ⟨va_cnB 1 hts (lw_meth q1722) rfl rfl rfl (hK.w q1720 rfl) (hts _ q79) (by decide +kernel) ⟨Nat.le_of_ble_eq_true rfl, Nat.le_of_ble_eq_true rfl⟩, hts _ q1721, trivial⟩ (kx_ps hK hS_22 hB) rfl rfl hl.1 rfl (lv_room (Nat.le_of_ble_eq_true rfl)) dX2_isBarred_69 ⟨by first | exact Nat.le_of_ble_eq_true rfl | omega | (show _ ≤ _; omega) | (dsimp only [headSpec]; omega), by first | exact Nat.le_of_ble_eq_true rfl | omega | (show _ ≤ _; omega) | (dsimp only [headSpec]; omega)⟩) hS_22 (fun z_28 locs_25 hz_27 hS_26 => ?_)
  subst z_28
  refine kx_ifz (tgt := 89) hx hb dX2_isBarred_72 (by decide) (fun c_72_29 => ?_) (fun c_72_29 => ?_)
  · -- taken at 72
    have c_72_29 := of_decide_eq_false c_72_29
    refine kx_iconst hx hb dX2_isBarred_89 ?_
    exact kx_zret (z := false) hx hb hr hlk (⟨rfl, by unfold f_bar; simp [*]⟩) hS_26 dX2_isBarred_90
  · -- not taken at 72
    have c_72_29 := of_decide_eq_true c_72_29
    refine lv_iload hx hb dX2_isBarred_75 (lv_at hl 1 rfl) ?_
    refine kx_ifnz (tgt := 85) hx hb dX2_isBarred_77 (by decide) (fun c_77_30 => ?_) (fun c_77_30 => ?_)
    · -- taken at 77
      refine kx_iconst hx hb dX2_isBarred_85 ?_
      refine lv_goto (tgt := 90) hx hb dX2_isBarred_86 (by decide) ?_
      exact kx_zret (z := true) hx hb hr hlk (⟨rfl, by unfold f_bar; simp [*]⟩) hS_26 dX2_isBarred_90
    · -- not taken at 77
      refine lv_iload hx hb dX2_isBarred_80 (lv_at hl 0 rfl) ?_
      refine kx_ifz (tgt := 89) hx hb dX2_isBarred_82 (by decide) (fun c_82_31 => ?_) (fun c_82_31 => ?_)
      · -- taken at 82
        refine kx_iconst hx hb dX2_isBarred_89 ?_
        exact kx_zret (z := false) hx hb hr hlk (⟨rfl, by unfold f_bar; simp [*]⟩) hS_26 dX2_isBarred_90
      · -- not taken at 82
        refine kx_iconst hx hb dX2_isBarred_85 ?_
        refine lv_goto (tgt := 90) hx hb dX2_isBarred_86 (by decide) ?_
        exact kx_zret (z := true) hx hb hr hlk (⟨rfl, by unfold f_bar; simp [*]⟩) hS_26 dX2_isBarred_90

