/-! MATH 30: boxes, candidates -/
section KX6
variable {p : Program} {l : Launch} {e : Env} {R : Room} {s : State} {m : MethodId} {args : Array Value} {below : List Frame} {meth : Method} {c : Code} {H : Heap} {locs : List Loc} {cells slots : Nat} {Q : State → Prop}
variable {cc : ByteArray} {pc : Nat} {ls : Array Slot} {rest : List Value} {D : kG} {A : Nat → Prop}
theorem kx_tabq (hx : p.tables.exec = Jvm.exec) (hb : c.code = cc) {C : String} {t N : Nat} {g : Nat → Nat} (hT : va_T (.object C) t N (fun j => .ref (g j)) (kOld D) s s.heap) (hS : va_S A s.heap H locs) (hB : ∀ q, A q → kBase D ≤ q) {i : Int} (j : Nat) (hi : i = (j : Int)) (hj : j < N) (hN : N < 2147483648) (dd : decode cc pc = .ok (.aaload, 1)) (kk : W p l e R s m args below meth c H locs cells slots Q (F0 m (pc + 1) ls (.ref (g j) :: rest))) : W p l e R s m args below meth c H locs cells slots Q (F0 m pc ls (.int (kI i) :: .ref t :: rest)) :=
  vb_tq hx hb (hT.narrow hB) hS (kI_in hi hj hN) (by rw [kI_cl hi (by omega)]) dd kk
end KX6
/-- places with the least bends first, then the furthest, then by numbers -/
def cd_cmp (p1 b1 f1 p2 b2 f2 : Int) : Int := if b1 ≠ b2 then b1 - b2 else if f1 ≠ f2 then f2 - f1 else p1 - p2
def i_cmp (x y : Int) : Int := if x < y then -1 else if x = y then 0 else 1
set_option maxHeartbeats 4000000 in
set_option maxRecDepth 100000 in
theorem m_J22_init (l : Launch) (D : kG) (H : Heap) (a : Nat) : Met l yJ22_init (ws_ yJ22_init cJ22_init 1 none) ({ frames := 1, cells := 0, slots := 0, locals := 20 } : Room) (kPre D H [.ref a]) (kQv (fun H' => H' = H ∧ True) kNO) (0) (0) (kNO) := by
  refine Met.ofW (cc := cJ22_init) (maxL := 1) (ret := none) (by decide) rfl ?_
  intro p e s m args below meth c s₁ B hml hv
  obtain ⟨rfl, hH, hK⟩ := hv
  subst hH
  have hx := B.exec
  have hb := B.bytes
  have hr := B.returns
  have hts := atoms_spec (ws := ws_ yJ22_init cJ22_init 1 none) B.pre
  have hts : ∀ w ∈ lw_all, w.before _ s = true := fun w h => hts w (List.mem_cons_of_mem _ h)
  have hown : s.vm.findClass RJ22 = some m.cls := findClass_of_methodNamed B.named
  have hlk := B.notSynchronized
  have hin : meth.name = "<init>" := (name_of_methodNamed B.named B.method).1
  have hS : va_S kNO s.heap s.heap [] := va_S.rf
  have hB : ∀ q, kNO q → kBase D ≤ q := fun _ h => h.elim
  have hl := lv_entry ([.ref a]) (n := 1) (Nat.le_of_ble_eq_true rfl)
  rw [lg_entry_eq]
  generalize (lg_sl ([.ref a]) ++ List.replicate (1 - (lg_sl ([.ref a])).length) Slot.unset).toArray = ls at hl ⊢
  have hl : lv_has ls 1 [(0, .ref a)] := hl
  refine lv_aload_n hx hb dJ22_init_0 rfl (lv_at hl 0 rfl) ?_
  refine W.objInit hx hb hown (hts _ q582) (hts _ q133) (hts _ q134) rfl (by rw [hml]; exact hl.1) rfl dJ22_init_1 (Nat.le_of_ble_eq_true rfl) (Nat.le_of_ble_eq_true rfl) ?_
  refine W.eq (g2 := F0 m 4 ls []) rfl ?_
  exact kx_vret hx hb hr hlk (⟨rfl, trivial⟩) hS dJ22_init_4

set_option maxHeartbeats 4000000 in
set_option maxRecDepth 100000 in
theorem m_X7_init (l : Launch) (D : kG) (H : Heap) (a : Nat) : Met l yX7_init (ws_ yX7_init cX7_init 1 none) ({ frames := 1, cells := 0, slots := 0, locals := 20 } : Room) (kPre D H [.ref a]) (kQv (fun H' => H' = H ∧ True) kNO) (0) (0) (kNO) := by
  refine Met.ofW (cc := cX7_init) (maxL := 1) (ret := none) (by decide) rfl ?_
  intro p e s m args below meth c s₁ B hml hv
  obtain ⟨rfl, hH, hK⟩ := hv
  subst hH
  have hx := B.exec
  have hb := B.bytes
  have hr := B.returns
  have hts := atoms_spec (ws := ws_ yX7_init cX7_init 1 none) B.pre
  have hts : ∀ w ∈ lw_all, w.before _ s = true := fun w h => hts w (List.mem_cons_of_mem _ h)
  have hown : s.vm.findClass RX7 = some m.cls := findClass_of_methodNamed B.named
  have hlk := B.notSynchronized
  have hin : meth.name = "<init>" := (name_of_methodNamed B.named B.method).1
  have hS : va_S kNO s.heap s.heap [] := va_S.rf
  have hB : ∀ q, kNO q → kBase D ≤ q := fun _ h => h.elim
  have hl := lv_entry ([.ref a]) (n := 1) (Nat.le_of_ble_eq_true rfl)
  rw [lg_entry_eq]
  generalize (lg_sl ([.ref a]) ++ List.replicate (1 - (lg_sl ([.ref a])).length) Slot.unset).toArray = ls at hl ⊢
  have hl : lv_has ls 1 [(0, .ref a)] := hl
  refine lv_aload_n hx hb dX7_init_0 rfl (lv_at hl 0 rfl) ?_
  refine W.objInit hx hb hown (hts _ q1024) (hts _ q133) (hts _ q134) rfl (by rw [hml]; exact hl.1) rfl dX7_init_1 (Nat.le_of_ble_eq_true rfl) (Nat.le_of_ble_eq_true rfl) ?_
  refine W.eq (g2 := F0 m 4 ls []) rfl ?_
  exact kx_vret hx hb hr hlk (⟨rfl, trivial⟩) hS dX7_init_4

set_option maxHeartbeats 4000000 in
set_option maxRecDepth 100000 in
theorem m_X8_init (l : Launch) (D : kG) (H : Heap) (a : Nat) (x : Int) (y : Int) (z : Int) (hO_a : kO D H a 7 [.int (kI (0)), .int (kI (0)), .int (kI (0))]) (bs_a : kBase D ≤ a) : Met l yX8_init (ws_ yX8_init cX8_init 4 none) ({ frames := 1, cells := 0, slots := 0, locals := 20 } : Room) (kPre D H [.ref a, .int (kI (x)), .int (kI (y)), .int (kI (z))]) (kQv (fun H' => (kO D H' a 7 [.int (kI (x)), .int (kI (y)), .int (kI (z))])) (fun q : Nat => q = a)) (0) (0) ((fun q : Nat => q = a)) := by
  refine Met.ofW (cc := cX8_init) (maxL := 4) (ret := none) (by decide) rfl ?_
  intro p e s m args below meth c s₁ B hml hv
  obtain ⟨rfl, hH, hK⟩ := hv
  subst hH
  have hx := B.exec
  have hb := B.bytes
  have hr := B.returns
  have hts := atoms_spec (ws := ws_ yX8_init cX8_init 4 none) B.pre
  have hts : ∀ w ∈ lw_all, w.before _ s = true := fun w h => hts w (List.mem_cons_of_mem _ h)
  have hown : s.vm.findClass RX8 = some m.cls := findClass_of_methodNamed B.named
  have hlk := B.notSynchronized
  have hin : meth.name = "<init>" := (name_of_methodNamed B.named B.method).1
  have hS : va_S (fun q : Nat => q = a) s.heap s.heap [] := va_S.rf
  have hB : ∀ q, (fun q : Nat => q = a) q → kBase D ≤ q := fun q h => by (try dsimp only at h); (try simp only [kNW] at h); have hks := hK.size; omega
  have hl := lv_entry ([.ref a, .int (kI (x)), .int (kI (y)), .int (kI (z))]) (n := 4) (Nat.le_of_ble_eq_true rfl)
  rw [lg_entry_eq]
  generalize (lg_sl ([.ref a, .int (kI (x)), .int (kI (y)), .int (kI (z))]) ++ List.replicate (4 - (lg_sl ([.ref a, .int (kI (x)), .int (kI (y)), .int (kI (z))])).length) Slot.unset).toArray = ls at hl ⊢
  have hl : lv_has ls 4 [(0, .ref a), (1, .int (kI (x))), (2, .int (kI (y))), (3, .int (kI (z)))] := hl
  refine lv_aload_n hx hb dX8_init_0 rfl (lv_at hl 0 rfl) ?_
  refine W.objInit hx hb hown (hts _ q1184) (hts _ q133) (hts _ q134) rfl (by rw [hml]; exact hl.1) rfl dX8_init_1 (Nat.le_of_ble_eq_true rfl) (Nat.le_of_ble_eq_true rfl) ?_
  refine W.eq (g2 := F0 m 4 ls []) rfl ?_
  refine lv_aload_n hx hb dX8_init_4 rfl (lv_at hl 0 rfl) ?_
  refine lv_iload_n hx hb dX8_init_5 rfl (lv_at hl 1 rfl) ?_
  refine kx_putF (v := .int (kI (x))) (C := RX8) (T := TX8) (N := 3) hx hb hts in_X8 hown hK hO_a rfl 0 (by decide) tyX8 tyX8_ok nmX8 hS (by first | rfl | exact Or.inl rfl | exact Or.inr rfl | exact Or.inr (Or.inl rfl) | exact Or.inr (Or.inr rfl) | exact Or.inr (Or.inr (Or.inl rfl)) | exact Or.inr (Or.inr (Or.inr rfl)) | ((try dsimp only); (try simp only [kNW]); omega)) q1185 (fun _ h9 => h9) rfl hin rfl rfl rfl rfl (Nat.le_of_ble_eq_true rfl) dX8_init_6 (fun H_3 locs_4 hO_2 hU_1 hS_5 => ?_)
  have hO_2 : kO D H_3 a 7 [.int (kI (x)), .int (kI (0)), .int (kI (0))] := hO_2
  have hzu_6 := hU_1.1
  refine lv_aload_n hx hb dX8_init_9 rfl (lv_at hl 0 rfl) ?_
  refine lv_iload_n hx hb dX8_init_10 rfl (lv_at hl 2 rfl) ?_
  refine kx_putF (v := .int (kI (y))) (C := RX8) (T := TX8) (N := 3) hx hb hts in_X8 hown hK hO_2 rfl 1 (by decide) tyX8 tyX8_ok nmX8 hS_5 (by first | rfl | exact Or.inl rfl | exact Or.inr rfl | exact Or.inr (Or.inl rfl) | exact Or.inr (Or.inr rfl) | exact Or.inr (Or.inr (Or.inl rfl)) | exact Or.inr (Or.inr (Or.inr rfl)) | ((try dsimp only); (try simp only [kNW]); omega)) q1188 (fun _ h9 => h9) rfl hin rfl rfl rfl rfl (Nat.le_of_ble_eq_true rfl) dX8_init_11 (fun H_9 locs_10 hO_8 hU_7 hS_11 => ?_)
  have hO_8 : kO D H_9 a 7 [.int (kI (x)), .int (kI (y)), .int (kI (0))] := hO_8
  have hzu_12 := hU_7.1
  refine lv_aload_n hx hb dX8_init_14 rfl (lv_at hl 0 rfl) ?_
  refine lv_iload_n hx hb dX8_init_15 rfl (lv_at hl 3 rfl) ?_
  refine kx_putF (v := .int (kI (z))) (C := RX8) (T := TX8) (N := 3) hx hb hts in_X8 hown hK hO_8 rfl 2 (by decide) tyX8 tyX8_ok nmX8 hS_11 (by first | rfl | exact Or.inl rfl | exact Or.inr rfl | exact Or.inr (Or.inl rfl) | exact Or.inr (Or.inr rfl) | exact Or.inr (Or.inr (Or.inl rfl)) | exact Or.inr (Or.inr (Or.inr rfl)) | ((try dsimp only); (try simp only [kNW]); omega)) q1190 (fun _ h9 => h9) rfl hin rfl rfl rfl rfl (Nat.le_of_ble_eq_true rfl) dX8_init_16 (fun H_15 locs_16 hO_14 hU_13 hS_17 => ?_)
  have hO_14 : kO D H_15 a 7 [.int (kI (x)), .int (kI (y)), .int (kI (z))] := hO_14
  have hzu_18 := hU_13.1
  exact kx_vret hx hb hr hlk (hO_14) hS_17 dX8_init_19

set_option maxHeartbeats 4000000 in
set_option maxRecDepth 100000 in
theorem m_X7_compare_2 (l : Launch) (D : kG) (H : Heap) (t : Nat) (a : Nat) (b : Nat) (p1 : Int) (b1 : Int) (f1 : Int) (p2 : Int) (b2 : Int) (f2 : Int) (hO_a : kO D H a 7 [.int (kI (p1)), .int (kI (b1)), .int (kI (f1))]) (hO_b : kO D H b 7 [.int (kI (p2)), .int (kI (b2)), .int (kI (f2))]) (hr_p1 : -10000 ≤ p1 ∧ p1 ≤ 10000) (hr_b1 : -10000 ≤ b1 ∧ b1 ≤ 10000) (hr_f1 : -10000 ≤ f1 ∧ f1 ≤ 10000) (hr_p2 : -10000 ≤ p2 ∧ p2 ≤ 10000) (hr_b2 : -10000 ≤ b2 ∧ b2 ≤ 10000) (hr_f2 : -10000 ≤ f2 ∧ f2 ≤ 10000) : Met l yX7_compare_2 (ws_ yX7_compare_2 cX7_compare_2 3 (some .int)) ({ frames := 0, cells := 0, slots := 0, locals := 0 } : Room) (kPre D H [.ref t, .ref a, .ref b]) (kQi (fun (r : Int) H' => H' = H ∧ r = cd_cmp p1 b1 f1 p2 b2 f2) kNO) (0) (0) (kNO) := by
  refine Met.ofW (cc := cX7_compare_2) (maxL := 3) (ret := (some .int)) (by decide) rfl ?_
  intro p e s m args below meth c s₁ B hml hv
  obtain ⟨rfl, hH, hK⟩ := hv
  subst hH
  have hx := B.exec
  have hb := B.bytes
  have hr := B.returns
  have hts := atoms_spec (ws := ws_ yX7_compare_2 cX7_compare_2 3 (some .int)) B.pre
  have hts : ∀ w ∈ lw_all, w.before _ s = true := fun w h => hts w (List.mem_cons_of_mem _ h)
  have hown : s.vm.findClass RX7 = some m.cls := findClass_of_methodNamed B.named
  have hlk := B.notSynchronized
  have hS : va_S kNO s.heap s.heap [] := va_S.rf
  have hB : ∀ q, kNO q → kBase D ≤ q := fun _ h => h.elim
  have hl := lv_entry ([.ref t, .ref a, .ref b]) (n := 3) (Nat.le_of_ble_eq_true rfl)
  rw [lg_entry_eq]
  generalize (lg_sl ([.ref t, .ref a, .ref b]) ++ List.replicate (3 - (lg_sl ([.ref t, .ref a, .ref b])).length) Slot.unset).toArray = ls at hl ⊢
  have hl : lv_has ls 3 [(0, .ref t), (1, .ref a), (2, .ref b)] := hl
  refine lv_aload_n hx hb dX7_compare_2_0 rfl (lv_at hl 1 rfl) ?_
  refine kx_get (v := .int (kI (b1))) (C := RX8) (T := TX8) (N := 3) hx hb hts in_X8 hown hK hO_a rfl 1 (by decide) q1189 (fun _ h9 => h9) rfl dX7_compare_2_1 ?_
  refine lv_aload_n hx hb dX7_compare_2_4 rfl (lv_at hl 2 rfl) ?_
  refine kx_get (v := .int (kI (b2))) (C := RX8) (T := TX8) (N := 3) hx hb hts in_X8 hown hK hO_b rfl 1 (by decide) q1189 (fun _ h9 => h9) rfl dX7_compare_2_5 ?_
  refine kx_icmp_eq (x := b1) (y := b2) (tgt := 21) hx hb dX7_compare_2_8 (by decide) (by omega) (by omega) (by omega) (by omega) (fun c_8_1 => ?_) (fun c_8_1 => ?_)
  · -- taken at 8
    refine lv_aload_n hx hb dX7_compare_2_21 rfl (lv_at hl 1 rfl) ?_
    refine kx_get (v := .int (kI (f1))) (C := RX8) (T := TX8) (N := 3) hx hb hts in_X8 hown hK hO_a rfl 2 (by decide) q1191 (fun _ h9 => h9) rfl dX7_compare_2_22 ?_
    refine lv_aload_n hx hb dX7_compare_2_25 rfl (lv_at hl 2 rfl) ?_
    refine kx_get (v := .int (kI (f2))) (C := RX8) (T := TX8) (N := 3) hx hb hts in_X8 hown hK hO_b rfl 2 (by decide) q1191 (fun _ h9 => h9) rfl dX7_compare_2_26 ?_
    refine kx_icmp_eq (x := f1) (y := f2) (tgt := 44) hx hb dX7_compare_2_29 (by decide) (by omega) (by omega) (by omega) (by omega) (fun c_29_2 => ?_) (fun c_29_2 => ?_)
    · -- taken at 29
      refine lv_aload_n hx hb dX7_compare_2_44 rfl (lv_at hl 1 rfl) ?_
      refine kx_get (v := .int (kI (p1))) (C := RX8) (T := TX8) (N := 3) hx hb hts in_X8 hown hK hO_a rfl 0 (by decide) q1186 (fun _ h9 => h9) rfl dX7_compare_2_45 ?_
      refine lv_aload_n hx hb dX7_compare_2_48 rfl (lv_at hl 2 rfl) ?_
      refine kx_get (v := .int (kI (p2))) (C := RX8) (T := TX8) (N := 3) hx hb hts in_X8 hown hK hO_b rfl 0 (by decide) q1186 (fun _ h9 => h9) rfl dX7_compare_2_49 ?_
      refine kx_isub hx hb dX7_compare_2_52 ?_
      exact kx_iret (z := (p1 - p2)) hx hb hr hlk (⟨rfl, by unfold cd_cmp; grind⟩) hS dX7_compare_2_53
    · -- not taken at 29
      refine lv_aload_n hx hb dX7_compare_2_32 rfl (lv_at hl 2 rfl) ?_
      refine kx_get (v := .int (kI (f2))) (C := RX8) (T := TX8) (N := 3) hx hb hts in_X8 hown hK hO_b rfl 2 (by decide) q1191 (fun _ h9 => h9) rfl dX7_compare_2_33 ?_
      refine lv_aload_n hx hb dX7_compare_2_36 rfl (lv_at hl 1 rfl) ?_
      refine kx_get (v := .int (kI (f1))) (C := RX8) (T := TX8) (N := 3) hx hb hts in_X8 hown hK hO_a rfl 2 (by decide) q1191 (fun _ h9 => h9) rfl dX7_compare_2_37 ?_
      refine kx_isub hx hb dX7_compare_2_40 ?_
      refine lv_goto (tgt := 53) hx hb dX7_compare_2_41 (by decide) ?_
      exact kx_iret (z := (f2 - f1)) hx hb hr hlk (⟨rfl, by unfold cd_cmp; grind⟩) hS dX7_compare_2_53
  · -- not taken at 8
    refine lv_aload_n hx hb dX7_compare_2_11 rfl (lv_at hl 1 rfl) ?_
    refine kx_get (v := .int (kI (b1))) (C := RX8) (T := TX8) (N := 3) hx hb hts in_X8 hown hK hO_a rfl 1 (by decide) q1189 (fun _ h9 => h9) rfl dX7_compare_2_12 ?_
    refine lv_aload_n hx hb dX7_compare_2_15 rfl (lv_at hl 2 rfl) ?_
    refine kx_get (v := .int (kI (b2))) (C := RX8) (T := TX8) (N := 3) hx hb hts in_X8 hown hK hO_b rfl 1 (by decide) q1189 (fun _ h9 => h9) rfl dX7_compare_2_16 ?_
    refine kx_isub hx hb dX7_compare_2_19 ?_
    exact kx_iret (z := (b1 - b2)) hx hb hr hlk (⟨rfl, by unfold cd_cmp; grind⟩) hS dX7_compare_2_20

set_option maxHeartbeats 4000000 in
set_option maxRecDepth 100000 in
theorem m_X7_compare (l : Launch) (D : kG) (H : Heap) (t : Nat) (a : Nat) (b : Nat) (p1 : Int) (b1 : Int) (f1 : Int) (p2 : Int) (b2 : Int) (f2 : Int) (hO_t : kO D H t 6 []) (hO_a : kO D H a 7 [.int (kI (p1)), .int (kI (b1)), .int (kI (f1))]) (hO_b : kO D H b 7 [.int (kI (p2)), .int (kI (b2)), .int (kI (f2))]) (hr_p1 : -10000 ≤ p1 ∧ p1 ≤ 10000) (hr_b1 : -10000 ≤ b1 ∧ b1 ≤ 10000) (hr_f1 : -10000 ≤ f1 ∧ f1 ≤ 10000) (hr_p2 : -10000 ≤ p2 ∧ p2 ≤ 10000) (hr_b2 : -10000 ≤ b2 ∧ b2 ≤ 10000) (hr_f2 : -10000 ≤ f2 ∧ f2 ≤ 10000) : Met l yX7_compare (ws_ yX7_compare cX7_compare 3 (some .int)) ({ frames := 1, cells := 0, slots := 0, locals := 22 } : Room) (kPre D H [.ref t, .ref a, .ref b]) (kQi (fun (r : Int) H' => H' = H ∧ r = cd_cmp p1 b1 f1 p2 b2 f2) kNO) (0) (0) (kNO) := by
  refine Met.ofW (cc := cX7_compare) (maxL := 3) (ret := (some .int)) (by decide) rfl ?_
  intro p e s m args below meth c s₁ B hml hv
  obtain ⟨rfl, hH, hK⟩ := hv
  subst hH
  have hx := B.exec
  have hb := B.bytes
  have hr := B.returns
  have hts := atoms_spec (ws := ws_ yX7_compare cX7_compare 3 (some .int)) B.pre
  have hts : ∀ w ∈ lw_all, w.before _ s = true := fun w h => hts w (List.mem_cons_of_mem _ h)
  have hown : s.vm.findClass RX7 = some m.cls := findClass_of_methodNamed B.named
  have hlk := B.notSynchronized
  have hS : va_S kNO s.heap s.heap [] := va_S.rf
  have hB : ∀ q, kNO q → kBase D ≤ q := fun _ h => h.elim
  have hl := lv_entry ([.ref t, .ref a, .ref b]) (n := 3) (Nat.le_of_ble_eq_true rfl)
  rw [lg_entry_eq]
  generalize (lg_sl ([.ref t, .ref a, .ref b]) ++ List.replicate (3 - (lg_sl ([.ref t, .ref a, .ref b])).length) Slot.unset).toArray = ls at hl ⊢
  have hl : lv_has ls 3 [(0, .ref t), (1, .ref a), (2, .ref b)] := hl
  refine lv_aload_n hx hb dX7_compare_0 rfl (lv_at hl 0 rfl) ?_
  refine lv_aload_n hx hb dX7_compare_1 rfl (lv_at hl 1 rfl) ?_
  refine kx_castS hx hb hts hown q837 hK hO_a rfl dX7_compare_2 ?_
  refine lv_aload_n hx hb dX7_compare_5 rfl (lv_at hl 2 rfl) ?_
  refine kx_castS hx hb hts hown q837 hK hO_b rfl dX7_compare_6 ?_
  refine kx_ci0 (va_runV (As := [.ref a, .ref b]) (rest := []) ⟨hx, hb, hml, hown, hts⟩ (m_X7_compare_2 l D s.heap t a b p1 b1 f1 p2 b2 f2 hO_a hO_b (by first | assumption | omega) (by first | assumption | omega) (by first | assumption | omega) (by first | assumption | omega) (by first | assumption | omega) (by first | assumption | omega)) (cwV 2 hts (lw_V q838 q839 q840 q108 q841) rfl rfl rfl (by decide +kernel) ⟨Nat.le_of_ble_eq_true rfl, Nat.le_of_ble_eq_true rfl⟩) (kx_pv hK hS hB (kx_rc hK hO_t (C := RX7) (T := kT0) (N := 0) rfl)) rfl rfl hl.1 rfl (lv_room (Nat.le_of_ble_eq_true rfl)) dX7_compare_9 ⟨by first | exact Nat.le_of_ble_eq_true rfl | omega | (show _ ≤ _; omega) | (dsimp only [headSpec]; omega), by first | exact Nat.le_of_ble_eq_true rfl | omega | (show _ ≤ _; omega) | (dsimp only [headSpec]; omega)⟩) hS (fun z_4 locs_1 hz_3 hS_2 => ?_)
  subst z_4
  exact kx_iret (z := cd_cmp p1 b1 f1 p2 b2 f2) hx hb hr hlk (⟨rfl, by rfl⟩) hS_2 dX7_compare_12

set_option maxHeartbeats 4000000 in
set_option maxRecDepth 100000 in
theorem m_J23_compare (l : Launch) (D : kG) (H : Heap) (x : Int) (y : Int) (hr_x : -10000 ≤ x ∧ x ≤ 10000) (hr_y : -10000 ≤ y ∧ y ≤ 10000) : Met l yJ23_compare (ws_ yJ23_compare cJ23_compare 2 (some .int)) ({ frames := 0, cells := 0, slots := 0, locals := 0 } : Room) (kPre D H [.int (kI (x)), .int (kI (y))]) (kQi (fun (r : Int) H' => H' = H ∧ r = i_cmp x y) kNO) (0) (0) (kNO) := by
  refine Met.ofW (cc := cJ23_compare) (maxL := 2) (ret := (some .int)) (by decide) rfl ?_
  intro p e s m args below meth c s₁ B hml hv
  obtain ⟨rfl, hH, hK⟩ := hv
  subst hH
  have hx := B.exec
  have hb := B.bytes
  have hr := B.returns
  have hts := atoms_spec (ws := ws_ yJ23_compare cJ23_compare 2 (some .int)) B.pre
  have hts : ∀ w ∈ lw_all, w.before _ s = true := fun w h => hts w (List.mem_cons_of_mem _ h)
  have hown : s.vm.findClass RJ23 = some m.cls := findClass_of_methodNamed B.named
  have hlk := B.notSynchronized
  have hS : va_S kNO s.heap s.heap [] := va_S.rf
  have hB : ∀ q, kNO q → kBase D ≤ q := fun _ h => h.elim
  have hl := lv_entry ([.int (kI (x)), .int (kI (y))]) (n := 2) (Nat.le_of_ble_eq_true rfl)
  rw [lg_entry_eq]
  generalize (lg_sl ([.int (kI (x)), .int (kI (y))]) ++ List.replicate (2 - (lg_sl ([.int (kI (x)), .int (kI (y))])).length) Slot.unset).toArray = ls at hl ⊢
  have hl : lv_has ls 2 [(0, .int (kI (x))), (1, .int (kI (y)))] := hl
  refine lv_iload_n hx hb dJ23_compare_0 rfl (lv_at hl 0 rfl) ?_
  refine lv_iload_n hx hb dJ23_compare_1 rfl (lv_at hl 1 rfl) ?_
  refine kx_icmp_ge (x := x) (y := y) (tgt := 9) hx hb dJ23_compare_2 (by decide) (by omega) (by omega) (by omega) (by omega) (fun c_2_1 => ?_) (fun c_2_1 => ?_)
  · -- taken at 2
    refine lv_iload_n hx hb dJ23_compare_9 rfl (lv_at hl 0 rfl) ?_
    refine lv_iload_n hx hb dJ23_compare_10 rfl (lv_at hl 1 rfl) ?_
    refine kx_icmp_ne (x := x) (y := y) (tgt := 18) hx hb dJ23_compare_11 (by decide) (by omega) (by omega) (by omega) (by omega) (fun c_11_2 => ?_) (fun c_11_2 => ?_)
    · -- taken at 11
      refine kx_iconst hx hb dJ23_compare_18 ?_
      exact kx_iret (z := 1) hx hb hr hlk (⟨rfl, by unfold i_cmp; grind⟩) hS dJ23_compare_19
    · -- not taken at 11
      refine kx_iconst hx hb dJ23_compare_14 ?_
      refine lv_goto (tgt := 19) hx hb dJ23_compare_15 (by decide) ?_
      exact kx_iret (z := 0) hx hb hr hlk (⟨rfl, by unfold i_cmp; grind⟩) hS dJ23_compare_19
  · -- not taken at 2
    refine kx_iconst hx hb dJ23_compare_5 ?_
    refine lv_goto (tgt := 19) hx hb dJ23_compare_6 (by decide) ?_
    exact kx_iret (z := (-1)) hx hb hr hlk (⟨rfl, by unfold i_cmp; grind⟩) hS dJ23_compare_19

set_option maxHeartbeats 4000000 in
set_option maxRecDepth 100000 in
theorem m_J23_compareTo_2 (l : Launch) (D : kG) (H : Heap) (a : Nat) (b : Nat) (x : Int) (y : Int) (hO_a : kO D H a 14 [.int (kI (x))]) (hO_b : kO D H b 14 [.int (kI (y))]) (hr_x : -10000 ≤ x ∧ x ≤ 10000) (hr_y : -10000 ≤ y ∧ y ≤ 10000) : Met l yJ23_compareTo_2 (ws_ yJ23_compareTo_2 cJ23_compareTo_2 2 (some .int)) ({ frames := 1, cells := 0, slots := 0, locals := 21 } : Room) (kPre D H [.ref a, .ref b]) (kQi (fun (r : Int) H' => H' = H ∧ r = i_cmp x y) kNO) (0) (0) (kNO) := by
  refine Met.ofW (cc := cJ23_compareTo_2) (maxL := 2) (ret := (some .int)) (by decide) rfl ?_
  intro p e s m args below meth c s₁ B hml hv
  obtain ⟨rfl, hH, hK⟩ := hv
  subst hH
  have hx := B.exec
  have hb := B.bytes
  have hr := B.returns
  have hts := atoms_spec (ws := ws_ yJ23_compareTo_2 cJ23_compareTo_2 2 (some .int)) B.pre
  have hts : ∀ w ∈ lw_all, w.before _ s = true := fun w h => hts w (List.mem_cons_of_mem _ h)
  have hown : s.vm.findClass RJ23 = some m.cls := findClass_of_methodNamed B.named
  have hlk := B.notSynchronized
  have hS : va_S kNO s.heap s.heap [] := va_S.rf
  have hB : ∀ q, kNO q → kBase D ≤ q := fun _ h => h.elim
  have hl := lv_entry ([.ref a, .ref b]) (n := 2) (Nat.le_of_ble_eq_true rfl)
  rw [lg_entry_eq]
  generalize (lg_sl ([.ref a, .ref b]) ++ List.replicate (2 - (lg_sl ([.ref a, .ref b])).length) Slot.unset).toArray = ls at hl ⊢
  have hl : lv_has ls 2 [(0, .ref a), (1, .ref b)] := hl
  refine lv_aload_n hx hb dJ23_compareTo_2_0 rfl (lv_at hl 0 rfl) ?_
  refine kx_get (v := .int (kI (x))) (C := RJ23) (T := TJ23) (N := 1) hx hb hts in_J23 hown hK hO_a rfl 0 (by decide) q583 (fun _ h9 => h9) rfl dJ23_compareTo_2_1 ?_
  refine lv_aload_n hx hb dJ23_compareTo_2_4 rfl (lv_at hl 1 rfl) ?_
  refine kx_get (v := .int (kI (y))) (C := RJ23) (T := TJ23) (N := 1) hx hb hts in_J23 hown hK hO_b rfl 0 (by decide) q583 (fun _ h9 => h9) rfl dJ23_compareTo_2_5 ?_
  refine kx_ci0 (va_runS (As := [.int (kI (x)), .int (kI (y))]) (rest := []) ⟨hx, hb, hml, hown, hts⟩ (m_J23_compare l D s.heap x y  (by first | assumption | omega) (by first | assumption | omega)) (va_cwS 2 hts (lw_S q618 q619 q111 q620) rfl rfl rfl (by decide +kernel) ⟨Nat.le_of_ble_eq_true rfl, Nat.le_of_ble_eq_true rfl⟩) (kx_ps hK hS hB) rfl rfl hl.1 rfl (lv_room (Nat.le_of_ble_eq_true rfl)) dJ23_compareTo_2_8 ⟨by first | exact Nat.le_of_ble_eq_true rfl | omega | (show _ ≤ _; omega) | (dsimp only [headSpec]; omega), by first | exact Nat.le_of_ble_eq_true rfl | omega | (show _ ≤ _; omega) | (dsimp only [headSpec]; omega)⟩) hS (fun z_4 locs_1 hz_3 hS_2 => ?_)
  subst z_4
  exact kx_iret (z := i_cmp x y) hx hb hr hlk (⟨rfl, by rfl⟩) hS_2 dJ23_compareTo_2_11

set_option maxHeartbeats 4000000 in
set_option maxRecDepth 100000 in
theorem m_J23_compareTo (l : Launch) (D : kG) (H : Heap) (a : Nat) (b : Nat) (x : Int) (y : Int) (hO_a : kO D H a 14 [.int (kI (x))]) (hO_b : kO D H b 14 [.int (kI (y))]) (hr_x : -10000 ≤ x ∧ x ≤ 10000) (hr_y : -10000 ≤ y ∧ y ≤ 10000) : Met l yJ23_compareTo (ws_ yJ23_compareTo cJ23_compareTo 2 (some .int)) ({ frames := 2, cells := 0, slots := 0, locals := 42 } : Room) (kPre D H [.ref a, .ref b]) (kQi (fun (r : Int) H' => H' = H ∧ r = i_cmp x y) kNO) (0) (0) (kNO) := by
  refine Met.ofW (cc := cJ23_compareTo) (maxL := 2) (ret := (some .int)) (by decide) rfl ?_
  intro p e s m args below meth c s₁ B hml hv
  obtain ⟨rfl, hH, hK⟩ := hv
  subst hH
  have hx := B.exec
  have hb := B.bytes
  have hr := B.returns
  have hts := atoms_spec (ws := ws_ yJ23_compareTo cJ23_compareTo 2 (some .int)) B.pre
  have hts : ∀ w ∈ lw_all, w.before _ s = true := fun w h => hts w (List.mem_cons_of_mem _ h)
  have hown : s.vm.findClass RJ23 = some m.cls := findClass_of_methodNamed B.named
  have hlk := B.notSynchronized
  have hS : va_S kNO s.heap s.heap [] := va_S.rf
  have hB : ∀ q, kNO q → kBase D ≤ q := fun _ h => h.elim
  have hl := lv_entry ([.ref a, .ref b]) (n := 2) (Nat.le_of_ble_eq_true rfl)
  rw [lg_entry_eq]
  generalize (lg_sl ([.ref a, .ref b]) ++ List.replicate (2 - (lg_sl ([.ref a, .ref b])).length) Slot.unset).toArray = ls at hl ⊢
  have hl : lv_has ls 2 [(0, .ref a), (1, .ref b)] := hl
  refine lv_aload_n hx hb dJ23_compareTo_0 rfl (lv_at hl 0 rfl) ?_
  refine lv_aload_n hx hb dJ23_compareTo_1 rfl (lv_at hl 1 rfl) ?_
  refine kx_castS hx hb hts hown q574 hK hO_b rfl dJ23_compareTo_2 ?_
  refine kx_ci0 (va_runV (As := [.ref b]) (rest := []) ⟨hx, hb, hml, hown, hts⟩ (m_J23_compareTo_2 l D s.heap a b x y hO_a hO_b (by first | assumption | omega) (by first | assumption | omega)) (cwV 1 hts (lw_V q614 q615 q616 q111 q617) rfl rfl rfl (by decide +kernel) ⟨Nat.le_of_ble_eq_true rfl, Nat.le_of_ble_eq_true rfl⟩) (kx_pv hK hS hB (kx_rc hK hO_a (C := RJ23) (T := TJ23) (N := 1) rfl)) rfl rfl hl.1 rfl (lv_room (Nat.le_of_ble_eq_true rfl)) dJ23_compareTo_5 ⟨by first | exact Nat.le_of_ble_eq_true rfl | omega | (show _ ≤ _; omega) | (dsimp only [headSpec]; omega), by first | exact Nat.le_of_ble_eq_true rfl | omega | (show _ ≤ _; omega) | (dsimp only [headSpec]; omega)⟩) hS (fun z_4 locs_1 hz_3 hS_2 => ?_)
  subst z_4
  exact kx_iret (z := i_cmp x y) hx hb hr hlk (⟨rfl, by rfl⟩) hS_2 dJ23_compareTo_8

set_option maxHeartbeats 4000000 in
set_option maxRecDepth 100000 in
theorem m_J23_intValue (l : Launch) (D : kG) (H : Heap) (a : Nat) (x : Int) (hO_a : kO D H a 14 [.int (kI (x))]) : Met l yJ23_intValue (ws_ yJ23_intValue cJ23_intValue 1 (some .int)) ({ frames := 0, cells := 0, slots := 0, locals := 0 } : Room) (kPre D H [.ref a]) (kQi (fun (r : Int) H' => H' = H ∧ r = x) kNO) (0) (0) (kNO) := by
  refine Met.ofW (cc := cJ23_intValue) (maxL := 1) (ret := (some .int)) (by decide) rfl ?_
  intro p e s m args below meth c s₁ B hml hv
  obtain ⟨rfl, hH, hK⟩ := hv
  subst hH
  have hx := B.exec
  have hb := B.bytes
  have hr := B.returns
  have hts := atoms_spec (ws := ws_ yJ23_intValue cJ23_intValue 1 (some .int)) B.pre
  have hts : ∀ w ∈ lw_all, w.before _ s = true := fun w h => hts w (List.mem_cons_of_mem _ h)
  have hown : s.vm.findClass RJ23 = some m.cls := findClass_of_methodNamed B.named
  have hlk := B.notSynchronized
  have hS : va_S kNO s.heap s.heap [] := va_S.rf
  have hB : ∀ q, kNO q → kBase D ≤ q := fun _ h => h.elim
  have hl := lv_entry ([.ref a]) (n := 1) (Nat.le_of_ble_eq_true rfl)
  rw [lg_entry_eq]
  generalize (lg_sl ([.ref a]) ++ List.replicate (1 - (lg_sl ([.ref a])).length) Slot.unset).toArray = ls at hl ⊢
  have hl : lv_has ls 1 [(0, .ref a)] := hl
  refine lv_aload_n hx hb dJ23_intValue_0 rfl (lv_at hl 0 rfl) ?_
  refine kx_get (v := .int (kI (x))) (C := RJ23) (T := TJ23) (N := 1) hx hb hts in_J23 hown hK hO_a rfl 0 (by decide) q583 (fun _ h9 => h9) rfl dJ23_intValue_1 ?_
  exact kx_iret (z := x) hx hb hr hlk (⟨rfl, by rfl⟩) hS dJ23_intValue_4

set_option maxHeartbeats 4000000 in
set_option maxRecDepth 100000 in
theorem m_J23_init (l : Launch) (D : kG) (H : Heap) (a : Nat) (x : Int) (hO_a : kO D H a 14 [.int (kI (0))]) (bs_a : kBase D ≤ a) : Met l yJ23_init (ws_ yJ23_init cJ23_init 2 none) ({ frames := 2, cells := 0, slots := 0, locals := 40 } : Room) (kPre D H [.ref a, .int (kI (x))]) (kQv (fun H' => (kO D H' a 14 [.int (kI (x))])) (fun q : Nat => q = a)) (0) (0) ((fun q : Nat => q = a)) := by
  refine Met.ofW (cc := cJ23_init) (maxL := 2) (ret := none) (by decide) rfl ?_
  intro p e s m args below meth c s₁ B hml hv
  obtain ⟨rfl, hH, hK⟩ := hv
  subst hH
  have hx := B.exec
  have hb := B.bytes
  have hr := B.returns
  have hts := atoms_spec (ws := ws_ yJ23_init cJ23_init 2 none) B.pre
  have hts : ∀ w ∈ lw_all, w.before _ s = true := fun w h => hts w (List.mem_cons_of_mem _ h)
  have hown : s.vm.findClass RJ23 = some m.cls := findClass_of_methodNamed B.named
  have hlk := B.notSynchronized
  have hin : meth.name = "<init>" := (name_of_methodNamed B.named B.method).1
  have hS : va_S (fun q : Nat => q = a) s.heap s.heap [] := va_S.rf
  have hB : ∀ q, (fun q : Nat => q = a) q → kBase D ≤ q := fun q h => by (try dsimp only at h); (try simp only [kNW] at h); have hks := hK.size; omega
  have hl := lv_entry ([.ref a, .int (kI (x))]) (n := 2) (Nat.le_of_ble_eq_true rfl)
  rw [lg_entry_eq]
  generalize (lg_sl ([.ref a, .int (kI (x))]) ++ List.replicate (2 - (lg_sl ([.ref a, .int (kI (x))])).length) Slot.unset).toArray = ls at hl ⊢
  have hl : lv_has ls 2 [(0, .ref a), (1, .int (kI (x)))] := hl
  refine lv_aload_n hx hb dJ23_init_0 rfl (lv_at hl 0 rfl) ?_
  refine kx_cv0 (va_runI (As := []) (rest := []) ⟨hx, hb, hml, hown, hts⟩ (m_J22_init l D s.heap a  ) (cwI 0 hts (lw_meth q581) rfl rfl rfl (hts _ q110) (hts _ q579) (hts _ q580) rfl (by decide +kernel) ⟨Nat.le_of_ble_eq_true rfl, Nat.le_of_ble_eq_true rfl⟩) (kx_ps hK hS hB) rfl rfl hl.1 rfl (lv_room (Nat.le_of_ble_eq_true rfl)) dJ23_init_1 ⟨by first | exact Nat.le_of_ble_eq_true rfl | omega | (show _ ≤ _; omega) | (dsimp only [headSpec]; omega), by first | exact Nat.le_of_ble_eq_true rfl | omega | (show _ ≤ _; omega) | (dsimp only [headSpec]; omega)⟩) hS (fun locs_1 hz_3 hS_2 => ?_)
  refine lv_aload_n hx hb dJ23_init_4 rfl (lv_at hl 0 rfl) ?_
  refine lv_iload_n hx hb dJ23_init_5 rfl (lv_at hl 1 rfl) ?_
  refine kx_putF (v := .int (kI (x))) (C := RJ23) (T := TJ23) (N := 1) hx hb hts in_J23 hown hK hO_a rfl 0 (by decide) tyJ23 tyJ23_ok nmJ23 hS_2 (by first | rfl | exact Or.inl rfl | exact Or.inr rfl | exact Or.inr (Or.inl rfl) | exact Or.inr (Or.inr rfl) | exact Or.inr (Or.inr (Or.inl rfl)) | exact Or.inr (Or.inr (Or.inr rfl)) | ((try dsimp only); (try simp only [kNW]); omega)) q583 (fun _ h9 => h9) rfl hin rfl rfl rfl rfl (Nat.le_of_ble_eq_true rfl) dJ23_init_6 (fun H_7 locs_8 hO_6 hU_5 hS_9 => ?_)
  have hO_6 : kO D H_7 a 14 [.int (kI (x))] := hO_6
  have hzu_10 := hU_5.1
  exact kx_vret hx hb hr hlk (hO_6) hS_9 dJ23_init_9

set_option maxHeartbeats 4000000 in
set_option maxRecDepth 100000 in
theorem m_J23_valueOf (l : Launch) (D : kG) (H : Heap) (x : Int) (hx9 : 0 ≤ x ∧ x ≤ 10000) : Met l yJ23_valueOf (ws_ yJ23_valueOf cJ23_valueOf 1 (some (.object "java/lang/Integer"))) ({ frames := 3, cells := 1, slots := 1, locals := 61 } : Room) (kPre D H [.int (kI (x))]) (kQr (fun (r : Nat) H' => (kO D H' r 14 [.int (kI (x))]) ∧ (H.size ≤ r ∨ ¬ kBase D ≤ r)) (kNW H)) (1) (1) ((kNW H)) := by
  refine Met.ofW (cc := cJ23_valueOf) (maxL := 1) (ret := (some (.object "java/lang/Integer"))) (by decide) rfl ?_
  intro p e s m args below meth c s₁ B hml hv
  obtain ⟨rfl, hH, hK⟩ := hv
  subst hH
  have hx := B.exec
  have hb := B.bytes
  have hr := B.returns
  have hts := atoms_spec (ws := ws_ yJ23_valueOf cJ23_valueOf 1 (some (.object "java/lang/Integer"))) B.pre
  have hts : ∀ w ∈ lw_all, w.before _ s = true := fun w h => hts w (List.mem_cons_of_mem _ h)
  have hown : s.vm.findClass RJ23 = some m.cls := findClass_of_methodNamed B.named
  have hlk := B.notSynchronized
  have hS : va_S (kNW s.heap) s.heap s.heap [] := va_S.rf
  have hB : ∀ q, (kNW s.heap) q → kBase D ≤ q := fun q h => Nat.le_trans hK.size h
  have hl := lv_entry ([.int (kI (x))]) (n := 1) (Nat.le_of_ble_eq_true rfl)
  rw [lg_entry_eq]
  generalize (lg_sl ([.int (kI (x))]) ++ List.replicate (1 - (lg_sl ([.int (kI (x))])).length) Slot.unset).toArray = ls at hl ⊢
  have hl : lv_has ls 1 [(0, .int (kI (x)))] := hl
  have hks9 := hK.size
  refine lv_iload_n hx hb dJ23_valueOf_0 rfl (lv_at hl 0 rfl) ?_
  refine kx_bipush hx hb (by decide) dJ23_valueOf_1 ?_
  refine kx_icmp_lt (x := x) (y := (-128)) (tgt := 23) hx hb dJ23_valueOf_3 (by decide) (by omega) (by omega) (by omega) (by omega) (fun c_3_1 => ?_) (fun c_3_1 => ?_)
  · -- taken at 3
    exfalso; omega
  · -- not taken at 3
    refine lv_iload_n hx hb dJ23_valueOf_6 rfl (lv_at hl 0 rfl) ?_
    refine kx_gets (v := .int (kI (127))) hx hb hts hK.sHi hS hB hown q570 (fun _ h9 => h9) dJ23_valueOf_7 ?_
    refine kx_icmp_gt (x := x) (y := 127) (tgt := 23) hx hb dJ23_valueOf_10 (by decide) (by omega) (by omega) (by omega) (by omega) (fun c_10_2 => ?_) (fun c_10_2 => ?_)
    · -- taken at 10
      refine kx_new (ci := 14) (fs := [.int (kI (0))]) (C := RJ23) (T := TJ23) (N := 1) hx hb hts in_J23 hown hK tyJ23 tyJ23_ok q574 q575 q111 hS rfl (fun j hj => by rcases (show j = 0 by omega) with rfl <;> rfl) (by first | exact Nat.le_of_ble_eq_true rfl | omega | (show _ ≤ _; omega) | (dsimp only [headSpec]; omega)) (by first | exact Nat.le_of_ble_eq_true rfl | omega | (show _ ≤ _; omega) | (dsimp only [headSpec]; omega)) dJ23_valueOf_23 (fun nw_3 H_4 hq_5 hz_6 hO_7 hE_8 hS_9 => ?_)
      have hge_nw_3 : s.heap.size ≤ nw_3 := by rw [hq_5]; exact hS.1
      refine W.widen (k := 1) (n := 1) (Nat.le_of_ble_eq_true rfl) (Nat.le_of_ble_eq_true rfl) ?_
      refine lv_dup hx hb dJ23_valueOf_26 rfl ?_
      refine lv_iload_n hx hb dJ23_valueOf_27 rfl (lv_at hl 0 rfl) ?_
      refine kx_cv (va_runI (As := [.int (kI (x))]) (rest := [.ref nw_3]) ⟨hx, hb, hml, hown, hts⟩ (m_J23_init l D H_4 nw_3 x hO_7 (by first | assumption | omega)) (cwI 1 hts (lw_meth q578) rfl rfl rfl (hts _ q111) (hts _ q576) (hts _ q577) rfl (by decide +kernel) ⟨Nat.le_of_ble_eq_true rfl, Nat.le_of_ble_eq_true rfl⟩) (kx_ps hK hS_9 hB) rfl rfl hl.1 rfl (lv_room (Nat.le_of_ble_eq_true rfl)) dJ23_valueOf_28 ⟨by first | exact Nat.le_of_ble_eq_true rfl | omega | (show _ ≤ _; omega) | (dsimp only [headSpec]; omega), by first | exact Nat.le_of_ble_eq_true rfl | omega | (show _ ≤ _; omega) | (dsimp only [headSpec]; omega)⟩) hS_9 (fun q _ h => by (try dsimp only at h); (try dsimp only); (try simp only [kNW] at h); (try simp only [kNW]); omega) (fun q h => by (try dsimp only at h); (try dsimp only); (try simp only [kNW] at h); (try simp only [kNW]); omega) (fun H_13 locs_10 hz_12 hF_14 hS_11 => ?_)
      have hzf_16 := hF_14.1
      refine W.widen (k := 1) (n := 1) (Nat.le_of_ble_eq_true rfl) (Nat.le_of_ble_eq_true rfl) ?_
      have ho_17 := hz_12
      exact kx_aret (z := nw_3) hx hb hr (by first | exact Or.inl ⟨_, rfl⟩ | exact Or.inr ⟨_, rfl⟩) hlk (⟨ho_17, by first | assumption | rfl | omega | grind⟩) hS_11 dJ23_valueOf_31
    · -- not taken at 10
      refine kx_gets (v := .ref (D.2.2.2 3)) hx hb hts hK.sCa hS hB hown q572 (fun _ h9 => h9) dJ23_valueOf_13 ?_
      refine lv_iload_n hx hb dJ23_valueOf_16 rfl (lv_at hl 0 rfl) ?_
      refine kx_sipush hx hb (by decide) dJ23_valueOf_17 ?_
      refine kx_iadd hx hb dJ23_valueOf_20 ?_
      refine kx_tabq hx hb hK.tCa hS hB ((x + 128).toNat) (by omega) (by omega) (by decide) dJ23_valueOf_21 ?_
      have hbx9 : kO D s.heap (D.2.2.2 (100 + (x + 128).toNat)) 14 [.int (kI x)] := by have h := (hK.bx (x + 128).toNat (by omega)).1; rw [show (((x + 128).toNat : Nat) : Int) - 128 = x by omega] at h; exact h
      have hbo9 : ¬ kBase D ≤ D.2.2.2 (100 + (x + 128).toNat) := (hK.bx (x + 128).toNat (by omega)).2
      refine W.widen (k := 1) (n := 1) (by omega) (by omega) ?_
      exact kx_aret (z := D.2.2.2 (100 + ((x + 128).toNat))) hx hb hr (by first | exact Or.inl ⟨_, rfl⟩ | exact Or.inr ⟨_, rfl⟩) hlk (⟨hbx9, by first | assumption | rfl | omega | grind⟩) hS dJ23_valueOf_22

