/-! MATH 17: a line's cells -/
def MLn (gp gs : Nat → Int) (L : Ln) : Prop := (∀ k, k ≤ ln_n L → gp k = ln_pos L k) ∧ ∀ k, k < ln_n L → gs k = ln_d L k
theorem ln_left_t {L : Ln} (h1 : ln_lb L ≠ -1) (h2 : ln_pos L ((ln_lb L).toNat + ln_size L - 1) % 24 - ln_pos L (ln_lb L).toNat % 24 < 0) : ln_left L = true := by
  unfold ln_left
  simp only [Bool.and_eq_true, decide_eq_true_eq]
  exact ⟨h1, by omega⟩
theorem ln_left_f {L : Ln} (h : ln_lb L = -1 ∨ ¬ ln_pos L ((ln_lb L).toNat + ln_size L - 1) % 24 - ln_pos L (ln_lb L).toNat % 24 < 0) : ln_left L = false := by
  unfold ln_left
  rcases h with h | h
  · simp [h]
  · simp only [Bool.and_eq_false_iff, decide_eq_false_iff_not]
    exact Or.inr (by omega)
theorem ln_bend_mid {L : Ln} {k : Nat} (h : 0 < k ∧ k < ln_n L) : ln_bend L k = turn (ln_d L (k - 1)) (ln_d L k) := by unfold ln_bend; rw [if_pos h]
theorem ln_bend_end {L : Ln} {k : Nat} (h : ¬ (0 < k ∧ k < ln_n L)) (hc : ln_cl L = false) : ln_bend L k = 0 := by unfold ln_bend; rw [if_neg h, if_neg (by rw [hc]; decide)]
theorem ln_bend_cl {L : Ln} {k : Nat} (h : ¬ (0 < k ∧ k < ln_n L)) (hc : ln_cl L = true) : ln_bend L k = turn (ln_d L (ln_n L - 1)) (ln_d L 0) := by unfold ln_bend; rw [if_neg h, if_pos hc]
theorem ln_cl_n {L : Ln} (h : ln_cl L = true) : 0 < ln_n L := by
  unfold ln_cl at h
  simp only [Bool.and_eq_true, decide_eq_true_eq] at h
  exact h.1
theorem ln_last_o {L : Ln} (h : ln_cl L = false) : ln_last L = ln_n L := by unfold ln_last; rw [if_neg (by rw [h]; decide)]; omega
theorem ln_last_c {L : Ln} (h : ln_cl L = true) : ln_last L = (ln_n L : Int) - 1 := by unfold ln_last; rw [if_pos h]
theorem ln_pos0 (L : Ln) : ln_pos L 0 = ln_bg L := rfl
set_option maxHeartbeats 4000000 in
set_option maxRecDepth 100000 in
theorem m_X4_end (l : Launch) (D : kG) (H : Heap) (a : Nat) (pa : Nat) (sa : Nat) (ea : Nat) (gp : Nat → Int) (gs : Nat → Int) (L : Ln) (hO_a : kO D H a 3 [.int (kI (ln_lv L)), .ref pa, .ref sa, .int (kI ((ln_n L : Nat) : Int)), .ref ea, .int (kI (ln_lb L))]) (hA_pa : kAi D H pa 61 gp) (hA_sa : kAi D H sa 60 gs) (hM : MLn gp gs L) (hok : LnOK L) : Met l yX4_end (ws_ yX4_end cX4_end 1 (some .int)) ({ frames := 0, cells := 0, slots := 0, locals := 0 } : Room) (kPre D H [.ref a]) (kQi (fun (r : Int) H' => H' = H ∧ r = ln_end L) kNO) (0) (0) (kNO) := by
  refine Met.ofW (cc := cX4_end) (maxL := 1) (ret := (some .int)) (by decide) rfl ?_
  intro p e s m args below meth c s₁ B hml hv
  obtain ⟨rfl, hH, hK⟩ := hv
  subst hH
  have hx := B.exec
  have hb := B.bytes
  have hr := B.returns
  have hts := atoms_spec (ws := ws_ yX4_end cX4_end 1 (some .int)) B.pre
  have hts : ∀ w ∈ lw_all, w.before _ s = true := fun w h => hts w (List.mem_cons_of_mem _ h)
  have hown : s.vm.findClass RX4 = some m.cls := findClass_of_methodNamed B.named
  have hlk := B.notSynchronized
  have hS : va_S kNO s.heap s.heap [] := va_S.rf
  have hB : ∀ q, kNO q → kBase D ≤ q := fun _ h => h.elim
  have hl := lv_entry ([.ref a]) (n := 1) (Nat.le_of_ble_eq_true rfl)
  rw [lg_entry_eq]
  generalize (lg_sl ([.ref a]) ++ List.replicate (1 - (lg_sl ([.ref a])).length) Slot.unset).toArray = ls at hl ⊢
  have hl : lv_has ls 1 [(0, .ref a)] := hl
  have hL60 := hok.n
  have hlb := hok.lbr
  have hlv := hok.lv
  have hsz := ln_size_23 L
  refine lv_aload_n hx hb dX4_end_0 rfl (lv_at hl 0 rfl) ?_
  refine kx_get (v := .ref pa) (C := RX4) (T := TX4) (N := 6) hx hb hts in_X4 hown hK hO_a rfl 1 (by decide) q336 (fun _ h9 => h9) rfl dX4_end_1 ?_
  refine lv_aload_n hx hb dX4_end_4 rfl (lv_at hl 0 rfl) ?_
  refine kx_get (v := .int (kI ((ln_n L : Nat) : Int))) (C := RX4) (T := TX4) (N := 6) hx hb hts in_X4 hown hK hO_a rfl 3 (by decide) q344 (fun _ h9 => h9) rfl dX4_end_5 ?_
  refine kx_iald (i := ((ln_n L : Nat) : Int)) hx hb hK hA_pa (ln_n L) (rfl) (by omega) (by omega) dX4_end_8 ?_
  exact kx_iret (z := (gp (ln_n L))) hx hb hr hlk (⟨rfl, by exact hM.1 _ (Nat.le_refl _)⟩) hS dX4_end_9

set_option maxHeartbeats 4000000 in
set_option maxRecDepth 100000 in
theorem m_X4_has (l : Launch) (D : kG) (H : Heap) (a : Nat) (pa : Nat) (sa : Nat) (ea : Nat) (gp : Nat → Int) (gs : Nat → Int) (L : Ln) (x : Int) (hO_a : kO D H a 3 [.int (kI (ln_lv L)), .ref pa, .ref sa, .int (kI ((ln_n L : Nat) : Int)), .ref ea, .int (kI (ln_lb L))]) (hA_pa : kAi D H pa 61 gp) (hA_sa : kAi D H sa 60 gs) (hM : MLn gp gs L) (hok : LnOK L) (hr_x : -2147483648 ≤ x ∧ x ≤ 2147483647) : Met l yX4_has (ws_ yX4_has cX4_has 4 (some .boolean)) ({ frames := 0, cells := 0, slots := 0, locals := 0 } : Room) (kPre D H [.ref a, .int (kI (x))]) (kQb (fun (r : Bool) H' => H' = H ∧ r = ln_has L x) kNO) (0) (0) (kNO) := by
  refine Met.ofW (cc := cX4_has) (maxL := 4) (ret := (some .boolean)) (by decide) rfl ?_
  intro p e s m args below meth c s₁ B hml hv
  obtain ⟨rfl, hH, hK⟩ := hv
  subst hH
  have hx := B.exec
  have hb := B.bytes
  have hr := B.returns
  have hts := atoms_spec (ws := ws_ yX4_has cX4_has 4 (some .boolean)) B.pre
  have hts : ∀ w ∈ lw_all, w.before _ s = true := fun w h => hts w (List.mem_cons_of_mem _ h)
  have hown : s.vm.findClass RX4 = some m.cls := findClass_of_methodNamed B.named
  have hlk := B.notSynchronized
  have hS : va_S kNO s.heap s.heap [] := va_S.rf
  have hB : ∀ q, kNO q → kBase D ≤ q := fun _ h => h.elim
  have hl := lv_entry ([.ref a, .int (kI (x))]) (n := 4) (Nat.le_of_ble_eq_true rfl)
  rw [lg_entry_eq]
  generalize (lg_sl ([.ref a, .int (kI (x))]) ++ List.replicate (4 - (lg_sl ([.ref a, .int (kI (x))])).length) Slot.unset).toArray = ls at hl ⊢
  have hl : lv_has ls 4 [(0, .ref a), (1, .int (kI (x)))] := hl
  have hL60 := hok.n
  have hlb := hok.lbr
  have hlv := hok.lv
  have hsz := ln_size_23 L
  refine kx_iconst hx hb dX4_has_0 ?_
  refine lv_istore_n (lv' := [(2, .int (kI (0))), (0, .ref a), (1, .int (kI (x)))]) hx hb dX4_has_1 rfl hl (by decide) rfl (fun ls hl => ?_)
  refine kx_iconst hx hb dX4_has_2 ?_
  refine lv_istore_n (lv' := [(3, .int (kI (0))), (2, .int (kI (0))), (0, .ref a), (1, .int (kI (x)))]) hx hb dX4_has_3 rfl hl (by decide) rfl (fun ls hl => ?_)
  have lp_4_x_1 : ∀ (n_4 : Nat) (k : Nat) (b : Bool) (hk : k ≤ ln_n L + 1) (hbb : b = ln_hasTo L x k) (locs : List Loc) (hS : va_S kNO s.heap s.heap locs) (hm_4 : ln_n L + 1 - k < n_4) (ls : Array Slot), lv_has ls 4 [(0, .ref a), (1, .int (kI (x))), (2, .int (kI (kb (b)))), (3, .int (kI ((k : Nat) : Int)))] → W p l e (headSpec (ws_ yX4_has cX4_has 4 (some .boolean)) ({ frames := 0, cells := 0, slots := 0, locals := 0 } : Room)).room s m ([.ref a, .int (kI (x))] : List Value).toArray below meth c s.heap locs (0) (0) (MQ below (kQb (fun (r : Bool) H' => H' = s.heap ∧ r = ln_has L x) kNO) ([.ref a, .int (kI (x))] : List Value).toArray s (0) (0) (kNO)) (F0 m 4 ls []) := by
    intro n_4
    induction n_4 with
    | zero => intro k b hk hbb locs hS hm_4; exact absurd hm_4 (Nat.not_lt_zero _)
    | succ n_4 ih_4 =>
      intro k b hk hbb locs hS hm_4 ls hl
      refine lv_iload_n hx hb dX4_has_4 rfl (lv_at hl 3 rfl) ?_
      refine lv_aload_n hx hb dX4_has_5 rfl (lv_at hl 0 rfl) ?_
      refine kx_get (v := .int (kI ((ln_n L : Nat) : Int))) (C := RX4) (T := TX4) (N := 6) hx hb hts in_X4 hown hK hO_a rfl 3 (by decide) q344 (fun _ h9 => h9) rfl dX4_has_6 ?_
      refine kx_icmp_gt (x := ((k : Nat) : Int)) (y := ((ln_n L : Nat) : Int)) (tgt := 36) hx hb dX4_has_9 (by decide) (by omega) (by omega) (by omega) (by omega) (fun c_9_2 => ?_) (fun c_9_2 => ?_)
      · -- taken at 9
        refine lv_iload_n hx hb dX4_has_36 rfl (lv_at hl 2 rfl) ?_
        exact kx_zret (z := b) hx hb hr hlk (⟨rfl, by rw [hbb, ln_has, show k = ln_n L + 1 by omega]⟩) hS dX4_has_37
      · -- not taken at 9
        refine lv_iload_n hx hb dX4_has_12 rfl (lv_at hl 2 rfl) ?_
        refine lv_aload_n hx hb dX4_has_13 rfl (lv_at hl 0 rfl) ?_
        refine kx_get (v := .ref pa) (C := RX4) (T := TX4) (N := 6) hx hb hts in_X4 hown hK hO_a rfl 1 (by decide) q336 (fun _ h9 => h9) rfl dX4_has_14 ?_
        refine lv_iload_n hx hb dX4_has_17 rfl (lv_at hl 3 rfl) ?_
        refine kx_iald (i := ((k : Nat) : Int)) hx hb hK hA_pa k (rfl) (by omega) (by omega) dX4_has_18 ?_
        refine kx_eqi (ln_pos L k) (hM.1 k (by omega)) ?_
        have hpk := hok.pos (k := k) (by omega)
        refine lv_iload_n hx hb dX4_has_19 rfl (lv_at hl 1 rfl) ?_
        refine kx_icmp_ne (x := ln_pos L k) (y := x) (tgt := 27) hx hb dX4_has_20 (by decide) (by omega) (by omega) (by omega) (by omega) (fun c_20_3 => ?_) (fun c_20_3 => ?_)
        · -- taken at 20
          refine kx_iconst hx hb dX4_has_27 ?_
          refine kx_iorb (x := b) (y := false) hx hb dX4_has_28 ?_
          refine lv_istore_n (lv' := [(2, .int (kI (kb ((b || false))))), (0, .ref a), (1, .int (kI (x))), (3, .int (kI ((k : Nat) : Int)))]) hx hb dX4_has_29 rfl hl (by decide) rfl (fun ls hl => ?_)
          refine lv_iinc (v := kI (((k + 1 : Nat) : Int))) (lv' := [(3, .int (kI ((k + 1 : Nat) : Int))), (2, .int (kI (kb ((b || false))))), (0, .ref a), (1, .int (kI (x)))]) hx hb dX4_has_30 hl (k := 3) rfl (kI_incN _ _) (by decide) rfl (fun ls hl => ?_)
          refine lv_goto (tgt := 4) hx hb dX4_has_33 (by decide) ?_
          exact ih_4  (k + 1) ((b || false)) (by first | assumption | omega | (simp_all; done) | grind) (by rw [ln_hasTo, ← hbb]; simp [*]) _ hS (by omega) ls (lv_sub hl [2, 3, 1, 0] rfl)
        · -- not taken at 20
          refine kx_iconst hx hb dX4_has_23 ?_
          refine lv_goto (tgt := 28) hx hb dX4_has_24 (by decide) ?_
          refine kx_iorb (x := b) (y := true) hx hb dX4_has_28 ?_
          refine lv_istore_n (lv' := [(2, .int (kI (kb ((b || true))))), (0, .ref a), (1, .int (kI (x))), (3, .int (kI ((k : Nat) : Int)))]) hx hb dX4_has_29 rfl hl (by decide) rfl (fun ls hl => ?_)
          refine lv_iinc (v := kI (((k + 1 : Nat) : Int))) (lv' := [(3, .int (kI ((k + 1 : Nat) : Int))), (2, .int (kI (kb ((b || true))))), (0, .ref a), (1, .int (kI (x)))]) hx hb dX4_has_30 hl (k := 3) rfl (kI_incN _ _) (by decide) rfl (fun ls hl => ?_)
          refine lv_goto (tgt := 4) hx hb dX4_has_33 (by decide) ?_
          exact ih_4  (k + 1) ((b || true)) (by first | assumption | omega | (simp_all; done) | grind) (by rw [ln_hasTo, ← hbb]; simp [*]) _ hS (by omega) ls (lv_sub hl [2, 3, 1, 0] rfl)
  exact lp_4_x_1 (ln_n L + 1 - 0 + 1) 0 false (by first | assumption | omega | (simp_all; done) | grind) (rfl) _ hS (Nat.lt_succ_self _) ls (lv_sub hl [2, 3, 1, 0] rfl)

set_option maxHeartbeats 4000000 in
set_option maxRecDepth 100000 in
theorem m_X4_hasStep (l : Launch) (D : kG) (H : Heap) (a : Nat) (pa : Nat) (sa : Nat) (ea : Nat) (gp : Nat → Int) (gs : Nat → Int) (L : Ln) (x : Int) (y : Int) (hO_a : kO D H a 3 [.int (kI (ln_lv L)), .ref pa, .ref sa, .int (kI ((ln_n L : Nat) : Int)), .ref ea, .int (kI (ln_lb L))]) (hA_pa : kAi D H pa 61 gp) (hA_sa : kAi D H sa 60 gs) (hM : MLn gp gs L) (hok : LnOK L) (hr_x : -2147483648 ≤ x ∧ x ≤ 2147483647) (hr_y : -2147483648 ≤ y ∧ y ≤ 2147483647) : Met l yX4_hasStep (ws_ yX4_hasStep cX4_hasStep 5 (some .boolean)) ({ frames := 0, cells := 0, slots := 0, locals := 0 } : Room) (kPre D H [.ref a, .int (kI (x)), .int (kI (y))]) (kQb (fun (r : Bool) H' => H' = H ∧ r = ln_step L x y) kNO) (0) (0) (kNO) := by
  refine Met.ofW (cc := cX4_hasStep) (maxL := 5) (ret := (some .boolean)) (by decide) rfl ?_
  intro p e s m args below meth c s₁ B hml hv
  obtain ⟨rfl, hH, hK⟩ := hv
  subst hH
  have hx := B.exec
  have hb := B.bytes
  have hr := B.returns
  have hts := atoms_spec (ws := ws_ yX4_hasStep cX4_hasStep 5 (some .boolean)) B.pre
  have hts : ∀ w ∈ lw_all, w.before _ s = true := fun w h => hts w (List.mem_cons_of_mem _ h)
  have hown : s.vm.findClass RX4 = some m.cls := findClass_of_methodNamed B.named
  have hlk := B.notSynchronized
  have hS : va_S kNO s.heap s.heap [] := va_S.rf
  have hB : ∀ q, kNO q → kBase D ≤ q := fun _ h => h.elim
  have hl := lv_entry ([.ref a, .int (kI (x)), .int (kI (y))]) (n := 5) (Nat.le_of_ble_eq_true rfl)
  rw [lg_entry_eq]
  generalize (lg_sl ([.ref a, .int (kI (x)), .int (kI (y))]) ++ List.replicate (5 - (lg_sl ([.ref a, .int (kI (x)), .int (kI (y))])).length) Slot.unset).toArray = ls at hl ⊢
  have hl : lv_has ls 5 [(0, .ref a), (1, .int (kI (x))), (2, .int (kI (y)))] := hl
  have hL60 := hok.n
  have hlb := hok.lbr
  have hlv := hok.lv
  have hsz := ln_size_23 L
  refine kx_iconst hx hb dX4_hasStep_0 ?_
  refine lv_istore_n (lv' := [(3, .int (kI (0))), (0, .ref a), (1, .int (kI (x))), (2, .int (kI (y)))]) hx hb dX4_hasStep_1 rfl hl (by decide) rfl (fun ls hl => ?_)
  refine kx_iconst hx hb dX4_hasStep_2 ?_
  refine lv_istore (lv' := [(4, .int (kI (0))), (3, .int (kI (0))), (0, .ref a), (1, .int (kI (x))), (2, .int (kI (y)))]) hx hb dX4_hasStep_3 hl (by decide) rfl (fun ls hl => ?_)
  have lp_5_x_1 : ∀ (n_5 : Nat) (k : Nat) (b : Bool) (hk : k ≤ ln_n L) (hbb : b = ln_stepTo L x y k) (locs : List Loc) (hS : va_S kNO s.heap s.heap locs) (hm_5 : ln_n L - k < n_5) (ls : Array Slot), lv_has ls 5 [(0, .ref a), (1, .int (kI (x))), (2, .int (kI (y))), (3, .int (kI (kb (b)))), (4, .int (kI ((k : Nat) : Int)))] → W p l e (headSpec (ws_ yX4_hasStep cX4_hasStep 5 (some .boolean)) ({ frames := 0, cells := 0, slots := 0, locals := 0 } : Room)).room s m ([.ref a, .int (kI (x)), .int (kI (y))] : List Value).toArray below meth c s.heap locs (0) (0) (MQ below (kQb (fun (r : Bool) H' => H' = s.heap ∧ r = ln_step L x y) kNO) ([.ref a, .int (kI (x)), .int (kI (y))] : List Value).toArray s (0) (0) (kNO)) (F0 m 5 ls []) := by
    intro n_5
    induction n_5 with
    | zero => intro k b hk hbb locs hS hm_5; exact absurd hm_5 (Nat.not_lt_zero _)
    | succ n_5 ih_5 =>
      intro k b hk hbb locs hS hm_5 ls hl
      refine lv_iload hx hb dX4_hasStep_5 (lv_at hl 4 rfl) ?_
      refine lv_aload_n hx hb dX4_hasStep_7 rfl (lv_at hl 0 rfl) ?_
      refine kx_get (v := .int (kI ((ln_n L : Nat) : Int))) (C := RX4) (T := TX4) (N := 6) hx hb hts in_X4 hown hK hO_a rfl 3 (by decide) q344 (fun _ h9 => h9) rfl dX4_hasStep_8 ?_
      refine kx_icmp_ge (x := ((k : Nat) : Int)) (y := ((ln_n L : Nat) : Int)) (tgt := 76) hx hb dX4_hasStep_11 (by decide) (by omega) (by omega) (by omega) (by omega) (fun c_11_2 => ?_) (fun c_11_2 => ?_)
      · -- taken at 11
        refine lv_iload_n hx hb dX4_hasStep_76 rfl (lv_at hl 3 rfl) ?_
        exact kx_zret (z := b) hx hb hr hlk (⟨rfl, by rw [hbb, ln_step, show k = ln_n L by omega]⟩) hS dX4_hasStep_77
      · -- not taken at 11
        refine lv_iload_n hx hb dX4_hasStep_14 rfl (lv_at hl 3 rfl) ?_
        refine lv_aload_n hx hb dX4_hasStep_15 rfl (lv_at hl 0 rfl) ?_
        refine kx_get (v := .ref pa) (C := RX4) (T := TX4) (N := 6) hx hb hts in_X4 hown hK hO_a rfl 1 (by decide) q336 (fun _ h9 => h9) rfl dX4_hasStep_16 ?_
        refine lv_iload hx hb dX4_hasStep_19 (lv_at hl 4 rfl) ?_
        refine kx_iald (i := ((k : Nat) : Int)) hx hb hK hA_pa k (rfl) (by omega) (by omega) dX4_hasStep_21 ?_
        refine kx_eqi (ln_pos L k) (hM.1 k (by omega)) ?_
        have hpk := hok.pos (k := k) (by omega)
        have hpk2 := hok.pos (k := k + 1) (by omega)
        refine lv_iload_n hx hb dX4_hasStep_22 rfl (lv_at hl 1 rfl) ?_
        refine kx_icmp_ne (x := ln_pos L k) (y := x) (tgt := 39) hx hb dX4_hasStep_23 (by decide) (by omega) (by omega) (by omega) (by omega) (fun c_23_3 => ?_) (fun c_23_3 => ?_)
        · -- taken at 23
          refine lv_aload_n hx hb dX4_hasStep_39 rfl (lv_at hl 0 rfl) ?_
          refine kx_get (v := .ref pa) (C := RX4) (T := TX4) (N := 6) hx hb hts in_X4 hown hK hO_a rfl 1 (by decide) q336 (fun _ h9 => h9) rfl dX4_hasStep_40 ?_
          refine lv_iload hx hb dX4_hasStep_43 (lv_at hl 4 rfl) ?_
          refine kx_iald (i := ((k : Nat) : Int)) hx hb hK hA_pa k (rfl) (by omega) (by omega) dX4_hasStep_45 ?_
          refine kx_eqi (ln_pos L k) (hM.1 k (by omega)) ?_
          refine lv_iload_n hx hb dX4_hasStep_46 rfl (lv_at hl 2 rfl) ?_
          refine kx_icmp_ne (x := ln_pos L k) (y := y) (tgt := 67) hx hb dX4_hasStep_47 (by decide) (by omega) (by omega) (by omega) (by omega) (fun c_47_4 => ?_) (fun c_47_4 => ?_)
          · -- taken at 47
            refine kx_iconst hx hb dX4_hasStep_67 ?_
            refine kx_iorb (x := b) (y := false) hx hb dX4_hasStep_68 ?_
            refine lv_istore_n (lv' := [(3, .int (kI (kb ((b || false))))), (0, .ref a), (1, .int (kI (x))), (2, .int (kI (y))), (4, .int (kI ((k : Nat) : Int)))]) hx hb dX4_hasStep_69 rfl hl (by decide) rfl (fun ls hl => ?_)
            refine lv_iinc (v := kI (((k + 1 : Nat) : Int))) (lv' := [(4, .int (kI ((k + 1 : Nat) : Int))), (3, .int (kI (kb ((b || false))))), (0, .ref a), (1, .int (kI (x))), (2, .int (kI (y)))]) hx hb dX4_hasStep_70 hl (k := 4) rfl (kI_incN _ _) (by decide) rfl (fun ls hl => ?_)
            refine lv_goto (tgt := 5) hx hb dX4_hasStep_73 (by decide) ?_
            exact ih_5  (k + 1) ((b || false)) (by first | assumption | omega | (simp_all; done) | grind) (by rw [ln_stepTo, ← hbb]; first | (simp [*]; done) | (simp [*]; grind) | grind) _ hS (by omega) ls (lv_sub hl [2, 3, 4, 1, 0] rfl)
          · -- not taken at 47
            refine lv_aload_n hx hb dX4_hasStep_50 rfl (lv_at hl 0 rfl) ?_
            refine kx_get (v := .ref pa) (C := RX4) (T := TX4) (N := 6) hx hb hts in_X4 hown hK hO_a rfl 1 (by decide) q336 (fun _ h9 => h9) rfl dX4_hasStep_51 ?_
            refine lv_iload hx hb dX4_hasStep_54 (lv_at hl 4 rfl) ?_
            refine kx_iconst hx hb dX4_hasStep_56 ?_
            refine kx_iadd hx hb dX4_hasStep_57 ?_
            refine kx_eqi (((k + 1 : Nat) : Int)) (by omega) ?_
            refine kx_iald (i := ((k + 1 : Nat) : Int)) hx hb hK hA_pa (k + 1) (rfl) (by omega) (by omega) dX4_hasStep_58 ?_
            refine kx_eqi (ln_pos L (k + 1)) (hM.1 (k + 1) (by omega)) ?_
            refine lv_iload_n hx hb dX4_hasStep_59 rfl (lv_at hl 1 rfl) ?_
            refine kx_icmp_ne (x := ln_pos L (k + 1)) (y := x) (tgt := 67) hx hb dX4_hasStep_60 (by decide) (by omega) (by omega) (by omega) (by omega) (fun c_60_5 => ?_) (fun c_60_5 => ?_)
            · -- taken at 60
              refine kx_iconst hx hb dX4_hasStep_67 ?_
              refine kx_iorb (x := b) (y := false) hx hb dX4_hasStep_68 ?_
              refine lv_istore_n (lv' := [(3, .int (kI (kb ((b || false))))), (0, .ref a), (1, .int (kI (x))), (2, .int (kI (y))), (4, .int (kI ((k : Nat) : Int)))]) hx hb dX4_hasStep_69 rfl hl (by decide) rfl (fun ls hl => ?_)
              refine lv_iinc (v := kI (((k + 1 : Nat) : Int))) (lv' := [(4, .int (kI ((k + 1 : Nat) : Int))), (3, .int (kI (kb ((b || false))))), (0, .ref a), (1, .int (kI (x))), (2, .int (kI (y)))]) hx hb dX4_hasStep_70 hl (k := 4) rfl (kI_incN _ _) (by decide) rfl (fun ls hl => ?_)
              refine lv_goto (tgt := 5) hx hb dX4_hasStep_73 (by decide) ?_
              exact ih_5  (k + 1) ((b || false)) (by first | assumption | omega | (simp_all; done) | grind) (by rw [ln_stepTo, ← hbb]; first | (simp [*]; done) | (simp [*]; grind) | grind) _ hS (by omega) ls (lv_sub hl [2, 3, 4, 1, 0] rfl)
            · -- not taken at 60
              refine kx_iconst hx hb dX4_hasStep_63 ?_
              refine lv_goto (tgt := 68) hx hb dX4_hasStep_64 (by decide) ?_
              refine kx_iorb (x := b) (y := true) hx hb dX4_hasStep_68 ?_
              refine lv_istore_n (lv' := [(3, .int (kI (kb ((b || true))))), (0, .ref a), (1, .int (kI (x))), (2, .int (kI (y))), (4, .int (kI ((k : Nat) : Int)))]) hx hb dX4_hasStep_69 rfl hl (by decide) rfl (fun ls hl => ?_)
              refine lv_iinc (v := kI (((k + 1 : Nat) : Int))) (lv' := [(4, .int (kI ((k + 1 : Nat) : Int))), (3, .int (kI (kb ((b || true))))), (0, .ref a), (1, .int (kI (x))), (2, .int (kI (y)))]) hx hb dX4_hasStep_70 hl (k := 4) rfl (kI_incN _ _) (by decide) rfl (fun ls hl => ?_)
              refine lv_goto (tgt := 5) hx hb dX4_hasStep_73 (by decide) ?_
              exact ih_5  (k + 1) ((b || true)) (by first | assumption | omega | (simp_all; done) | grind) (by rw [ln_stepTo, ← hbb]; first | (simp [*]; done) | (simp [*]; grind) | grind) _ hS (by omega) ls (lv_sub hl [2, 3, 4, 1, 0] rfl)
        · -- not taken at 23
          refine lv_aload_n hx hb dX4_hasStep_26 rfl (lv_at hl 0 rfl) ?_
          refine kx_get (v := .ref pa) (C := RX4) (T := TX4) (N := 6) hx hb hts in_X4 hown hK hO_a rfl 1 (by decide) q336 (fun _ h9 => h9) rfl dX4_hasStep_27 ?_
          refine lv_iload hx hb dX4_hasStep_30 (lv_at hl 4 rfl) ?_
          refine kx_iconst hx hb dX4_hasStep_32 ?_
          refine kx_iadd hx hb dX4_hasStep_33 ?_
          refine kx_eqi (((k + 1 : Nat) : Int)) (by omega) ?_
          refine kx_iald (i := ((k + 1 : Nat) : Int)) hx hb hK hA_pa (k + 1) (rfl) (by omega) (by omega) dX4_hasStep_34 ?_
          refine kx_eqi (ln_pos L (k + 1)) (hM.1 (k + 1) (by omega)) ?_
          refine lv_iload_n hx hb dX4_hasStep_35 rfl (lv_at hl 2 rfl) ?_
          refine kx_icmp_eq (x := ln_pos L (k + 1)) (y := y) (tgt := 63) hx hb dX4_hasStep_36 (by decide) (by omega) (by omega) (by omega) (by omega) (fun c_36_6 => ?_) (fun c_36_6 => ?_)
          · -- taken at 36
            refine kx_iconst hx hb dX4_hasStep_63 ?_
            refine lv_goto (tgt := 68) hx hb dX4_hasStep_64 (by decide) ?_
            refine kx_iorb (x := b) (y := true) hx hb dX4_hasStep_68 ?_
            refine lv_istore_n (lv' := [(3, .int (kI (kb ((b || true))))), (0, .ref a), (1, .int (kI (x))), (2, .int (kI (y))), (4, .int (kI ((k : Nat) : Int)))]) hx hb dX4_hasStep_69 rfl hl (by decide) rfl (fun ls hl => ?_)
            refine lv_iinc (v := kI (((k + 1 : Nat) : Int))) (lv' := [(4, .int (kI ((k + 1 : Nat) : Int))), (3, .int (kI (kb ((b || true))))), (0, .ref a), (1, .int (kI (x))), (2, .int (kI (y)))]) hx hb dX4_hasStep_70 hl (k := 4) rfl (kI_incN _ _) (by decide) rfl (fun ls hl => ?_)
            refine lv_goto (tgt := 5) hx hb dX4_hasStep_73 (by decide) ?_
            exact ih_5  (k + 1) ((b || true)) (by first | assumption | omega | (simp_all; done) | grind) (by rw [ln_stepTo, ← hbb]; first | (simp [*]; done) | (simp [*]; grind) | grind) _ hS (by omega) ls (lv_sub hl [2, 3, 4, 1, 0] rfl)
          · -- not taken at 36
            refine lv_aload_n hx hb dX4_hasStep_39 rfl (lv_at hl 0 rfl) ?_
            refine kx_get (v := .ref pa) (C := RX4) (T := TX4) (N := 6) hx hb hts in_X4 hown hK hO_a rfl 1 (by decide) q336 (fun _ h9 => h9) rfl dX4_hasStep_40 ?_
            refine lv_iload hx hb dX4_hasStep_43 (lv_at hl 4 rfl) ?_
            refine kx_iald (i := ((k : Nat) : Int)) hx hb hK hA_pa k (rfl) (by omega) (by omega) dX4_hasStep_45 ?_
            refine kx_eqi (ln_pos L k) (hM.1 k (by omega)) ?_
            refine lv_iload_n hx hb dX4_hasStep_46 rfl (lv_at hl 2 rfl) ?_
            refine kx_icmp_ne (x := ln_pos L k) (y := y) (tgt := 67) hx hb dX4_hasStep_47 (by decide) (by omega) (by omega) (by omega) (by omega) (fun c_47_7 => ?_) (fun c_47_7 => ?_)
            · -- taken at 47
              refine kx_iconst hx hb dX4_hasStep_67 ?_
              refine kx_iorb (x := b) (y := false) hx hb dX4_hasStep_68 ?_
              refine lv_istore_n (lv' := [(3, .int (kI (kb ((b || false))))), (0, .ref a), (1, .int (kI (x))), (2, .int (kI (y))), (4, .int (kI ((k : Nat) : Int)))]) hx hb dX4_hasStep_69 rfl hl (by decide) rfl (fun ls hl => ?_)
              refine lv_iinc (v := kI (((k + 1 : Nat) : Int))) (lv' := [(4, .int (kI ((k + 1 : Nat) : Int))), (3, .int (kI (kb ((b || false))))), (0, .ref a), (1, .int (kI (x))), (2, .int (kI (y)))]) hx hb dX4_hasStep_70 hl (k := 4) rfl (kI_incN _ _) (by decide) rfl (fun ls hl => ?_)
              refine lv_goto (tgt := 5) hx hb dX4_hasStep_73 (by decide) ?_
              exact ih_5  (k + 1) ((b || false)) (by first | assumption | omega | (simp_all; done) | grind) (by rw [ln_stepTo, ← hbb]; first | (simp [*]; done) | (simp [*]; grind) | grind) _ hS (by omega) ls (lv_sub hl [2, 3, 4, 1, 0] rfl)
            · -- not taken at 47
              refine lv_aload_n hx hb dX4_hasStep_50 rfl (lv_at hl 0 rfl) ?_
              refine kx_get (v := .ref pa) (C := RX4) (T := TX4) (N := 6) hx hb hts in_X4 hown hK hO_a rfl 1 (by decide) q336 (fun _ h9 => h9) rfl dX4_hasStep_51 ?_
              refine lv_iload hx hb dX4_hasStep_54 (lv_at hl 4 rfl) ?_
              refine kx_iconst hx hb dX4_hasStep_56 ?_
              refine kx_iadd hx hb dX4_hasStep_57 ?_
              refine kx_eqi (((k + 1 : Nat) : Int)) (by omega) ?_
              refine kx_iald (i := ((k + 1 : Nat) : Int)) hx hb hK hA_pa (k + 1) (rfl) (by omega) (by omega) dX4_hasStep_58 ?_
              refine kx_eqi (ln_pos L (k + 1)) (hM.1 (k + 1) (by omega)) ?_
              refine lv_iload_n hx hb dX4_hasStep_59 rfl (lv_at hl 1 rfl) ?_
              refine kx_icmp_ne (x := ln_pos L (k + 1)) (y := x) (tgt := 67) hx hb dX4_hasStep_60 (by decide) (by omega) (by omega) (by omega) (by omega) (fun c_60_8 => ?_) (fun c_60_8 => ?_)
              · -- taken at 60
                refine kx_iconst hx hb dX4_hasStep_67 ?_
                refine kx_iorb (x := b) (y := false) hx hb dX4_hasStep_68 ?_
                refine lv_istore_n (lv' := [(3, .int (kI (kb ((b || false))))), (0, .ref a), (1, .int (kI (x))), (2, .int (kI (y))), (4, .int (kI ((k : Nat) : Int)))]) hx hb dX4_hasStep_69 rfl hl (by decide) rfl (fun ls hl => ?_)
                refine lv_iinc (v := kI (((k + 1 : Nat) : Int))) (lv' := [(4, .int (kI ((k + 1 : Nat) : Int))), (3, .int (kI (kb ((b || false))))), (0, .ref a), (1, .int (kI (x))), (2, .int (kI (y)))]) hx hb dX4_hasStep_70 hl (k := 4) rfl (kI_incN _ _) (by decide) rfl (fun ls hl => ?_)
                refine lv_goto (tgt := 5) hx hb dX4_hasStep_73 (by decide) ?_
                exact ih_5  (k + 1) ((b || false)) (by first | assumption | omega | (simp_all; done) | grind) (by rw [ln_stepTo, ← hbb]; first | (simp [*]; done) | (simp [*]; grind) | grind) _ hS (by omega) ls (lv_sub hl [2, 3, 4, 1, 0] rfl)
              · -- not taken at 60
                refine kx_iconst hx hb dX4_hasStep_63 ?_
                refine lv_goto (tgt := 68) hx hb dX4_hasStep_64 (by decide) ?_
                refine kx_iorb (x := b) (y := true) hx hb dX4_hasStep_68 ?_
                refine lv_istore_n (lv' := [(3, .int (kI (kb ((b || true))))), (0, .ref a), (1, .int (kI (x))), (2, .int (kI (y))), (4, .int (kI ((k : Nat) : Int)))]) hx hb dX4_hasStep_69 rfl hl (by decide) rfl (fun ls hl => ?_)
                refine lv_iinc (v := kI (((k + 1 : Nat) : Int))) (lv' := [(4, .int (kI ((k + 1 : Nat) : Int))), (3, .int (kI (kb ((b || true))))), (0, .ref a), (1, .int (kI (x))), (2, .int (kI (y)))]) hx hb dX4_hasStep_70 hl (k := 4) rfl (kI_incN _ _) (by decide) rfl (fun ls hl => ?_)
                refine lv_goto (tgt := 5) hx hb dX4_hasStep_73 (by decide) ?_
                exact ih_5  (k + 1) ((b || true)) (by first | assumption | omega | (simp_all; done) | grind) (by rw [ln_stepTo, ← hbb]; first | (simp [*]; done) | (simp [*]; grind) | grind) _ hS (by omega) ls (lv_sub hl [2, 3, 4, 1, 0] rfl)
  exact lp_5_x_1 (ln_n L - 0 + 1) 0 false (by first | assumption | omega | (simp_all; done) | grind) (rfl) _ hS (Nat.lt_succ_self _) ls (lv_sub hl [2, 3, 4, 1, 0] rfl)

set_option maxHeartbeats 4000000 in
set_option maxRecDepth 100000 in
theorem m_X4_closesAt (l : Launch) (D : kG) (H : Heap) (a : Nat) (pa : Nat) (sa : Nat) (ea : Nat) (gp : Nat → Int) (gs : Nat → Int) (L : Ln) (x : Int) (hO_a : kO D H a 3 [.int (kI (ln_lv L)), .ref pa, .ref sa, .int (kI ((ln_n L : Nat) : Int)), .ref ea, .int (kI (ln_lb L))]) (hA_pa : kAi D H pa 61 gp) (hA_sa : kAi D H sa 60 gs) (hM : MLn gp gs L) (hok : LnOK L) (hr_x : -2147483648 ≤ x ∧ x ≤ 2147483647) : Met l yX4_closesAt (ws_ yX4_closesAt cX4_closesAt 2 (some .boolean)) ({ frames := 0, cells := 0, slots := 0, locals := 0 } : Room) (kPre D H [.ref a, .int (kI (x))]) (kQb (fun (r : Bool) H' => H' = H ∧ r = decide (x = ln_bg L ∧ 3 ≤ ln_n L)) kNO) (0) (0) (kNO) := by
  refine Met.ofW (cc := cX4_closesAt) (maxL := 2) (ret := (some .boolean)) (by decide) rfl ?_
  intro p e s m args below meth c s₁ B hml hv
  obtain ⟨rfl, hH, hK⟩ := hv
  subst hH
  have hx := B.exec
  have hb := B.bytes
  have hr := B.returns
  have hts := atoms_spec (ws := ws_ yX4_closesAt cX4_closesAt 2 (some .boolean)) B.pre
  have hts : ∀ w ∈ lw_all, w.before _ s = true := fun w h => hts w (List.mem_cons_of_mem _ h)
  have hown : s.vm.findClass RX4 = some m.cls := findClass_of_methodNamed B.named
  have hlk := B.notSynchronized
  have hS : va_S kNO s.heap s.heap [] := va_S.rf
  have hB : ∀ q, kNO q → kBase D ≤ q := fun _ h => h.elim
  have hl := lv_entry ([.ref a, .int (kI (x))]) (n := 2) (Nat.le_of_ble_eq_true rfl)
  rw [lg_entry_eq]
  generalize (lg_sl ([.ref a, .int (kI (x))]) ++ List.replicate (2 - (lg_sl ([.ref a, .int (kI (x))])).length) Slot.unset).toArray = ls at hl ⊢
  have hl : lv_has ls 2 [(0, .ref a), (1, .int (kI (x)))] := hl
  have hL60 := hok.n
  have hlb := hok.lbr
  have hlv := hok.lv
  have hsz := ln_size_23 L
  have hbg := hok.bg
  refine lv_iload_n hx hb dX4_closesAt_0 rfl (lv_at hl 1 rfl) ?_
  refine lv_aload_n hx hb dX4_closesAt_1 rfl (lv_at hl 0 rfl) ?_
  refine kx_get (v := .ref pa) (C := RX4) (T := TX4) (N := 6) hx hb hts in_X4 hown hK hO_a rfl 1 (by decide) q336 (fun _ h9 => h9) rfl dX4_closesAt_2 ?_
  refine kx_iconst hx hb dX4_closesAt_5 ?_
  refine kx_iald (i := 0) hx hb hK hA_pa 0 (rfl) (by omega) (by omega) dX4_closesAt_6 ?_
  refine kx_eqi (ln_bg L) (hM.1 0 (by omega)) ?_
  refine kx_icmp_ne (x := x) (y := ln_bg L) (tgt := 24) hx hb dX4_closesAt_7 (by decide) (by omega) (by omega) (by omega) (by omega) (fun c_7_1 => ?_) (fun c_7_1 => ?_)
  · -- taken at 7
    refine kx_iconst hx hb dX4_closesAt_24 ?_
    exact kx_zret (z := false) hx hb hr hlk (⟨rfl, by first | rfl | exact (decide_eq_true (by omega)).symm | exact (decide_eq_false (by omega)).symm | grind⟩) hS dX4_closesAt_25
  · -- not taken at 7
    refine lv_aload_n hx hb dX4_closesAt_10 rfl (lv_at hl 0 rfl) ?_
    refine kx_get (v := .int (kI ((ln_n L : Nat) : Int))) (C := RX4) (T := TX4) (N := 6) hx hb hts in_X4 hown hK hO_a rfl 3 (by decide) q344 (fun _ h9 => h9) rfl dX4_closesAt_11 ?_
    refine kx_iconst hx hb dX4_closesAt_14 ?_
    refine kx_iadd hx hb dX4_closesAt_15 ?_
    refine kx_iconst hx hb dX4_closesAt_16 ?_
    refine kx_icmp_lt (x := (((ln_n L : Nat) : Int) + 1)) (y := 4) (tgt := 24) hx hb dX4_closesAt_17 (by decide) (by omega) (by omega) (by omega) (by omega) (fun c_17_2 => ?_) (fun c_17_2 => ?_)
    · -- taken at 17
      refine kx_iconst hx hb dX4_closesAt_24 ?_
      exact kx_zret (z := false) hx hb hr hlk (⟨rfl, by first | rfl | exact (decide_eq_true (by omega)).symm | exact (decide_eq_false (by omega)).symm | grind⟩) hS dX4_closesAt_25
    · -- not taken at 17
      refine kx_iconst hx hb dX4_closesAt_20 ?_
      refine lv_goto (tgt := 25) hx hb dX4_closesAt_21 (by decide) ?_
      exact kx_zret (z := true) hx hb hr hlk (⟨rfl, by first | rfl | exact (decide_eq_true (by omega)).symm | exact (decide_eq_false (by omega)).symm | grind⟩) hS dX4_closesAt_25

set_option maxHeartbeats 4000000 in
set_option maxRecDepth 100000 in
theorem m_X4_labelSize (l : Launch) (D : kG) (H : Heap) (a : Nat) (pa : Nat) (sa : Nat) (ea : Nat) (L : Ln) (hO_a : kO D H a 3 [.int (kI (ln_lv L)), .ref pa, .ref sa, .int (kI ((ln_n L : Nat) : Int)), .ref ea, .int (kI (ln_lb L))]) (hok : LnOK L) : Met l yX4_labelSize (ws_ yX4_labelSize cX4_labelSize 1 (some .int)) ({ frames := 0, cells := 0, slots := 0, locals := 0 } : Room) (kPre D H [.ref a]) (kQi (fun (r : Int) H' => H' = H ∧ r = ((ln_size L : Nat) : Int)) kNO) (0) (0) (kNO) := by
  refine Met.ofW (cc := cX4_labelSize) (maxL := 1) (ret := (some .int)) (by decide) rfl ?_
  intro p e s m args below meth c s₁ B hml hv
  obtain ⟨rfl, hH, hK⟩ := hv
  subst hH
  have hx := B.exec
  have hb := B.bytes
  have hr := B.returns
  have hts := atoms_spec (ws := ws_ yX4_labelSize cX4_labelSize 1 (some .int)) B.pre
  have hts : ∀ w ∈ lw_all, w.before _ s = true := fun w h => hts w (List.mem_cons_of_mem _ h)
  have hown : s.vm.findClass RX4 = some m.cls := findClass_of_methodNamed B.named
  have hlk := B.notSynchronized
  have hS : va_S kNO s.heap s.heap [] := va_S.rf
  have hB : ∀ q, kNO q → kBase D ≤ q := fun _ h => h.elim
  have hl := lv_entry ([.ref a]) (n := 1) (Nat.le_of_ble_eq_true rfl)
  rw [lg_entry_eq]
  generalize (lg_sl ([.ref a]) ++ List.replicate (1 - (lg_sl ([.ref a])).length) Slot.unset).toArray = ls at hl ⊢
  have hl : lv_has ls 1 [(0, .ref a)] := hl
  have hL60 := hok.n
  have hlb := hok.lbr
  have hlv := hok.lv
  have hsz := ln_size_23 L
  refine lv_aload_n hx hb dX4_labelSize_0 rfl (lv_at hl 0 rfl) ?_
  refine kx_get (v := .int (kI (ln_lv L))) (C := RX4) (T := TX4) (N := 6) hx hb hts in_X4 hown hK hO_a rfl 0 (by decide) q333 (fun _ h9 => h9) rfl dX4_labelSize_1 ?_
  refine kx_bipush hx hb (by decide) dX4_labelSize_4 ?_
  refine kx_icmp_ge (x := ln_lv L) (y := 10) (tgt := 13) hx hb dX4_labelSize_6 (by decide) (by omega) (by omega) (by omega) (by omega) (fun c_6_1 => ?_) (fun c_6_1 => ?_)
  · -- taken at 6
    refine kx_iconst hx hb dX4_labelSize_13 ?_
    exact kx_iret (z := 3) hx hb hr hlk (⟨rfl, by unfold ln_size; first | (rw [if_pos (by omega)]; rfl) | (rw [if_neg (by omega)]; rfl)⟩) hS dX4_labelSize_14
  · -- not taken at 6
    refine kx_iconst hx hb dX4_labelSize_9 ?_
    refine lv_goto (tgt := 14) hx hb dX4_labelSize_10 (by decide) ?_
    exact kx_iret (z := 2) hx hb hr hlk (⟨rfl, by unfold ln_size; first | (rw [if_pos (by omega)]; rfl) | (rw [if_neg (by omega)]; rfl)⟩) hS dX4_labelSize_14

set_option maxHeartbeats 4000000 in
set_option maxRecDepth 100000 in
theorem m_X4_lastOf (l : Launch) (D : kG) (H : Heap) (a : Nat) (pa : Nat) (sa : Nat) (ea : Nat) (L : Ln) (pl : Nat) (hO_a : kO D H a 3 [.int (kI (ln_lv L)), .ref pa, .ref sa, .int (kI ((ln_n L : Nat) : Int)), .ref ea, .int (kI (ln_lb L))]) (hok : LnOK L) (hpl : pl ≤ 1000) : Met l yX4_lastOf (ws_ yX4_lastOf cX4_lastOf 2 (some .int)) ({ frames := 1, cells := 0, slots := 0, locals := 20 } : Room) (kPre D H [.ref a, .int (kI ((pl : Nat) : Int))]) (kQi (fun (r : Int) H' => H' = H ∧ r = ((pl + ln_size L - 1 : Nat) : Int)) kNO) (0) (0) (kNO) := by
  refine Met.ofW (cc := cX4_lastOf) (maxL := 2) (ret := (some .int)) (by decide) rfl ?_
  intro p e s m args below meth c s₁ B hml hv
  obtain ⟨rfl, hH, hK⟩ := hv
  subst hH
  have hx := B.exec
  have hb := B.bytes
  have hr := B.returns
  have hts := atoms_spec (ws := ws_ yX4_lastOf cX4_lastOf 2 (some .int)) B.pre
  have hts : ∀ w ∈ lw_all, w.before _ s = true := fun w h => hts w (List.mem_cons_of_mem _ h)
  have hown : s.vm.findClass RX4 = some m.cls := findClass_of_methodNamed B.named
  have hlk := B.notSynchronized
  have hS : va_S kNO s.heap s.heap [] := va_S.rf
  have hB : ∀ q, kNO q → kBase D ≤ q := fun _ h => h.elim
  have hl := lv_entry ([.ref a, .int (kI ((pl : Nat) : Int))]) (n := 2) (Nat.le_of_ble_eq_true rfl)
  rw [lg_entry_eq]
  generalize (lg_sl ([.ref a, .int (kI ((pl : Nat) : Int))]) ++ List.replicate (2 - (lg_sl ([.ref a, .int (kI ((pl : Nat) : Int))])).length) Slot.unset).toArray = ls at hl ⊢
  have hl : lv_has ls 2 [(0, .ref a), (1, .int (kI ((pl : Nat) : Int)))] := hl
  have hL60 := hok.n
  have hlb := hok.lbr
  have hlv := hok.lv
  have hsz := ln_size_23 L
  refine lv_iload_n hx hb dX4_lastOf_0 rfl (lv_at hl 1 rfl) ?_
  refine lv_aload_n hx hb dX4_lastOf_1 rfl (lv_at hl 0 rfl) ?_
  refine kx_ci0 (va_runV (As := []) (rest := [.int (kI ((pl : Nat) : Int))]) ⟨hx, hb, hml, hown, hts⟩ (m_X4_labelSize l D s.heap a pa sa ea L hO_a (by first | assumption | omega)) (cwV 0 hts (lw_V q1084 q1085 q1086 q99 q1087) rfl rfl rfl (by decide +kernel) ⟨Nat.le_of_ble_eq_true rfl, Nat.le_of_ble_eq_true rfl⟩) (kx_pv hK hS hB (kx_rc hK hO_a (C := RX4) (T := TX4) (N := 6) rfl)) rfl rfl hl.1 rfl (lv_room (Nat.le_of_ble_eq_true rfl)) dX4_lastOf_2 ⟨by first | exact Nat.le_of_ble_eq_true rfl | omega | (show _ ≤ _; omega) | (dsimp only [headSpec]; omega), by first | exact Nat.le_of_ble_eq_true rfl | omega | (show _ ≤ _; omega) | (dsimp only [headSpec]; omega)⟩) hS (fun z_4 locs_1 hz_3 hS_2 => ?_)
  subst z_4
  refine kx_iadd hx hb dX4_lastOf_5 ?_
  refine kx_iconst hx hb dX4_lastOf_6 ?_
  refine kx_isub hx hb dX4_lastOf_7 ?_
  exact kx_iret (z := ((((pl : Nat) : Int) + ((ln_size L : Nat) : Int)) - 1)) hx hb hr hlk (⟨rfl, by omega⟩) hS_2 dX4_lastOf_8

set_option maxHeartbeats 4000000 in
set_option maxRecDepth 100000 in
theorem m_X5_last (l : Launch) (D : kG) (H : Heap) (a : Nat) (pa : Nat) (sa : Nat) (ea : Nat) (gp : Nat → Int) (gs : Nat → Int) (L : Ln) (hO_a : kO D H a 3 [.int (kI (ln_lv L)), .ref pa, .ref sa, .int (kI ((ln_n L : Nat) : Int)), .ref ea, .int (kI (ln_lb L))]) : Met l yX5_last (ws_ yX5_last cX5_last 2 (some .int)) ({ frames := 0, cells := 0, slots := 0, locals := 0 } : Room) (kPre D H [.ref ea, .ref a]) (kQi (fun (r : Int) H' => H' = H ∧ r = ((ln_n L : Nat) : Int)) kNO) (0) (0) (kNO) := by
  refine Met.ofW (cc := cX5_last) (maxL := 2) (ret := (some .int)) (by decide) rfl ?_
  intro p e s m args below meth c s₁ B hml hv
  obtain ⟨rfl, hH, hK⟩ := hv
  subst hH
  have hx := B.exec
  have hb := B.bytes
  have hr := B.returns
  have hts := atoms_spec (ws := ws_ yX5_last cX5_last 2 (some .int)) B.pre
  have hts : ∀ w ∈ lw_all, w.before _ s = true := fun w h => hts w (List.mem_cons_of_mem _ h)
  have hown : s.vm.findClass RX5 = some m.cls := findClass_of_methodNamed B.named
  have hlk := B.notSynchronized
  have hS : va_S kNO s.heap s.heap [] := va_S.rf
  have hB : ∀ q, kNO q → kBase D ≤ q := fun _ h => h.elim
  have hl := lv_entry ([.ref ea, .ref a]) (n := 2) (Nat.le_of_ble_eq_true rfl)
  rw [lg_entry_eq]
  generalize (lg_sl ([.ref ea, .ref a]) ++ List.replicate (2 - (lg_sl ([.ref ea, .ref a])).length) Slot.unset).toArray = ls at hl ⊢
  have hl : lv_has ls 2 [(0, .ref ea), (1, .ref a)] := hl
  refine lv_aload_n hx hb dX5_last_0 rfl (lv_at hl 1 rfl) ?_
  refine kx_getN (v := .int (kI ((ln_n L : Nat) : Int))) (C := RX4) (T := TX4) (N := 6) hx hb hts in_X4 hown hK hO_a rfl 3 (by decide) (hK.w q343 rfl) (fun _ h9 => h9) rfl dX5_last_1 ?_
  exact kx_iret (z := ((ln_n L : Nat) : Int)) hx hb hr hlk (⟨rfl, by rfl⟩) hS dX5_last_4

set_option maxHeartbeats 4000000 in
set_option maxRecDepth 100000 in
theorem m_X6_last (l : Launch) (D : kG) (H : Heap) (a : Nat) (pa : Nat) (sa : Nat) (ea : Nat) (gp : Nat → Int) (gs : Nat → Int) (L : Ln) (hO_a : kO D H a 3 [.int (kI (ln_lv L)), .ref pa, .ref sa, .int (kI ((ln_n L : Nat) : Int)), .ref ea, .int (kI (ln_lb L))]) (hM : MLn gp gs L) (hok : LnOK L) : Met l yX6_last (ws_ yX6_last cX6_last 2 (some .int)) ({ frames := 0, cells := 0, slots := 0, locals := 0 } : Room) (kPre D H [.ref ea, .ref a]) (kQi (fun (r : Int) H' => H' = H ∧ r = ((ln_n L : Int) - 1)) kNO) (0) (0) (kNO) := by
  refine Met.ofW (cc := cX6_last) (maxL := 2) (ret := (some .int)) (by decide) rfl ?_
  intro p e s m args below meth c s₁ B hml hv
  obtain ⟨rfl, hH, hK⟩ := hv
  subst hH
  have hx := B.exec
  have hb := B.bytes
  have hr := B.returns
  have hts := atoms_spec (ws := ws_ yX6_last cX6_last 2 (some .int)) B.pre
  have hts : ∀ w ∈ lw_all, w.before _ s = true := fun w h => hts w (List.mem_cons_of_mem _ h)
  have hown : s.vm.findClass RX6 = some m.cls := findClass_of_methodNamed B.named
  have hlk := B.notSynchronized
  have hS : va_S kNO s.heap s.heap [] := va_S.rf
  have hB : ∀ q, kNO q → kBase D ≤ q := fun _ h => h.elim
  have hl := lv_entry ([.ref ea, .ref a]) (n := 2) (Nat.le_of_ble_eq_true rfl)
  rw [lg_entry_eq]
  generalize (lg_sl ([.ref ea, .ref a]) ++ List.replicate (2 - (lg_sl ([.ref ea, .ref a])).length) Slot.unset).toArray = ls at hl ⊢
  have hl : lv_has ls 2 [(0, .ref ea), (1, .ref a)] := hl
  have hL60 := hok.n
  have hlb := hok.lbr
  have hlv := hok.lv
  have hsz := ln_size_23 L
  refine lv_aload_n hx hb dX6_last_0 rfl (lv_at hl 1 rfl) ?_
  refine kx_getN (v := .int (kI ((ln_n L : Nat) : Int))) (C := RX4) (T := TX4) (N := 6) hx hb hts in_X4 hown hK hO_a rfl 3 (by decide) (hK.w q342 rfl) (fun _ h9 => h9) rfl dX6_last_1 ?_
  refine kx_iconst hx hb dX6_last_4 ?_
  refine kx_isub hx hb dX6_last_5 ?_
  exact kx_iret (z := (((ln_n L : Nat) : Int) - 1)) hx hb hr hlk (⟨rfl, by rfl⟩) hS dX6_last_6

set_option maxHeartbeats 4000000 in
set_option maxRecDepth 100000 in
theorem m_X5_bend (l : Launch) (D : kG) (H : Heap) (a : Nat) (pa : Nat) (sa : Nat) (ea : Nat) (gp : Nat → Int) (gs : Nat → Int) (L : Ln) : Met l yX5_bend (ws_ yX5_bend cX5_bend 2 (some .int)) ({ frames := 0, cells := 0, slots := 0, locals := 0 } : Room) (kPre D H [.ref ea, .ref a]) (kQi (fun (r : Int) H' => H' = H ∧ r = 0) kNO) (0) (0) (kNO) := by
  refine Met.ofW (cc := cX5_bend) (maxL := 2) (ret := (some .int)) (by decide) rfl ?_
  intro p e s m args below meth c s₁ B hml hv
  obtain ⟨rfl, hH, hK⟩ := hv
  subst hH
  have hx := B.exec
  have hb := B.bytes
  have hr := B.returns
  have hts := atoms_spec (ws := ws_ yX5_bend cX5_bend 2 (some .int)) B.pre
  have hts : ∀ w ∈ lw_all, w.before _ s = true := fun w h => hts w (List.mem_cons_of_mem _ h)
  have hown : s.vm.findClass RX5 = some m.cls := findClass_of_methodNamed B.named
  have hlk := B.notSynchronized
  have hS : va_S kNO s.heap s.heap [] := va_S.rf
  have hB : ∀ q, kNO q → kBase D ≤ q := fun _ h => h.elim
  have hl := lv_entry ([.ref ea, .ref a]) (n := 2) (Nat.le_of_ble_eq_true rfl)
  rw [lg_entry_eq]
  generalize (lg_sl ([.ref ea, .ref a]) ++ List.replicate (2 - (lg_sl ([.ref ea, .ref a])).length) Slot.unset).toArray = ls at hl ⊢
  have hl : lv_has ls 2 [(0, .ref ea), (1, .ref a)] := hl
  refine kx_iconst hx hb dX5_bend_0 ?_
  exact kx_iret (z := 0) hx hb hr hlk (⟨rfl, by rfl⟩) hS dX5_bend_1

set_option maxHeartbeats 4000000 in
set_option maxRecDepth 100000 in
theorem m_X6_bend (l : Launch) (D : kG) (H : Heap) (a : Nat) (pa : Nat) (sa : Nat) (ea : Nat) (gp : Nat → Int) (gs : Nat → Int) (L : Ln) (hO_a : kO D H a 3 [.int (kI (ln_lv L)), .ref pa, .ref sa, .int (kI ((ln_n L : Nat) : Int)), .ref ea, .int (kI (ln_lb L))]) (hA_pa : kAi D H pa 61 gp) (hA_sa : kAi D H sa 60 gs) (hM : MLn gp gs L) (hok : LnOK L) (hcl : ln_cl L = true) : Met l yX6_bend (ws_ yX6_bend cX6_bend 2 (some .int)) ({ frames := 1, cells := 0, slots := 0, locals := 22 } : Room) (kPre D H [.ref ea, .ref a]) (kQi (fun (r : Int) H' => H' = H ∧ r = turn (ln_d L (ln_n L - 1)) (ln_d L 0)) kNO) (0) (0) (kNO) := by
  refine Met.ofW (cc := cX6_bend) (maxL := 2) (ret := (some .int)) (by decide) rfl ?_
  intro p e s m args below meth c s₁ B hml hv
  obtain ⟨rfl, hH, hK⟩ := hv
  subst hH
  have hx := B.exec
  have hb := B.bytes
  have hr := B.returns
  have hts := atoms_spec (ws := ws_ yX6_bend cX6_bend 2 (some .int)) B.pre
  have hts : ∀ w ∈ lw_all, w.before _ s = true := fun w h => hts w (List.mem_cons_of_mem _ h)
  have hown : s.vm.findClass RX6 = some m.cls := findClass_of_methodNamed B.named
  have hlk := B.notSynchronized
  have hS : va_S kNO s.heap s.heap [] := va_S.rf
  have hB : ∀ q, kNO q → kBase D ≤ q := fun _ h => h.elim
  have hl := lv_entry ([.ref ea, .ref a]) (n := 2) (Nat.le_of_ble_eq_true rfl)
  rw [lg_entry_eq]
  generalize (lg_sl ([.ref ea, .ref a]) ++ List.replicate (2 - (lg_sl ([.ref ea, .ref a])).length) Slot.unset).toArray = ls at hl ⊢
  have hl : lv_has ls 2 [(0, .ref ea), (1, .ref a)] := hl
  have hL60 := hok.n
  have hlb := hok.lbr
  have hlv := hok.lv
  have hsz := ln_size_23 L
  have hn0 := ln_cl_n hcl
  have hd1 := hok.d (k := ln_n L - 1) (by omega)
  have hd0 := hok.d (k := 0) (by omega)
  refine lv_aload_n hx hb dX6_bend_0 rfl (lv_at hl 1 rfl) ?_
  refine kx_getN (v := .ref sa) (C := RX4) (T := TX4) (N := 6) hx hb hts in_X4 hown hK hO_a rfl 2 (by decide) (hK.w q340 rfl) (fun _ h9 => h9) rfl dX6_bend_1 ?_
  refine lv_aload_n hx hb dX6_bend_4 rfl (lv_at hl 1 rfl) ?_
  refine kx_getN (v := .int (kI ((ln_n L : Nat) : Int))) (C := RX4) (T := TX4) (N := 6) hx hb hts in_X4 hown hK hO_a rfl 3 (by decide) (hK.w q342 rfl) (fun _ h9 => h9) rfl dX6_bend_5 ?_
  refine kx_iconst hx hb dX6_bend_8 ?_
  refine kx_isub hx hb dX6_bend_9 ?_
  refine kx_eqi (((ln_n L - 1 : Nat) : Int)) (by omega) ?_
  refine kx_iald (i := ((ln_n L - 1 : Nat) : Int)) hx hb hK hA_sa (ln_n L - 1) (rfl) (by omega) (by omega) dX6_bend_10 ?_
  refine kx_eqi (ln_d L (ln_n L - 1)) (hM.2 _ (by omega)) ?_
  refine lv_aload_n hx hb dX6_bend_11 rfl (lv_at hl 1 rfl) ?_
  refine kx_getN (v := .ref sa) (C := RX4) (T := TX4) (N := 6) hx hb hts in_X4 hown hK hO_a rfl 2 (by decide) (hK.w q340 rfl) (fun _ h9 => h9) rfl dX6_bend_12 ?_
  refine kx_iconst hx hb dX6_bend_15 ?_
  refine kx_iald (i := 0) hx hb hK hA_sa 0 (rfl) (by omega) (by omega) dX6_bend_16 ?_
  refine kx_eqi (ln_d L 0) (hM.2 0 (by omega)) ?_
  refine kx_ci0 (va_runS (As := [.int (kI (ln_d L (ln_n L - 1))), .int (kI (ln_d L 0))]) (rest := []) ⟨hx, hb, hml, hown, hts⟩ (m_X4_turn l D s.heap (ln_d L (ln_n L - 1)) (ln_d L 0)  (by first | assumption | omega) (by first | assumption | omega)) (va_cwS 2 hts (lw_S q1123 q1124 q99 q1125) rfl rfl rfl (by decide +kernel) ⟨Nat.le_of_ble_eq_true rfl, Nat.le_of_ble_eq_true rfl⟩) (kx_ps hK hS hB) rfl rfl hl.1 rfl (lv_room (Nat.le_of_ble_eq_true rfl)) dX6_bend_17 ⟨by first | exact Nat.le_of_ble_eq_true rfl | omega | (show _ ≤ _; omega) | (dsimp only [headSpec]; omega), by first | exact Nat.le_of_ble_eq_true rfl | omega | (show _ ≤ _; omega) | (dsimp only [headSpec]; omega)⟩) hS (fun z_4 locs_1 hz_3 hS_2 => ?_)
  subst z_4
  exact kx_iret (z := turn (ln_d L (ln_n L - 1)) (ln_d L 0)) hx hb hr hlk (⟨rfl, by rfl⟩) hS_2 dX6_bend_20

set_option maxHeartbeats 4000000 in
set_option maxRecDepth 100000 in
theorem m_hasPlace_o (l : Launch) (D : kG) (H : Heap) (a : Nat) (pa : Nat) (sa : Nat) (ea : Nat) (gp : Nat → Int) (gs : Nat → Int) (L : Ln) (pl : Nat) (hO_a : kO D H a 3 [.int (kI (ln_lv L)), .ref pa, .ref sa, .int (kI ((ln_n L : Nat) : Int)), .ref ea, .int (kI (ln_lb L))]) (hA_pa : kAi D H pa 61 gp) (hA_sa : kAi D H sa 60 gs) (hO_ea : kO D H ea 4 []) (hM : MLn gp gs L) (hok : LnOK L) (hpl : pl ≤ ln_n L) (hcl : ln_cl L = false) : Met l yX4_hasPlace (ws_ yX4_hasPlace cX4_hasPlace 2 (some .boolean)) ({ frames := 2, cells := 0, slots := 0, locals := 41 } : Room) (kPre D H [.ref a, .int (kI ((pl : Nat) : Int))]) (kQb (fun (r : Bool) H' => H' = H ∧ r = ln_isPlace L (pl : Int)) kNO) (0) (0) (kNO) := by
  refine Met.ofW (cc := cX4_hasPlace) (maxL := 2) (ret := (some .boolean)) (by decide) rfl ?_
  intro p e s m args below meth c s₁ B hml hv
  obtain ⟨rfl, hH, hK⟩ := hv
  subst hH
  have hx := B.exec
  have hb := B.bytes
  have hr := B.returns
  have hts := atoms_spec (ws := ws_ yX4_hasPlace cX4_hasPlace 2 (some .boolean)) B.pre
  have hts : ∀ w ∈ lw_all, w.before _ s = true := fun w h => hts w (List.mem_cons_of_mem _ h)
  have hown : s.vm.findClass RX4 = some m.cls := findClass_of_methodNamed B.named
  have hlk := B.notSynchronized
  have hS : va_S kNO s.heap s.heap [] := va_S.rf
  have hB : ∀ q, kNO q → kBase D ≤ q := fun _ h => h.elim
  have hl := lv_entry ([.ref a, .int (kI ((pl : Nat) : Int))]) (n := 2) (Nat.le_of_ble_eq_true rfl)
  rw [lg_entry_eq]
  generalize (lg_sl ([.ref a, .int (kI ((pl : Nat) : Int))]) ++ List.replicate (2 - (lg_sl ([.ref a, .int (kI ((pl : Nat) : Int))])).length) Slot.unset).toArray = ls at hl ⊢
  have hl : lv_has ls 2 [(0, .ref a), (1, .int (kI ((pl : Nat) : Int)))] := hl
  have hL60 := hok.n
  have hlb := hok.lbr
  have hlv := hok.lv
  have hsz := ln_size_23 L
  have hla := ln_last_o hcl
  refine lv_aload_n hx hb dX4_hasPlace_0 rfl (lv_at hl 0 rfl) ?_
  refine lv_iload_n hx hb dX4_hasPlace_1 rfl (lv_at hl 1 rfl) ?_
  refine kx_ci0 (va_runV (As := [.int (kI ((pl : Nat) : Int))]) (rest := []) ⟨hx, hb, hml, hown, hts⟩ (m_X4_lastOf l D s.heap a pa sa ea L pl hO_a (by first | assumption | omega) (by first | assumption | omega)) (cwV 1 hts (lw_V q1080 q1081 q1082 q99 q1083) rfl rfl rfl (by decide +kernel) ⟨Nat.le_of_ble_eq_true rfl, Nat.le_of_ble_eq_true rfl⟩) (kx_pv hK hS hB (kx_rc hK hO_a (C := RX4) (T := TX4) (N := 6) rfl)) rfl rfl hl.1 rfl (lv_room (Nat.le_of_ble_eq_true rfl)) dX4_hasPlace_2 ⟨by first | exact Nat.le_of_ble_eq_true rfl | omega | (show _ ≤ _; omega) | (dsimp only [headSpec]; omega), by first | exact Nat.le_of_ble_eq_true rfl | omega | (show _ ≤ _; omega) | (dsimp only [headSpec]; omega)⟩) hS (fun z_4 locs_1 hz_3 hS_2 => ?_)
  subst z_4
  refine lv_aload_n hx hb dX4_hasPlace_5 rfl (lv_at hl 0 rfl) ?_
  refine kx_get (v := .ref ea) (C := RX4) (T := TX4) (N := 6) hx hb hts in_X4 hown hK hO_a rfl 4 (by decide) q347 (fun _ h9 => h9) rfl dX4_hasPlace_6 ?_
  refine lv_aload_n hx hb dX4_hasPlace_9 rfl (lv_at hl 0 rfl) ?_
  refine kx_cFi0 (va_runF (C := RX5) (As := [.ref a]) (rest := [.int (kI ((pl + ln_size L - 1 : Nat) : Int))]) (hK.at (ci := 4) rfl) ⟨hx, hb, hml, hown, hts⟩ (m_X5_last l D s.heap a pa sa ea gp gs L hO_a ) (va_cwF (x := ({ cls := "ContourLabels$Ends", name := "last", desc := "(LContourLabels$Line;)I" } : Jvm.MethodName)) 1 hts (lw_F q1089 q1099 q1101 q100 q1103) rfl rfl rfl (hK.fw (by decide)) (by decide +kernel) ⟨Nat.le_of_ble_eq_true rfl, Nat.le_of_ble_eq_true rfl⟩) (kx_pv hK hS_2 hB (kx_rc hK hO_ea (C := RX5) (T := kT0) (N := 0) rfl)) rfl rfl hl.1 rfl (lv_room (Nat.le_of_ble_eq_true rfl)) dX4_hasPlace_10 ⟨by first | exact Nat.le_of_ble_eq_true rfl | omega | (show _ ≤ _; omega) | (dsimp only [headSpec]; omega), by first | exact Nat.le_of_ble_eq_true rfl | omega | (show _ ≤ _; omega) | (dsimp only [headSpec]; omega)⟩) hS_2 (fun z_8 locs_5 hz_7 hS_6 => ?_)
  subst z_8
  refine kx_icmp_gt (x := ((pl + ln_size L - 1 : Nat) : Int)) (y := ((ln_n L : Nat) : Int)) (tgt := 22) hx hb dX4_hasPlace_15 (by decide) (by omega) (by omega) (by omega) (by omega) (fun c_15_9 => ?_) (fun c_15_9 => ?_)
  · -- taken at 15
    refine kx_iconst hx hb dX4_hasPlace_22 ?_
    exact kx_zret (z := false) hx hb hr hlk (⟨rfl, by unfold ln_isPlace; first | exact (decide_eq_true (by omega)).symm | exact (decide_eq_false (by omega)).symm⟩) hS_6 dX4_hasPlace_23
  · -- not taken at 15
    refine kx_iconst hx hb dX4_hasPlace_18 ?_
    refine lv_goto (tgt := 23) hx hb dX4_hasPlace_19 (by decide) ?_
    exact kx_zret (z := true) hx hb hr hlk (⟨rfl, by unfold ln_isPlace; first | exact (decide_eq_true (by omega)).symm | exact (decide_eq_false (by omega)).symm⟩) hS_6 dX4_hasPlace_23

set_option maxHeartbeats 4000000 in
set_option maxRecDepth 100000 in
theorem m_hasPlace_c (l : Launch) (D : kG) (H : Heap) (a : Nat) (pa : Nat) (sa : Nat) (ea : Nat) (gp : Nat → Int) (gs : Nat → Int) (L : Ln) (pl : Nat) (hO_a : kO D H a 3 [.int (kI (ln_lv L)), .ref pa, .ref sa, .int (kI ((ln_n L : Nat) : Int)), .ref ea, .int (kI (ln_lb L))]) (hA_pa : kAi D H pa 61 gp) (hA_sa : kAi D H sa 60 gs) (hO_ea : kO D H ea 5 []) (hM : MLn gp gs L) (hok : LnOK L) (hpl : pl ≤ ln_n L) (hcl : ln_cl L = true) : Met l yX4_hasPlace (ws_ yX4_hasPlace cX4_hasPlace 2 (some .boolean)) ({ frames := 2, cells := 0, slots := 0, locals := 41 } : Room) (kPre D H [.ref a, .int (kI ((pl : Nat) : Int))]) (kQb (fun (r : Bool) H' => H' = H ∧ r = ln_isPlace L (pl : Int)) kNO) (0) (0) (kNO) := by
  refine Met.ofW (cc := cX4_hasPlace) (maxL := 2) (ret := (some .boolean)) (by decide) rfl ?_
  intro p e s m args below meth c s₁ B hml hv
  obtain ⟨rfl, hH, hK⟩ := hv
  subst hH
  have hx := B.exec
  have hb := B.bytes
  have hr := B.returns
  have hts := atoms_spec (ws := ws_ yX4_hasPlace cX4_hasPlace 2 (some .boolean)) B.pre
  have hts : ∀ w ∈ lw_all, w.before _ s = true := fun w h => hts w (List.mem_cons_of_mem _ h)
  have hown : s.vm.findClass RX4 = some m.cls := findClass_of_methodNamed B.named
  have hlk := B.notSynchronized
  have hS : va_S kNO s.heap s.heap [] := va_S.rf
  have hB : ∀ q, kNO q → kBase D ≤ q := fun _ h => h.elim
  have hl := lv_entry ([.ref a, .int (kI ((pl : Nat) : Int))]) (n := 2) (Nat.le_of_ble_eq_true rfl)
  rw [lg_entry_eq]
  generalize (lg_sl ([.ref a, .int (kI ((pl : Nat) : Int))]) ++ List.replicate (2 - (lg_sl ([.ref a, .int (kI ((pl : Nat) : Int))])).length) Slot.unset).toArray = ls at hl ⊢
  have hl : lv_has ls 2 [(0, .ref a), (1, .int (kI ((pl : Nat) : Int)))] := hl
  have hL60 := hok.n
  have hlb := hok.lbr
  have hlv := hok.lv
  have hsz := ln_size_23 L
  have hla := ln_last_c hcl
  refine lv_aload_n hx hb dX4_hasPlace_0 rfl (lv_at hl 0 rfl) ?_
  refine lv_iload_n hx hb dX4_hasPlace_1 rfl (lv_at hl 1 rfl) ?_
  refine kx_ci0 (va_runV (As := [.int (kI ((pl : Nat) : Int))]) (rest := []) ⟨hx, hb, hml, hown, hts⟩ (m_X4_lastOf l D s.heap a pa sa ea L pl hO_a (by first | assumption | omega) (by first | assumption | omega)) (cwV 1 hts (lw_V q1080 q1081 q1082 q99 q1083) rfl rfl rfl (by decide +kernel) ⟨Nat.le_of_ble_eq_true rfl, Nat.le_of_ble_eq_true rfl⟩) (kx_pv hK hS hB (kx_rc hK hO_a (C := RX4) (T := TX4) (N := 6) rfl)) rfl rfl hl.1 rfl (lv_room (Nat.le_of_ble_eq_true rfl)) dX4_hasPlace_2 ⟨by first | exact Nat.le_of_ble_eq_true rfl | omega | (show _ ≤ _; omega) | (dsimp only [headSpec]; omega), by first | exact Nat.le_of_ble_eq_true rfl | omega | (show _ ≤ _; omega) | (dsimp only [headSpec]; omega)⟩) hS (fun z_4 locs_1 hz_3 hS_2 => ?_)
  subst z_4
  refine lv_aload_n hx hb dX4_hasPlace_5 rfl (lv_at hl 0 rfl) ?_
  refine kx_get (v := .ref ea) (C := RX4) (T := TX4) (N := 6) hx hb hts in_X4 hown hK hO_a rfl 4 (by decide) q347 (fun _ h9 => h9) rfl dX4_hasPlace_6 ?_
  refine lv_aload_n hx hb dX4_hasPlace_9 rfl (lv_at hl 0 rfl) ?_
  refine kx_cFi0 (va_runF (C := RX6) (As := [.ref a]) (rest := [.int (kI ((pl + ln_size L - 1 : Nat) : Int))]) (hK.at (ci := 5) rfl) ⟨hx, hb, hml, hown, hts⟩ (m_X6_last l D s.heap a pa sa ea gp gs L hO_a (by first | assumption | omega) (by first | assumption | omega)) (va_cwF (x := ({ cls := "ContourLabels$Ends", name := "last", desc := "(LContourLabels$Line;)I" } : Jvm.MethodName)) 1 hts (lw_F q1089 q1093 q1095 q105 q1097) rfl rfl rfl (hK.fw (by decide)) (by decide +kernel) ⟨Nat.le_of_ble_eq_true rfl, Nat.le_of_ble_eq_true rfl⟩) (kx_pv hK hS_2 hB (kx_rc hK hO_ea (C := RX6) (T := kT0) (N := 0) rfl)) rfl rfl hl.1 rfl (lv_room (Nat.le_of_ble_eq_true rfl)) dX4_hasPlace_10 ⟨by first | exact Nat.le_of_ble_eq_true rfl | omega | (show _ ≤ _; omega) | (dsimp only [headSpec]; omega), by first | exact Nat.le_of_ble_eq_true rfl | omega | (show _ ≤ _; omega) | (dsimp only [headSpec]; omega)⟩) hS_2 (fun z_8 locs_5 hz_7 hS_6 => ?_)
  subst z_8
  refine kx_icmp_gt (x := ((pl + ln_size L - 1 : Nat) : Int)) (y := ((ln_n L : Int) - 1)) (tgt := 22) hx hb dX4_hasPlace_15 (by decide) (by omega) (by omega) (by omega) (by omega) (fun c_15_9 => ?_) (fun c_15_9 => ?_)
  · -- taken at 15
    refine kx_iconst hx hb dX4_hasPlace_22 ?_
    exact kx_zret (z := false) hx hb hr hlk (⟨rfl, by unfold ln_isPlace; first | exact (decide_eq_true (by omega)).symm | exact (decide_eq_false (by omega)).symm⟩) hS_6 dX4_hasPlace_23
  · -- not taken at 15
    refine kx_iconst hx hb dX4_hasPlace_18 ?_
    refine lv_goto (tgt := 23) hx hb dX4_hasPlace_19 (by decide) ?_
    exact kx_zret (z := true) hx hb hr hlk (⟨rfl, by unfold ln_isPlace; first | exact (decide_eq_true (by omega)).symm | exact (decide_eq_false (by omega)).symm⟩) hS_6 dX4_hasPlace_23

set_option maxHeartbeats 4000000 in
set_option maxRecDepth 100000 in
theorem m_bend_o (l : Launch) (D : kG) (H : Heap) (a : Nat) (pa : Nat) (sa : Nat) (ea : Nat) (gp : Nat → Int) (gs : Nat → Int) (L : Ln) (k : Nat) (hO_a : kO D H a 3 [.int (kI (ln_lv L)), .ref pa, .ref sa, .int (kI ((ln_n L : Nat) : Int)), .ref ea, .int (kI (ln_lb L))]) (hA_pa : kAi D H pa 61 gp) (hA_sa : kAi D H sa 60 gs) (hO_ea : kO D H ea 4 []) (hM : MLn gp gs L) (hok : LnOK L) (hk : k ≤ ln_n L) (hcl : ln_cl L = false) : Met l yX4_bend (ws_ yX4_bend cX4_bend 2 (some .int)) ({ frames := 1, cells := 0, slots := 0, locals := 22 } : Room) (kPre D H [.ref a, .int (kI ((k : Nat) : Int))]) (kQi (fun (r : Int) H' => H' = H ∧ r = ln_bend L k) kNO) (0) (0) (kNO) := by
  refine Met.ofW (cc := cX4_bend) (maxL := 2) (ret := (some .int)) (by decide) rfl ?_
  intro p e s m args below meth c s₁ B hml hv
  obtain ⟨rfl, hH, hK⟩ := hv
  subst hH
  have hx := B.exec
  have hb := B.bytes
  have hr := B.returns
  have hts := atoms_spec (ws := ws_ yX4_bend cX4_bend 2 (some .int)) B.pre
  have hts : ∀ w ∈ lw_all, w.before _ s = true := fun w h => hts w (List.mem_cons_of_mem _ h)
  have hown : s.vm.findClass RX4 = some m.cls := findClass_of_methodNamed B.named
  have hlk := B.notSynchronized
  have hS : va_S kNO s.heap s.heap [] := va_S.rf
  have hB : ∀ q, kNO q → kBase D ≤ q := fun _ h => h.elim
  have hl := lv_entry ([.ref a, .int (kI ((k : Nat) : Int))]) (n := 2) (Nat.le_of_ble_eq_true rfl)
  rw [lg_entry_eq]
  generalize (lg_sl ([.ref a, .int (kI ((k : Nat) : Int))]) ++ List.replicate (2 - (lg_sl ([.ref a, .int (kI ((k : Nat) : Int))])).length) Slot.unset).toArray = ls at hl ⊢
  have hl : lv_has ls 2 [(0, .ref a), (1, .int (kI ((k : Nat) : Int)))] := hl
  have hL60 := hok.n
  have hlb := hok.lbr
  have hlv := hok.lv
  have hsz := ln_size_23 L
  refine lv_iload_n hx hb dX4_bend_0 rfl (lv_at hl 1 rfl) ?_
  refine kx_if_eq (x := ((k : Nat) : Int)) (tgt := 12) hx hb dX4_bend_1 (by decide) (by omega) (by omega) (fun c_1_1 => ?_) (fun c_1_1 => ?_)
  · -- taken at 1
    refine lv_aload_n hx hb dX4_bend_12 rfl (lv_at hl 0 rfl) ?_
    refine kx_get (v := .ref ea) (C := RX4) (T := TX4) (N := 6) hx hb hts in_X4 hown hK hO_a rfl 4 (by decide) q347 (fun _ h9 => h9) rfl dX4_bend_13 ?_
    refine lv_aload_n hx hb dX4_bend_16 rfl (lv_at hl 0 rfl) ?_
    refine kx_cFi0 (va_runF (C := RX5) (As := [.ref a]) (rest := []) (hK.at (ci := 4) rfl) ⟨hx, hb, hml, hown, hts⟩ (m_X5_bend l D s.heap a pa sa ea gp gs L  ) (va_cwF (x := ({ cls := "ContourLabels$Ends", name := "bend", desc := "(LContourLabels$Line;)I" } : Jvm.MethodName)) 1 hts (lw_F q1115 q1126 q1128 q100 q1130) rfl rfl rfl (hK.fw (by decide)) (by decide +kernel) ⟨Nat.le_of_ble_eq_true rfl, Nat.le_of_ble_eq_true rfl⟩) (kx_pv hK hS hB (kx_rc hK hO_ea (C := RX5) (T := kT0) (N := 0) rfl)) rfl rfl hl.1 rfl (lv_room (Nat.le_of_ble_eq_true rfl)) dX4_bend_17 ⟨by first | exact Nat.le_of_ble_eq_true rfl | omega | (show _ ≤ _; omega) | (dsimp only [headSpec]; omega), by first | exact Nat.le_of_ble_eq_true rfl | omega | (show _ ≤ _; omega) | (dsimp only [headSpec]; omega)⟩) hS (fun z_5 locs_2 hz_4 hS_3 => ?_)
    subst z_5
    refine lv_goto (tgt := 42) hx hb dX4_bend_22 (by decide) ?_
    exact kx_iret (z := 0) hx hb hr hlk (⟨rfl, by first | exact (ln_bend_mid ⟨by omega, by omega⟩).symm | exact (ln_bend_end (by omega) hcl).symm⟩) hS_3 dX4_bend_42
  · -- not taken at 1
    refine lv_iload_n hx hb dX4_bend_4 rfl (lv_at hl 1 rfl) ?_
    refine lv_aload_n hx hb dX4_bend_5 rfl (lv_at hl 0 rfl) ?_
    refine kx_get (v := .int (kI ((ln_n L : Nat) : Int))) (C := RX4) (T := TX4) (N := 6) hx hb hts in_X4 hown hK hO_a rfl 3 (by decide) q344 (fun _ h9 => h9) rfl dX4_bend_6 ?_
    refine kx_icmp_ne (x := ((k : Nat) : Int)) (y := ((ln_n L : Nat) : Int)) (tgt := 25) hx hb dX4_bend_9 (by decide) (by omega) (by omega) (by omega) (by omega) (fun c_9_6 => ?_) (fun c_9_6 => ?_)
    · -- taken at 9
      refine lv_aload_n hx hb dX4_bend_25 rfl (lv_at hl 0 rfl) ?_
      refine kx_get (v := .ref sa) (C := RX4) (T := TX4) (N := 6) hx hb hts in_X4 hown hK hO_a rfl 2 (by decide) q339 (fun _ h9 => h9) rfl dX4_bend_26 ?_
      refine lv_iload_n hx hb dX4_bend_29 rfl (lv_at hl 1 rfl) ?_
      refine kx_iconst hx hb dX4_bend_30 ?_
      refine kx_isub hx hb dX4_bend_31 ?_
      refine kx_eqi (((k - 1 : Nat) : Int)) (by omega) ?_
      refine kx_iald (i := ((k - 1 : Nat) : Int)) hx hb hK hA_sa (k - 1) (rfl) (by omega) (by omega) dX4_bend_32 ?_
      have hd1 := hok.d (k := k - 1) (by omega)
      have hd2 := hok.d (k := k) (by omega)
      refine kx_eqi (ln_d L (k - 1)) (hM.2 _ (by omega)) ?_
      refine lv_aload_n hx hb dX4_bend_33 rfl (lv_at hl 0 rfl) ?_
      refine kx_get (v := .ref sa) (C := RX4) (T := TX4) (N := 6) hx hb hts in_X4 hown hK hO_a rfl 2 (by decide) q339 (fun _ h9 => h9) rfl dX4_bend_34 ?_
      refine lv_iload_n hx hb dX4_bend_37 rfl (lv_at hl 1 rfl) ?_
      refine kx_iald (i := ((k : Nat) : Int)) hx hb hK hA_sa k (rfl) (by omega) (by omega) dX4_bend_38 ?_
      refine kx_eqi (ln_d L k) (hM.2 _ (by omega)) ?_
      refine kx_ci0 (va_runS (As := [.int (kI (ln_d L (k - 1))), .int (kI (ln_d L k))]) (rest := []) ⟨hx, hb, hml, hown, hts⟩ (m_X4_turn l D s.heap (ln_d L (k - 1)) (ln_d L k)  (by first | assumption | omega) (by first | assumption | omega)) (va_cwS 2 hts (lw_S q1131 q1124 q99 q1125) rfl rfl rfl (by decide +kernel) ⟨Nat.le_of_ble_eq_true rfl, Nat.le_of_ble_eq_true rfl⟩) (kx_ps hK hS hB) rfl rfl hl.1 rfl (lv_room (Nat.le_of_ble_eq_true rfl)) dX4_bend_39 ⟨by first | exact Nat.le_of_ble_eq_true rfl | omega | (show _ ≤ _; omega) | (dsimp only [headSpec]; omega), by first | exact Nat.le_of_ble_eq_true rfl | omega | (show _ ≤ _; omega) | (dsimp only [headSpec]; omega)⟩) hS (fun z_10 locs_7 hz_9 hS_8 => ?_)
      subst z_10
      exact kx_iret (z := turn (ln_d L (k - 1)) (ln_d L k)) hx hb hr hlk (⟨rfl, by first | exact (ln_bend_mid ⟨by omega, by omega⟩).symm | exact (ln_bend_end (by omega) hcl).symm⟩) hS_8 dX4_bend_42
    · -- not taken at 9
      refine lv_aload_n hx hb dX4_bend_12 rfl (lv_at hl 0 rfl) ?_
      refine kx_get (v := .ref ea) (C := RX4) (T := TX4) (N := 6) hx hb hts in_X4 hown hK hO_a rfl 4 (by decide) q347 (fun _ h9 => h9) rfl dX4_bend_13 ?_
      refine lv_aload_n hx hb dX4_bend_16 rfl (lv_at hl 0 rfl) ?_
      refine kx_cFi0 (va_runF (C := RX5) (As := [.ref a]) (rest := []) (hK.at (ci := 4) rfl) ⟨hx, hb, hml, hown, hts⟩ (m_X5_bend l D s.heap a pa sa ea gp gs L  ) (va_cwF (x := ({ cls := "ContourLabels$Ends", name := "bend", desc := "(LContourLabels$Line;)I" } : Jvm.MethodName)) 1 hts (lw_F q1115 q1126 q1128 q100 q1130) rfl rfl rfl (hK.fw (by decide)) (by decide +kernel) ⟨Nat.le_of_ble_eq_true rfl, Nat.le_of_ble_eq_true rfl⟩) (kx_pv hK hS hB (kx_rc hK hO_ea (C := RX5) (T := kT0) (N := 0) rfl)) rfl rfl hl.1 rfl (lv_room (Nat.le_of_ble_eq_true rfl)) dX4_bend_17 ⟨by first | exact Nat.le_of_ble_eq_true rfl | omega | (show _ ≤ _; omega) | (dsimp only [headSpec]; omega), by first | exact Nat.le_of_ble_eq_true rfl | omega | (show _ ≤ _; omega) | (dsimp only [headSpec]; omega)⟩) hS (fun z_14 locs_11 hz_13 hS_12 => ?_)
      subst z_14
      refine lv_goto (tgt := 42) hx hb dX4_bend_22 (by decide) ?_
      exact kx_iret (z := 0) hx hb hr hlk (⟨rfl, by first | exact (ln_bend_mid ⟨by omega, by omega⟩).symm | exact (ln_bend_end (by omega) hcl).symm⟩) hS_12 dX4_bend_42

set_option maxHeartbeats 4000000 in
set_option maxRecDepth 100000 in
theorem m_bendOfPlace_o (l : Launch) (D : kG) (H : Heap) (a : Nat) (pa : Nat) (sa : Nat) (ea : Nat) (gp : Nat → Int) (gs : Nat → Int) (L : Ln) (pl : Nat) (hO_a : kO D H a 3 [.int (kI (ln_lv L)), .ref pa, .ref sa, .int (kI ((ln_n L : Nat) : Int)), .ref ea, .int (kI (ln_lb L))]) (hA_pa : kAi D H pa 61 gp) (hA_sa : kAi D H sa 60 gs) (hO_ea : kO D H ea 4 []) (hM : MLn gp gs L) (hok : LnOK L) (hpl : pl ≤ ln_n L) (hcl : ln_cl L = false) : Met l yX4_bendOfPlace (ws_ yX4_bendOfPlace cX4_bendOfPlace 4 (some .int)) ({ frames := 2, cells := 0, slots := 0, locals := 43 } : Room) (kPre D H [.ref a, .int (kI ((pl : Nat) : Int))]) (kQi (fun (r : Int) H' => H' = H ∧ r = ln_bends L (pl : Int)) kNO) (0) (0) (kNO) := by
  refine Met.ofW (cc := cX4_bendOfPlace) (maxL := 4) (ret := (some .int)) (by decide) rfl ?_
  intro p e s m args below meth c s₁ B hml hv
  obtain ⟨rfl, hH, hK⟩ := hv
  subst hH
  have hx := B.exec
  have hb := B.bytes
  have hr := B.returns
  have hts := atoms_spec (ws := ws_ yX4_bendOfPlace cX4_bendOfPlace 4 (some .int)) B.pre
  have hts : ∀ w ∈ lw_all, w.before _ s = true := fun w h => hts w (List.mem_cons_of_mem _ h)
  have hown : s.vm.findClass RX4 = some m.cls := findClass_of_methodNamed B.named
  have hlk := B.notSynchronized
  have hS : va_S kNO s.heap s.heap [] := va_S.rf
  have hB : ∀ q, kNO q → kBase D ≤ q := fun _ h => h.elim
  have hl := lv_entry ([.ref a, .int (kI ((pl : Nat) : Int))]) (n := 4) (Nat.le_of_ble_eq_true rfl)
  rw [lg_entry_eq]
  generalize (lg_sl ([.ref a, .int (kI ((pl : Nat) : Int))]) ++ List.replicate (4 - (lg_sl ([.ref a, .int (kI ((pl : Nat) : Int))])).length) Slot.unset).toArray = ls at hl ⊢
  have hl : lv_has ls 4 [(0, .ref a), (1, .int (kI ((pl : Nat) : Int)))] := hl
  have hL60 := hok.n
  have hlb := hok.lbr
  have hlv := hok.lv
  have hsz := ln_size_23 L
  refine kx_iconst hx hb dX4_bendOfPlace_0 ?_
  refine lv_istore_n (lv' := [(2, .int (kI (0))), (0, .ref a), (1, .int (kI ((pl : Nat) : Int)))]) hx hb dX4_bendOfPlace_1 rfl hl (by decide) rfl (fun ls hl => ?_)
  refine lv_iload_n hx hb dX4_bendOfPlace_2 rfl (lv_at hl 2 rfl) ?_
  refine kx_iconst hx hb dX4_bendOfPlace_3 ?_
  refine kx_isub hx hb dX4_bendOfPlace_4 ?_
  refine lv_istore_n (lv' := [(3, .int (kI ((((pl : Nat) : Int) - 1)))), (2, .int (kI (0))), (0, .ref a), (1, .int (kI ((pl : Nat) : Int)))]) hx hb dX4_bendOfPlace_5 rfl hl (by decide) rfl (fun ls hl => ?_)
  have lp_6_x_1 : ∀ (n_6 : Nat) (j : Nat) (sm : Int) (z : Int) (hz : z = (pl : Int) - 1 + (j : Int)) (hj : j ≤ ln_size L + 2) (hsm : sm = ln_bendsTo L (pl : Int) j) (locs : List Loc) (hS : va_S kNO s.heap s.heap locs) (hm_6 : ln_size L + 2 - j < n_6) (ls : Array Slot), lv_has ls 4 [(0, .ref a), (1, .int (kI ((pl : Nat) : Int))), (2, .int (kI (sm))), (3, .int (kI (z)))] → W p l e (headSpec (ws_ yX4_bendOfPlace cX4_bendOfPlace 4 (some .int)) ({ frames := 2, cells := 0, slots := 0, locals := 43 } : Room)).room s m ([.ref a, .int (kI ((pl : Nat) : Int))] : List Value).toArray below meth c s.heap locs (0) (0) (MQ below (kQi (fun (r : Int) H' => H' = s.heap ∧ r = ln_bends L (pl : Int)) kNO) ([.ref a, .int (kI ((pl : Nat) : Int))] : List Value).toArray s (0) (0) (kNO)) (F0 m 6 ls []) := by
    intro n_6
    induction n_6 with
    | zero => intro j sm z hz hj hsm locs hS hm_6; exact absurd hm_6 (Nat.not_lt_zero _)
    | succ n_6 ih_6 =>
      intro j sm z hz hj hsm locs hS hm_6 ls hl
      refine lv_iload_n hx hb dX4_bendOfPlace_6 rfl (lv_at hl 3 rfl) ?_
      refine lv_aload_n hx hb dX4_bendOfPlace_7 rfl (lv_at hl 0 rfl) ?_
      refine lv_iload_n hx hb dX4_bendOfPlace_8 rfl (lv_at hl 1 rfl) ?_
      refine kx_ci0 (va_runV (As := [.int (kI ((pl : Nat) : Int))]) (rest := [.int (kI (z))]) ⟨hx, hb, hml, hown, hts⟩ (m_X4_lastOf l D s.heap a pa sa ea L pl hO_a (by first | assumption | omega) (by first | assumption | omega)) (cwV 1 hts (lw_V q1080 q1081 q1082 q99 q1083) rfl rfl rfl (by decide +kernel) ⟨Nat.le_of_ble_eq_true rfl, Nat.le_of_ble_eq_true rfl⟩) (kx_pv hK hS hB (kx_rc hK hO_a (C := RX4) (T := TX4) (N := 6) rfl)) rfl rfl hl.1 rfl (lv_room (Nat.le_of_ble_eq_true rfl)) dX4_bendOfPlace_9 ⟨by first | exact Nat.le_of_ble_eq_true rfl | omega | (show _ ≤ _; omega) | (dsimp only [headSpec]; omega), by first | exact Nat.le_of_ble_eq_true rfl | omega | (show _ ≤ _; omega) | (dsimp only [headSpec]; omega)⟩) hS (fun z_5 locs_2 hz_4 hS_3 => ?_)
      subst z_5
      refine kx_iconst hx hb dX4_bendOfPlace_12 ?_
      refine kx_iadd hx hb dX4_bendOfPlace_13 ?_
      refine kx_icmp_gt (x := z) (y := (((pl + ln_size L - 1 : Nat) : Int) + 1)) (tgt := 47) hx hb dX4_bendOfPlace_14 (by decide) (by omega) (by omega) (by omega) (by omega) (fun c_14_6 => ?_) (fun c_14_6 => ?_)
      · -- taken at 14
        refine lv_iload_n hx hb dX4_bendOfPlace_47 rfl (lv_at hl 2 rfl) ?_
        exact kx_iret (z := sm) hx hb hr hlk (⟨rfl, by rw [hsm, ln_bends, show j = ln_size L + 2 by omega]⟩) hS_3 dX4_bendOfPlace_48
      · -- not taken at 14
        refine lv_iload_n hx hb dX4_bendOfPlace_17 rfl (lv_at hl 2 rfl) ?_
        refine lv_iload_n hx hb dX4_bendOfPlace_18 rfl (lv_at hl 3 rfl) ?_
        refine kx_if_lt (x := z) (tgt := 38) hx hb dX4_bendOfPlace_19 (by decide) (by omega) (by omega) (fun c_19_7 => ?_) (fun c_19_7 => ?_)
        · -- taken at 19
          refine kx_iconst hx hb dX4_bendOfPlace_38 ?_
          refine kx_iadd hx hb dX4_bendOfPlace_39 ?_
          refine lv_istore_n (lv' := [(2, .int (kI ((sm + 0)))), (0, .ref a), (1, .int (kI ((pl : Nat) : Int))), (3, .int (kI (z)))]) hx hb dX4_bendOfPlace_40 rfl hl (by decide) rfl (fun ls hl => ?_)
          refine lv_iinc (v := kI ((z + 1))) (lv' := [(3, .int (kI ((z + 1)))), (2, .int (kI ((sm + 0)))), (0, .ref a), (1, .int (kI ((pl : Nat) : Int)))]) hx hb dX4_bendOfPlace_41 hl (k := 3) rfl (kI_inc _ _) (by decide) rfl (fun ls hl => ?_)
          refine lv_goto (tgt := 6) hx hb dX4_bendOfPlace_44 (by decide) ?_
          exact ih_6  ((j + 1)) ((sm + 0)) ((z + 1)) (by first | assumption | omega | (simp_all; done) | grind) (by first | assumption | omega | (simp_all; done) | grind) (by rw [ln_bendsTo, ← hsm]; first | (rw [if_pos ⟨by omega, by omega⟩]; congr 2; omega) | (rw [if_neg (by omega)]; done)) _ hS_3 (by omega) ls (lv_sub hl [2, 3, 1, 0] rfl)
        · -- not taken at 19
          refine lv_iload_n hx hb dX4_bendOfPlace_22 rfl (lv_at hl 3 rfl) ?_
          refine lv_aload_n hx hb dX4_bendOfPlace_23 rfl (lv_at hl 0 rfl) ?_
          refine kx_get (v := .int (kI ((ln_n L : Nat) : Int))) (C := RX4) (T := TX4) (N := 6) hx hb hts in_X4 hown hK hO_a rfl 3 (by decide) q344 (fun _ h9 => h9) rfl dX4_bendOfPlace_24 ?_
          refine kx_icmp_gt (x := z) (y := ((ln_n L : Nat) : Int)) (tgt := 38) hx hb dX4_bendOfPlace_27 (by decide) (by omega) (by omega) (by omega) (by omega) (fun c_27_8 => ?_) (fun c_27_8 => ?_)
          · -- taken at 27
            refine kx_iconst hx hb dX4_bendOfPlace_38 ?_
            refine kx_iadd hx hb dX4_bendOfPlace_39 ?_
            refine lv_istore_n (lv' := [(2, .int (kI ((sm + 0)))), (0, .ref a), (1, .int (kI ((pl : Nat) : Int))), (3, .int (kI (z)))]) hx hb dX4_bendOfPlace_40 rfl hl (by decide) rfl (fun ls hl => ?_)
            refine lv_iinc (v := kI ((z + 1))) (lv' := [(3, .int (kI ((z + 1)))), (2, .int (kI ((sm + 0)))), (0, .ref a), (1, .int (kI ((pl : Nat) : Int)))]) hx hb dX4_bendOfPlace_41 hl (k := 3) rfl (kI_inc _ _) (by decide) rfl (fun ls hl => ?_)
            refine lv_goto (tgt := 6) hx hb dX4_bendOfPlace_44 (by decide) ?_
            exact ih_6  ((j + 1)) ((sm + 0)) ((z + 1)) (by first | assumption | omega | (simp_all; done) | grind) (by first | assumption | omega | (simp_all; done) | grind) (by rw [ln_bendsTo, ← hsm]; first | (rw [if_pos ⟨by omega, by omega⟩]; congr 2; omega) | (rw [if_neg (by omega)]; done)) _ hS_3 (by omega) ls (lv_sub hl [2, 3, 1, 0] rfl)
          · -- not taken at 27
            refine lv_aload_n hx hb dX4_bendOfPlace_30 rfl (lv_at hl 0 rfl) ?_
            refine lv_iload_n hx hb dX4_bendOfPlace_31 rfl (lv_at hl 3 rfl) ?_
            refine kx_eqi ((((pl + j - 1) : Nat) : Int)) (by omega) ?_
            refine kx_ci0 (va_runV (As := [.int (kI (((pl + j - 1) : Nat) : Int))]) (rest := [.int (kI (sm))]) ⟨hx, hb, hml, hown, hts⟩ (m_bend_o l D s.heap a pa sa ea gp gs L ((pl + j - 1)) hO_a hA_pa hA_sa hO_ea (by first | assumption | omega) (by first | assumption | omega) (by first | assumption | omega) (by first | assumption | omega)) (cwV 1 hts (lw_V q1110 q1111 q1112 q99 q1113) rfl rfl rfl (by decide +kernel) ⟨Nat.le_of_ble_eq_true rfl, Nat.le_of_ble_eq_true rfl⟩) (kx_pv hK hS_3 hB (kx_rc hK hO_a (C := RX4) (T := TX4) (N := 6) rfl)) rfl rfl hl.1 rfl (lv_room (Nat.le_of_ble_eq_true rfl)) dX4_bendOfPlace_32 ⟨by first | exact Nat.le_of_ble_eq_true rfl | omega | (show _ ≤ _; omega) | (dsimp only [headSpec]; omega), by first | exact Nat.le_of_ble_eq_true rfl | omega | (show _ ≤ _; omega) | (dsimp only [headSpec]; omega)⟩) hS_3 (fun z_12 locs_9 hz_11 hS_10 => ?_)
            subst z_12
            refine lv_goto (tgt := 39) hx hb dX4_bendOfPlace_35 (by decide) ?_
            refine kx_iadd hx hb dX4_bendOfPlace_39 ?_
            refine lv_istore_n (lv' := [(2, .int (kI ((sm + ln_bend L (pl + j - 1))))), (0, .ref a), (1, .int (kI ((pl : Nat) : Int))), (3, .int (kI (z)))]) hx hb dX4_bendOfPlace_40 rfl hl (by decide) rfl (fun ls hl => ?_)
            refine lv_iinc (v := kI ((z + 1))) (lv' := [(3, .int (kI ((z + 1)))), (2, .int (kI ((sm + ln_bend L (pl + j - 1))))), (0, .ref a), (1, .int (kI ((pl : Nat) : Int)))]) hx hb dX4_bendOfPlace_41 hl (k := 3) rfl (kI_inc _ _) (by decide) rfl (fun ls hl => ?_)
            refine lv_goto (tgt := 6) hx hb dX4_bendOfPlace_44 (by decide) ?_
            exact ih_6  ((j + 1)) ((sm + ln_bend L (pl + j - 1))) ((z + 1)) (by first | assumption | omega | (simp_all; done) | grind) (by first | assumption | omega | (simp_all; done) | grind) (by rw [ln_bendsTo, ← hsm]; first | (rw [if_pos ⟨by omega, by omega⟩]; congr 2; omega) | (rw [if_neg (by omega)]; done)) _ hS_10 (by omega) ls (lv_sub hl [2, 3, 1, 0] rfl)
  exact lp_6_x_1 (ln_size L + 2 - 0 + 1) 0 0 ((((pl : Nat) : Int) - 1)) (by first | assumption | omega | (simp_all; done) | grind) (by first | assumption | omega | (simp_all; done) | grind) (rfl) _ hS (Nat.lt_succ_self _) ls (lv_sub hl [2, 3, 1, 0] rfl)

set_option maxHeartbeats 4000000 in
set_option maxRecDepth 100000 in
theorem m_bend_c (l : Launch) (D : kG) (H : Heap) (a : Nat) (pa : Nat) (sa : Nat) (ea : Nat) (gp : Nat → Int) (gs : Nat → Int) (L : Ln) (k : Nat) (hO_a : kO D H a 3 [.int (kI (ln_lv L)), .ref pa, .ref sa, .int (kI ((ln_n L : Nat) : Int)), .ref ea, .int (kI (ln_lb L))]) (hA_pa : kAi D H pa 61 gp) (hA_sa : kAi D H sa 60 gs) (hO_ea : kO D H ea 5 []) (hM : MLn gp gs L) (hok : LnOK L) (hk : k ≤ ln_n L) (hcl : ln_cl L = true) : Met l yX4_bend (ws_ yX4_bend cX4_bend 2 (some .int)) ({ frames := 2, cells := 0, slots := 0, locals := 43 } : Room) (kPre D H [.ref a, .int (kI ((k : Nat) : Int))]) (kQi (fun (r : Int) H' => H' = H ∧ r = ln_bend L k) kNO) (0) (0) (kNO) := by
  refine Met.ofW (cc := cX4_bend) (maxL := 2) (ret := (some .int)) (by decide) rfl ?_
  intro p e s m args below meth c s₁ B hml hv
  obtain ⟨rfl, hH, hK⟩ := hv
  subst hH
  have hx := B.exec
  have hb := B.bytes
  have hr := B.returns
  have hts := atoms_spec (ws := ws_ yX4_bend cX4_bend 2 (some .int)) B.pre
  have hts : ∀ w ∈ lw_all, w.before _ s = true := fun w h => hts w (List.mem_cons_of_mem _ h)
  have hown : s.vm.findClass RX4 = some m.cls := findClass_of_methodNamed B.named
  have hlk := B.notSynchronized
  have hS : va_S kNO s.heap s.heap [] := va_S.rf
  have hB : ∀ q, kNO q → kBase D ≤ q := fun _ h => h.elim
  have hl := lv_entry ([.ref a, .int (kI ((k : Nat) : Int))]) (n := 2) (Nat.le_of_ble_eq_true rfl)
  rw [lg_entry_eq]
  generalize (lg_sl ([.ref a, .int (kI ((k : Nat) : Int))]) ++ List.replicate (2 - (lg_sl ([.ref a, .int (kI ((k : Nat) : Int))])).length) Slot.unset).toArray = ls at hl ⊢
  have hl : lv_has ls 2 [(0, .ref a), (1, .int (kI ((k : Nat) : Int)))] := hl
  have hL60 := hok.n
  have hlb := hok.lbr
  have hlv := hok.lv
  have hsz := ln_size_23 L
  refine lv_iload_n hx hb dX4_bend_0 rfl (lv_at hl 1 rfl) ?_
  refine kx_if_eq (x := ((k : Nat) : Int)) (tgt := 12) hx hb dX4_bend_1 (by decide) (by omega) (by omega) (fun c_1_1 => ?_) (fun c_1_1 => ?_)
  · -- taken at 1
    refine lv_aload_n hx hb dX4_bend_12 rfl (lv_at hl 0 rfl) ?_
    refine kx_get (v := .ref ea) (C := RX4) (T := TX4) (N := 6) hx hb hts in_X4 hown hK hO_a rfl 4 (by decide) q347 (fun _ h9 => h9) rfl dX4_bend_13 ?_
    refine lv_aload_n hx hb dX4_bend_16 rfl (lv_at hl 0 rfl) ?_
    refine kx_cFi0 (va_runF (C := RX6) (As := [.ref a]) (rest := []) (hK.at (ci := 5) rfl) ⟨hx, hb, hml, hown, hts⟩ (m_X6_bend l D s.heap a pa sa ea gp gs L hO_a hA_pa hA_sa (by first | assumption | omega) (by first | assumption | omega) (by first | assumption | omega)) (va_cwF (x := ({ cls := "ContourLabels$Ends", name := "bend", desc := "(LContourLabels$Line;)I" } : Jvm.MethodName)) 1 hts (lw_F q1115 q1118 q1120 q105 q1122) rfl rfl rfl (hK.fw (by decide)) (by decide +kernel) ⟨Nat.le_of_ble_eq_true rfl, Nat.le_of_ble_eq_true rfl⟩) (kx_pv hK hS hB (kx_rc hK hO_ea (C := RX6) (T := kT0) (N := 0) rfl)) rfl rfl hl.1 rfl (lv_room (Nat.le_of_ble_eq_true rfl)) dX4_bend_17 ⟨by first | exact Nat.le_of_ble_eq_true rfl | omega | (show _ ≤ _; omega) | (dsimp only [headSpec]; omega), by first | exact Nat.le_of_ble_eq_true rfl | omega | (show _ ≤ _; omega) | (dsimp only [headSpec]; omega)⟩) hS (fun z_5 locs_2 hz_4 hS_3 => ?_)
    subst z_5
    refine lv_goto (tgt := 42) hx hb dX4_bend_22 (by decide) ?_
    exact kx_iret (z := turn (ln_d L (ln_n L - 1)) (ln_d L 0)) hx hb hr hlk (⟨rfl, by first | exact (ln_bend_mid ⟨by omega, by omega⟩).symm | exact (ln_bend_cl (by omega) hcl).symm⟩) hS_3 dX4_bend_42
  · -- not taken at 1
    refine lv_iload_n hx hb dX4_bend_4 rfl (lv_at hl 1 rfl) ?_
    refine lv_aload_n hx hb dX4_bend_5 rfl (lv_at hl 0 rfl) ?_
    refine kx_get (v := .int (kI ((ln_n L : Nat) : Int))) (C := RX4) (T := TX4) (N := 6) hx hb hts in_X4 hown hK hO_a rfl 3 (by decide) q344 (fun _ h9 => h9) rfl dX4_bend_6 ?_
    refine kx_icmp_ne (x := ((k : Nat) : Int)) (y := ((ln_n L : Nat) : Int)) (tgt := 25) hx hb dX4_bend_9 (by decide) (by omega) (by omega) (by omega) (by omega) (fun c_9_6 => ?_) (fun c_9_6 => ?_)
    · -- taken at 9
      refine lv_aload_n hx hb dX4_bend_25 rfl (lv_at hl 0 rfl) ?_
      refine kx_get (v := .ref sa) (C := RX4) (T := TX4) (N := 6) hx hb hts in_X4 hown hK hO_a rfl 2 (by decide) q339 (fun _ h9 => h9) rfl dX4_bend_26 ?_
      refine lv_iload_n hx hb dX4_bend_29 rfl (lv_at hl 1 rfl) ?_
      refine kx_iconst hx hb dX4_bend_30 ?_
      refine kx_isub hx hb dX4_bend_31 ?_
      refine kx_eqi (((k - 1 : Nat) : Int)) (by omega) ?_
      refine kx_iald (i := ((k - 1 : Nat) : Int)) hx hb hK hA_sa (k - 1) (rfl) (by omega) (by omega) dX4_bend_32 ?_
      have hd1 := hok.d (k := k - 1) (by omega)
      have hd2 := hok.d (k := k) (by omega)
      refine kx_eqi (ln_d L (k - 1)) (hM.2 _ (by omega)) ?_
      refine lv_aload_n hx hb dX4_bend_33 rfl (lv_at hl 0 rfl) ?_
      refine kx_get (v := .ref sa) (C := RX4) (T := TX4) (N := 6) hx hb hts in_X4 hown hK hO_a rfl 2 (by decide) q339 (fun _ h9 => h9) rfl dX4_bend_34 ?_
      refine lv_iload_n hx hb dX4_bend_37 rfl (lv_at hl 1 rfl) ?_
      refine kx_iald (i := ((k : Nat) : Int)) hx hb hK hA_sa k (rfl) (by omega) (by omega) dX4_bend_38 ?_
      refine kx_eqi (ln_d L k) (hM.2 _ (by omega)) ?_
      refine kx_ci0 (va_runS (As := [.int (kI (ln_d L (k - 1))), .int (kI (ln_d L k))]) (rest := []) ⟨hx, hb, hml, hown, hts⟩ (m_X4_turn l D s.heap (ln_d L (k - 1)) (ln_d L k)  (by first | assumption | omega) (by first | assumption | omega)) (va_cwS 2 hts (lw_S q1131 q1124 q99 q1125) rfl rfl rfl (by decide +kernel) ⟨Nat.le_of_ble_eq_true rfl, Nat.le_of_ble_eq_true rfl⟩) (kx_ps hK hS hB) rfl rfl hl.1 rfl (lv_room (Nat.le_of_ble_eq_true rfl)) dX4_bend_39 ⟨by first | exact Nat.le_of_ble_eq_true rfl | omega | (show _ ≤ _; omega) | (dsimp only [headSpec]; omega), by first | exact Nat.le_of_ble_eq_true rfl | omega | (show _ ≤ _; omega) | (dsimp only [headSpec]; omega)⟩) hS (fun z_10 locs_7 hz_9 hS_8 => ?_)
      subst z_10
      exact kx_iret (z := turn (ln_d L (k - 1)) (ln_d L k)) hx hb hr hlk (⟨rfl, by first | exact (ln_bend_mid ⟨by omega, by omega⟩).symm | exact (ln_bend_cl (by omega) hcl).symm⟩) hS_8 dX4_bend_42
    · -- not taken at 9
      refine lv_aload_n hx hb dX4_bend_12 rfl (lv_at hl 0 rfl) ?_
      refine kx_get (v := .ref ea) (C := RX4) (T := TX4) (N := 6) hx hb hts in_X4 hown hK hO_a rfl 4 (by decide) q347 (fun _ h9 => h9) rfl dX4_bend_13 ?_
      refine lv_aload_n hx hb dX4_bend_16 rfl (lv_at hl 0 rfl) ?_
      refine kx_cFi0 (va_runF (C := RX6) (As := [.ref a]) (rest := []) (hK.at (ci := 5) rfl) ⟨hx, hb, hml, hown, hts⟩ (m_X6_bend l D s.heap a pa sa ea gp gs L hO_a hA_pa hA_sa (by first | assumption | omega) (by first | assumption | omega) (by first | assumption | omega)) (va_cwF (x := ({ cls := "ContourLabels$Ends", name := "bend", desc := "(LContourLabels$Line;)I" } : Jvm.MethodName)) 1 hts (lw_F q1115 q1118 q1120 q105 q1122) rfl rfl rfl (hK.fw (by decide)) (by decide +kernel) ⟨Nat.le_of_ble_eq_true rfl, Nat.le_of_ble_eq_true rfl⟩) (kx_pv hK hS hB (kx_rc hK hO_ea (C := RX6) (T := kT0) (N := 0) rfl)) rfl rfl hl.1 rfl (lv_room (Nat.le_of_ble_eq_true rfl)) dX4_bend_17 ⟨by first | exact Nat.le_of_ble_eq_true rfl | omega | (show _ ≤ _; omega) | (dsimp only [headSpec]; omega), by first | exact Nat.le_of_ble_eq_true rfl | omega | (show _ ≤ _; omega) | (dsimp only [headSpec]; omega)⟩) hS (fun z_14 locs_11 hz_13 hS_12 => ?_)
      subst z_14
      refine lv_goto (tgt := 42) hx hb dX4_bend_22 (by decide) ?_
      exact kx_iret (z := turn (ln_d L (ln_n L - 1)) (ln_d L 0)) hx hb hr hlk (⟨rfl, by first | exact (ln_bend_mid ⟨by omega, by omega⟩).symm | exact (ln_bend_cl (by omega) hcl).symm⟩) hS_12 dX4_bend_42

set_option maxHeartbeats 4000000 in
set_option maxRecDepth 100000 in
theorem m_bendOfPlace_c (l : Launch) (D : kG) (H : Heap) (a : Nat) (pa : Nat) (sa : Nat) (ea : Nat) (gp : Nat → Int) (gs : Nat → Int) (L : Ln) (pl : Nat) (hO_a : kO D H a 3 [.int (kI (ln_lv L)), .ref pa, .ref sa, .int (kI ((ln_n L : Nat) : Int)), .ref ea, .int (kI (ln_lb L))]) (hA_pa : kAi D H pa 61 gp) (hA_sa : kAi D H sa 60 gs) (hO_ea : kO D H ea 5 []) (hM : MLn gp gs L) (hok : LnOK L) (hpl : pl ≤ ln_n L) (hcl : ln_cl L = true) : Met l yX4_bendOfPlace (ws_ yX4_bendOfPlace cX4_bendOfPlace 4 (some .int)) ({ frames := 3, cells := 0, slots := 0, locals := 64 } : Room) (kPre D H [.ref a, .int (kI ((pl : Nat) : Int))]) (kQi (fun (r : Int) H' => H' = H ∧ r = ln_bends L (pl : Int)) kNO) (0) (0) (kNO) := by
  refine Met.ofW (cc := cX4_bendOfPlace) (maxL := 4) (ret := (some .int)) (by decide) rfl ?_
  intro p e s m args below meth c s₁ B hml hv
  obtain ⟨rfl, hH, hK⟩ := hv
  subst hH
  have hx := B.exec
  have hb := B.bytes
  have hr := B.returns
  have hts := atoms_spec (ws := ws_ yX4_bendOfPlace cX4_bendOfPlace 4 (some .int)) B.pre
  have hts : ∀ w ∈ lw_all, w.before _ s = true := fun w h => hts w (List.mem_cons_of_mem _ h)
  have hown : s.vm.findClass RX4 = some m.cls := findClass_of_methodNamed B.named
  have hlk := B.notSynchronized
  have hS : va_S kNO s.heap s.heap [] := va_S.rf
  have hB : ∀ q, kNO q → kBase D ≤ q := fun _ h => h.elim
  have hl := lv_entry ([.ref a, .int (kI ((pl : Nat) : Int))]) (n := 4) (Nat.le_of_ble_eq_true rfl)
  rw [lg_entry_eq]
  generalize (lg_sl ([.ref a, .int (kI ((pl : Nat) : Int))]) ++ List.replicate (4 - (lg_sl ([.ref a, .int (kI ((pl : Nat) : Int))])).length) Slot.unset).toArray = ls at hl ⊢
  have hl : lv_has ls 4 [(0, .ref a), (1, .int (kI ((pl : Nat) : Int)))] := hl
  have hL60 := hok.n
  have hlb := hok.lbr
  have hlv := hok.lv
  have hsz := ln_size_23 L
  refine kx_iconst hx hb dX4_bendOfPlace_0 ?_
  refine lv_istore_n (lv' := [(2, .int (kI (0))), (0, .ref a), (1, .int (kI ((pl : Nat) : Int)))]) hx hb dX4_bendOfPlace_1 rfl hl (by decide) rfl (fun ls hl => ?_)
  refine lv_iload_n hx hb dX4_bendOfPlace_2 rfl (lv_at hl 2 rfl) ?_
  refine kx_iconst hx hb dX4_bendOfPlace_3 ?_
  refine kx_isub hx hb dX4_bendOfPlace_4 ?_
  refine lv_istore_n (lv' := [(3, .int (kI ((((pl : Nat) : Int) - 1)))), (2, .int (kI (0))), (0, .ref a), (1, .int (kI ((pl : Nat) : Int)))]) hx hb dX4_bendOfPlace_5 rfl hl (by decide) rfl (fun ls hl => ?_)
  have lp_6_x_1 : ∀ (n_6 : Nat) (j : Nat) (sm : Int) (z : Int) (hz : z = (pl : Int) - 1 + (j : Int)) (hj : j ≤ ln_size L + 2) (hsm : sm = ln_bendsTo L (pl : Int) j) (locs : List Loc) (hS : va_S kNO s.heap s.heap locs) (hm_6 : ln_size L + 2 - j < n_6) (ls : Array Slot), lv_has ls 4 [(0, .ref a), (1, .int (kI ((pl : Nat) : Int))), (2, .int (kI (sm))), (3, .int (kI (z)))] → W p l e (headSpec (ws_ yX4_bendOfPlace cX4_bendOfPlace 4 (some .int)) ({ frames := 3, cells := 0, slots := 0, locals := 64 } : Room)).room s m ([.ref a, .int (kI ((pl : Nat) : Int))] : List Value).toArray below meth c s.heap locs (0) (0) (MQ below (kQi (fun (r : Int) H' => H' = s.heap ∧ r = ln_bends L (pl : Int)) kNO) ([.ref a, .int (kI ((pl : Nat) : Int))] : List Value).toArray s (0) (0) (kNO)) (F0 m 6 ls []) := by
    intro n_6
    induction n_6 with
    | zero => intro j sm z hz hj hsm locs hS hm_6; exact absurd hm_6 (Nat.not_lt_zero _)
    | succ n_6 ih_6 =>
      intro j sm z hz hj hsm locs hS hm_6 ls hl
      refine lv_iload_n hx hb dX4_bendOfPlace_6 rfl (lv_at hl 3 rfl) ?_
      refine lv_aload_n hx hb dX4_bendOfPlace_7 rfl (lv_at hl 0 rfl) ?_
      refine lv_iload_n hx hb dX4_bendOfPlace_8 rfl (lv_at hl 1 rfl) ?_
      refine kx_ci0 (va_runV (As := [.int (kI ((pl : Nat) : Int))]) (rest := [.int (kI (z))]) ⟨hx, hb, hml, hown, hts⟩ (m_X4_lastOf l D s.heap a pa sa ea L pl hO_a (by first | assumption | omega) (by first | assumption | omega)) (cwV 1 hts (lw_V q1080 q1081 q1082 q99 q1083) rfl rfl rfl (by decide +kernel) ⟨Nat.le_of_ble_eq_true rfl, Nat.le_of_ble_eq_true rfl⟩) (kx_pv hK hS hB (kx_rc hK hO_a (C := RX4) (T := TX4) (N := 6) rfl)) rfl rfl hl.1 rfl (lv_room (Nat.le_of_ble_eq_true rfl)) dX4_bendOfPlace_9 ⟨by first | exact Nat.le_of_ble_eq_true rfl | omega | (show _ ≤ _; omega) | (dsimp only [headSpec]; omega), by first | exact Nat.le_of_ble_eq_true rfl | omega | (show _ ≤ _; omega) | (dsimp only [headSpec]; omega)⟩) hS (fun z_5 locs_2 hz_4 hS_3 => ?_)
      subst z_5
      refine kx_iconst hx hb dX4_bendOfPlace_12 ?_
      refine kx_iadd hx hb dX4_bendOfPlace_13 ?_
      refine kx_icmp_gt (x := z) (y := (((pl + ln_size L - 1 : Nat) : Int) + 1)) (tgt := 47) hx hb dX4_bendOfPlace_14 (by decide) (by omega) (by omega) (by omega) (by omega) (fun c_14_6 => ?_) (fun c_14_6 => ?_)
      · -- taken at 14
        refine lv_iload_n hx hb dX4_bendOfPlace_47 rfl (lv_at hl 2 rfl) ?_
        exact kx_iret (z := sm) hx hb hr hlk (⟨rfl, by rw [hsm, ln_bends, show j = ln_size L + 2 by omega]⟩) hS_3 dX4_bendOfPlace_48
      · -- not taken at 14
        refine lv_iload_n hx hb dX4_bendOfPlace_17 rfl (lv_at hl 2 rfl) ?_
        refine lv_iload_n hx hb dX4_bendOfPlace_18 rfl (lv_at hl 3 rfl) ?_
        refine kx_if_lt (x := z) (tgt := 38) hx hb dX4_bendOfPlace_19 (by decide) (by omega) (by omega) (fun c_19_7 => ?_) (fun c_19_7 => ?_)
        · -- taken at 19
          refine kx_iconst hx hb dX4_bendOfPlace_38 ?_
          refine kx_iadd hx hb dX4_bendOfPlace_39 ?_
          refine lv_istore_n (lv' := [(2, .int (kI ((sm + 0)))), (0, .ref a), (1, .int (kI ((pl : Nat) : Int))), (3, .int (kI (z)))]) hx hb dX4_bendOfPlace_40 rfl hl (by decide) rfl (fun ls hl => ?_)
          refine lv_iinc (v := kI ((z + 1))) (lv' := [(3, .int (kI ((z + 1)))), (2, .int (kI ((sm + 0)))), (0, .ref a), (1, .int (kI ((pl : Nat) : Int)))]) hx hb dX4_bendOfPlace_41 hl (k := 3) rfl (kI_inc _ _) (by decide) rfl (fun ls hl => ?_)
          refine lv_goto (tgt := 6) hx hb dX4_bendOfPlace_44 (by decide) ?_
          exact ih_6  ((j + 1)) ((sm + 0)) ((z + 1)) (by first | assumption | omega | (simp_all; done) | grind) (by first | assumption | omega | (simp_all; done) | grind) (by rw [ln_bendsTo, ← hsm]; first | (rw [if_pos ⟨by omega, by omega⟩]; congr 2; omega) | (rw [if_neg (by omega)]; done)) _ hS_3 (by omega) ls (lv_sub hl [2, 3, 1, 0] rfl)
        · -- not taken at 19
          refine lv_iload_n hx hb dX4_bendOfPlace_22 rfl (lv_at hl 3 rfl) ?_
          refine lv_aload_n hx hb dX4_bendOfPlace_23 rfl (lv_at hl 0 rfl) ?_
          refine kx_get (v := .int (kI ((ln_n L : Nat) : Int))) (C := RX4) (T := TX4) (N := 6) hx hb hts in_X4 hown hK hO_a rfl 3 (by decide) q344 (fun _ h9 => h9) rfl dX4_bendOfPlace_24 ?_
          refine kx_icmp_gt (x := z) (y := ((ln_n L : Nat) : Int)) (tgt := 38) hx hb dX4_bendOfPlace_27 (by decide) (by omega) (by omega) (by omega) (by omega) (fun c_27_8 => ?_) (fun c_27_8 => ?_)
          · -- taken at 27
            refine kx_iconst hx hb dX4_bendOfPlace_38 ?_
            refine kx_iadd hx hb dX4_bendOfPlace_39 ?_
            refine lv_istore_n (lv' := [(2, .int (kI ((sm + 0)))), (0, .ref a), (1, .int (kI ((pl : Nat) : Int))), (3, .int (kI (z)))]) hx hb dX4_bendOfPlace_40 rfl hl (by decide) rfl (fun ls hl => ?_)
            refine lv_iinc (v := kI ((z + 1))) (lv' := [(3, .int (kI ((z + 1)))), (2, .int (kI ((sm + 0)))), (0, .ref a), (1, .int (kI ((pl : Nat) : Int)))]) hx hb dX4_bendOfPlace_41 hl (k := 3) rfl (kI_inc _ _) (by decide) rfl (fun ls hl => ?_)
            refine lv_goto (tgt := 6) hx hb dX4_bendOfPlace_44 (by decide) ?_
            exact ih_6  ((j + 1)) ((sm + 0)) ((z + 1)) (by first | assumption | omega | (simp_all; done) | grind) (by first | assumption | omega | (simp_all; done) | grind) (by rw [ln_bendsTo, ← hsm]; first | (rw [if_pos ⟨by omega, by omega⟩]; congr 2; omega) | (rw [if_neg (by omega)]; done)) _ hS_3 (by omega) ls (lv_sub hl [2, 3, 1, 0] rfl)
          · -- not taken at 27
            refine lv_aload_n hx hb dX4_bendOfPlace_30 rfl (lv_at hl 0 rfl) ?_
            refine lv_iload_n hx hb dX4_bendOfPlace_31 rfl (lv_at hl 3 rfl) ?_
            refine kx_eqi ((((pl + j - 1) : Nat) : Int)) (by omega) ?_
            refine kx_ci0 (va_runV (As := [.int (kI (((pl + j - 1) : Nat) : Int))]) (rest := [.int (kI (sm))]) ⟨hx, hb, hml, hown, hts⟩ (m_bend_c l D s.heap a pa sa ea gp gs L ((pl + j - 1)) hO_a hA_pa hA_sa hO_ea (by first | assumption | omega) (by first | assumption | omega) (by first | assumption | omega) (by first | assumption | omega)) (cwV 1 hts (lw_V q1110 q1111 q1112 q99 q1113) rfl rfl rfl (by decide +kernel) ⟨Nat.le_of_ble_eq_true rfl, Nat.le_of_ble_eq_true rfl⟩) (kx_pv hK hS_3 hB (kx_rc hK hO_a (C := RX4) (T := TX4) (N := 6) rfl)) rfl rfl hl.1 rfl (lv_room (Nat.le_of_ble_eq_true rfl)) dX4_bendOfPlace_32 ⟨by first | exact Nat.le_of_ble_eq_true rfl | omega | (show _ ≤ _; omega) | (dsimp only [headSpec]; omega), by first | exact Nat.le_of_ble_eq_true rfl | omega | (show _ ≤ _; omega) | (dsimp only [headSpec]; omega)⟩) hS_3 (fun z_12 locs_9 hz_11 hS_10 => ?_)
            subst z_12
            refine lv_goto (tgt := 39) hx hb dX4_bendOfPlace_35 (by decide) ?_
            refine kx_iadd hx hb dX4_bendOfPlace_39 ?_
            refine lv_istore_n (lv' := [(2, .int (kI ((sm + ln_bend L (pl + j - 1))))), (0, .ref a), (1, .int (kI ((pl : Nat) : Int))), (3, .int (kI (z)))]) hx hb dX4_bendOfPlace_40 rfl hl (by decide) rfl (fun ls hl => ?_)
            refine lv_iinc (v := kI ((z + 1))) (lv' := [(3, .int (kI ((z + 1)))), (2, .int (kI ((sm + ln_bend L (pl + j - 1))))), (0, .ref a), (1, .int (kI ((pl : Nat) : Int)))]) hx hb dX4_bendOfPlace_41 hl (k := 3) rfl (kI_inc _ _) (by decide) rfl (fun ls hl => ?_)
            refine lv_goto (tgt := 6) hx hb dX4_bendOfPlace_44 (by decide) ?_
            exact ih_6  ((j + 1)) ((sm + ln_bend L (pl + j - 1))) ((z + 1)) (by first | assumption | omega | (simp_all; done) | grind) (by first | assumption | omega | (simp_all; done) | grind) (by rw [ln_bendsTo, ← hsm]; first | (rw [if_pos ⟨by omega, by omega⟩]; congr 2; omega) | (rw [if_neg (by omega)]; done)) _ hS_10 (by omega) ls (lv_sub hl [2, 3, 1, 0] rfl)
  exact lp_6_x_1 (ln_size L + 2 - 0 + 1) 0 0 ((((pl : Nat) : Int) - 1)) (by first | assumption | omega | (simp_all; done) | grind) (by first | assumption | omega | (simp_all; done) | grind) (rfl) _ hS (Nat.lt_succ_self _) ls (lv_sub hl [2, 3, 1, 0] rfl)

set_option maxHeartbeats 4000000 in
set_option maxRecDepth 100000 in
theorem m_X4_across (l : Launch) (D : kG) (H : Heap) (a : Nat) (pa : Nat) (sa : Nat) (ea : Nat) (gp : Nat → Int) (gs : Nat → Int) (L : Ln) (pl : Nat) (hO_a : kO D H a 3 [.int (kI (ln_lv L)), .ref pa, .ref sa, .int (kI ((ln_n L : Nat) : Int)), .ref ea, .int (kI (ln_lb L))]) (hA_pa : kAi D H pa 61 gp) (hA_sa : kAi D H sa 60 gs) (hM : MLn gp gs L) (hok : LnOK L) (hpl : pl + ln_size L - 1 ≤ ln_n L) : Met l yX4_across (ws_ yX4_across cX4_across 2 (some .int)) ({ frames := 2, cells := 0, slots := 0, locals := 41 } : Room) (kPre D H [.ref a, .int (kI ((pl : Nat) : Int))]) (kQi (fun (r : Int) H' => H' = H ∧ r = (ln_pos L (pl + ln_size L - 1) % 24 - ln_pos L pl % 24)) kNO) (0) (0) (kNO) := by
  refine Met.ofW (cc := cX4_across) (maxL := 2) (ret := (some .int)) (by decide) rfl ?_
  intro p e s m args below meth c s₁ B hml hv
  obtain ⟨rfl, hH, hK⟩ := hv
  subst hH
  have hx := B.exec
  have hb := B.bytes
  have hr := B.returns
  have hts := atoms_spec (ws := ws_ yX4_across cX4_across 2 (some .int)) B.pre
  have hts : ∀ w ∈ lw_all, w.before _ s = true := fun w h => hts w (List.mem_cons_of_mem _ h)
  have hown : s.vm.findClass RX4 = some m.cls := findClass_of_methodNamed B.named
  have hlk := B.notSynchronized
  have hS : va_S kNO s.heap s.heap [] := va_S.rf
  have hB : ∀ q, kNO q → kBase D ≤ q := fun _ h => h.elim
  have hl := lv_entry ([.ref a, .int (kI ((pl : Nat) : Int))]) (n := 2) (Nat.le_of_ble_eq_true rfl)
  rw [lg_entry_eq]
  generalize (lg_sl ([.ref a, .int (kI ((pl : Nat) : Int))]) ++ List.replicate (2 - (lg_sl ([.ref a, .int (kI ((pl : Nat) : Int))])).length) Slot.unset).toArray = ls at hl ⊢
  have hl : lv_has ls 2 [(0, .ref a), (1, .int (kI ((pl : Nat) : Int)))] := hl
  have hL60 := hok.n
  have hlb := hok.lbr
  have hlv := hok.lv
  have hsz := ln_size_23 L
  have hp0 := hok.pos (k := pl) (by omega)
  have hp1 := hok.pos (k := pl + ln_size L - 1) (by omega)
  refine lv_aload_n hx hb dX4_across_0 rfl (lv_at hl 0 rfl) ?_
  refine kx_get (v := .ref pa) (C := RX4) (T := TX4) (N := 6) hx hb hts in_X4 hown hK hO_a rfl 1 (by decide) q336 (fun _ h9 => h9) rfl dX4_across_1 ?_
  refine lv_aload_n hx hb dX4_across_4 rfl (lv_at hl 0 rfl) ?_
  refine lv_iload_n hx hb dX4_across_5 rfl (lv_at hl 1 rfl) ?_
  refine kx_ci0 (va_runV (As := [.int (kI ((pl : Nat) : Int))]) (rest := [.ref pa]) ⟨hx, hb, hml, hown, hts⟩ (m_X4_lastOf l D s.heap a pa sa ea L pl hO_a (by first | assumption | omega) (by first | assumption | omega)) (cwV 1 hts (lw_V q1080 q1081 q1082 q99 q1083) rfl rfl rfl (by decide +kernel) ⟨Nat.le_of_ble_eq_true rfl, Nat.le_of_ble_eq_true rfl⟩) (kx_pv hK hS hB (kx_rc hK hO_a (C := RX4) (T := TX4) (N := 6) rfl)) rfl rfl hl.1 rfl (lv_room (Nat.le_of_ble_eq_true rfl)) dX4_across_6 ⟨by first | exact Nat.le_of_ble_eq_true rfl | omega | (show _ ≤ _; omega) | (dsimp only [headSpec]; omega), by first | exact Nat.le_of_ble_eq_true rfl | omega | (show _ ≤ _; omega) | (dsimp only [headSpec]; omega)⟩) hS (fun z_4 locs_1 hz_3 hS_2 => ?_)
  subst z_4
  refine kx_iald (i := ((pl + ln_size L - 1 : Nat) : Int)) hx hb hK hA_pa (pl + ln_size L - 1) (rfl) (by omega) (by omega) dX4_across_9 ?_
  refine kx_eqi (ln_pos L (pl + ln_size L - 1)) (hM.1 _ (by omega)) ?_
  refine kx_ci0 (va_runSN (As := [.int (kI (ln_pos L (pl + ln_size L - 1)))]) (rest := []) ⟨hx, hb, hml, hown, hts⟩ (m_X1_column l D s.heap (ln_pos L (pl + ln_size L - 1))  (by first | assumption | omega)) ⟨va_cnB 1 hts (lw_meth q1154) rfl rfl rfl (hK.w q1152 rfl) (hts _ q79) (by decide +kernel) ⟨Nat.le_of_ble_eq_true rfl, Nat.le_of_ble_eq_true rfl⟩, hts _ q1153, trivial⟩ (kx_ps hK hS_2 hB) rfl rfl hl.1 rfl (lv_room (Nat.le_of_ble_eq_true rfl)) dX4_across_10 ⟨by first | exact Nat.le_of_ble_eq_true rfl | omega | (show _ ≤ _; omega) | (dsimp only [headSpec]; omega), by first | exact Nat.le_of_ble_eq_true rfl | omega | (show _ ≤ _; omega) | (dsimp only [headSpec]; omega)⟩) hS_2 (fun z_8 locs_5 hz_7 hS_6 => ?_)
  subst z_8
  refine lv_aload_n hx hb dX4_across_13 rfl (lv_at hl 0 rfl) ?_
  refine kx_get (v := .ref pa) (C := RX4) (T := TX4) (N := 6) hx hb hts in_X4 hown hK hO_a rfl 1 (by decide) q336 (fun _ h9 => h9) rfl dX4_across_14 ?_
  refine lv_iload_n hx hb dX4_across_17 rfl (lv_at hl 1 rfl) ?_
  refine kx_iald (i := ((pl : Nat) : Int)) hx hb hK hA_pa pl (rfl) (by omega) (by omega) dX4_across_18 ?_
  refine kx_eqi (ln_pos L pl) (hM.1 _ (by omega)) ?_
  refine kx_ci0 (va_runSN (As := [.int (kI (ln_pos L pl))]) (rest := [.int (kI ((ln_pos L (pl + ln_size L - 1)) % 24))]) ⟨hx, hb, hml, hown, hts⟩ (m_X1_column l D s.heap (ln_pos L pl)  (by first | assumption | omega)) ⟨va_cnB 1 hts (lw_meth q1154) rfl rfl rfl (hK.w q1152 rfl) (hts _ q79) (by decide +kernel) ⟨Nat.le_of_ble_eq_true rfl, Nat.le_of_ble_eq_true rfl⟩, hts _ q1153, trivial⟩ (kx_ps hK hS_6 hB) rfl rfl hl.1 rfl (lv_room (Nat.le_of_ble_eq_true rfl)) dX4_across_19 ⟨by first | exact Nat.le_of_ble_eq_true rfl | omega | (show _ ≤ _; omega) | (dsimp only [headSpec]; omega), by first | exact Nat.le_of_ble_eq_true rfl | omega | (show _ ≤ _; omega) | (dsimp only [headSpec]; omega)⟩) hS_6 (fun z_12 locs_9 hz_11 hS_10 => ?_)
  subst z_12
  refine kx_isub hx hb dX4_across_22 ?_
  exact kx_iret (z := ((ln_pos L (pl + ln_size L - 1)) % 24 - (ln_pos L pl) % 24)) hx hb hr hlk (⟨rfl, by rfl⟩) hS_10 dX4_across_23

set_option maxHeartbeats 4000000 in
set_option maxRecDepth 100000 in
theorem m_X4_down (l : Launch) (D : kG) (H : Heap) (a : Nat) (pa : Nat) (sa : Nat) (ea : Nat) (gp : Nat → Int) (gs : Nat → Int) (L : Ln) (pl : Nat) (hO_a : kO D H a 3 [.int (kI (ln_lv L)), .ref pa, .ref sa, .int (kI ((ln_n L : Nat) : Int)), .ref ea, .int (kI (ln_lb L))]) (hA_pa : kAi D H pa 61 gp) (hA_sa : kAi D H sa 60 gs) (hM : MLn gp gs L) (hok : LnOK L) (hpl : pl + ln_size L - 1 ≤ ln_n L) : Met l yX4_down (ws_ yX4_down cX4_down 2 (some .int)) ({ frames := 2, cells := 0, slots := 0, locals := 41 } : Room) (kPre D H [.ref a, .int (kI ((pl : Nat) : Int))]) (kQi (fun (r : Int) H' => H' = H ∧ r = (ln_pos L (pl + ln_size L - 1) / 24 - ln_pos L pl / 24)) kNO) (0) (0) (kNO) := by
  refine Met.ofW (cc := cX4_down) (maxL := 2) (ret := (some .int)) (by decide) rfl ?_
  intro p e s m args below meth c s₁ B hml hv
  obtain ⟨rfl, hH, hK⟩ := hv
  subst hH
  have hx := B.exec
  have hb := B.bytes
  have hr := B.returns
  have hts := atoms_spec (ws := ws_ yX4_down cX4_down 2 (some .int)) B.pre
  have hts : ∀ w ∈ lw_all, w.before _ s = true := fun w h => hts w (List.mem_cons_of_mem _ h)
  have hown : s.vm.findClass RX4 = some m.cls := findClass_of_methodNamed B.named
  have hlk := B.notSynchronized
  have hS : va_S kNO s.heap s.heap [] := va_S.rf
  have hB : ∀ q, kNO q → kBase D ≤ q := fun _ h => h.elim
  have hl := lv_entry ([.ref a, .int (kI ((pl : Nat) : Int))]) (n := 2) (Nat.le_of_ble_eq_true rfl)
  rw [lg_entry_eq]
  generalize (lg_sl ([.ref a, .int (kI ((pl : Nat) : Int))]) ++ List.replicate (2 - (lg_sl ([.ref a, .int (kI ((pl : Nat) : Int))])).length) Slot.unset).toArray = ls at hl ⊢
  have hl : lv_has ls 2 [(0, .ref a), (1, .int (kI ((pl : Nat) : Int)))] := hl
  have hL60 := hok.n
  have hlb := hok.lbr
  have hlv := hok.lv
  have hsz := ln_size_23 L
  have hp0 := hok.pos (k := pl) (by omega)
  have hp1 := hok.pos (k := pl + ln_size L - 1) (by omega)
  refine lv_aload_n hx hb dX4_down_0 rfl (lv_at hl 0 rfl) ?_
  refine kx_get (v := .ref pa) (C := RX4) (T := TX4) (N := 6) hx hb hts in_X4 hown hK hO_a rfl 1 (by decide) q336 (fun _ h9 => h9) rfl dX4_down_1 ?_
  refine lv_aload_n hx hb dX4_down_4 rfl (lv_at hl 0 rfl) ?_
  refine lv_iload_n hx hb dX4_down_5 rfl (lv_at hl 1 rfl) ?_
  refine kx_ci0 (va_runV (As := [.int (kI ((pl : Nat) : Int))]) (rest := [.ref pa]) ⟨hx, hb, hml, hown, hts⟩ (m_X4_lastOf l D s.heap a pa sa ea L pl hO_a (by first | assumption | omega) (by first | assumption | omega)) (cwV 1 hts (lw_V q1080 q1081 q1082 q99 q1083) rfl rfl rfl (by decide +kernel) ⟨Nat.le_of_ble_eq_true rfl, Nat.le_of_ble_eq_true rfl⟩) (kx_pv hK hS hB (kx_rc hK hO_a (C := RX4) (T := TX4) (N := 6) rfl)) rfl rfl hl.1 rfl (lv_room (Nat.le_of_ble_eq_true rfl)) dX4_down_6 ⟨by first | exact Nat.le_of_ble_eq_true rfl | omega | (show _ ≤ _; omega) | (dsimp only [headSpec]; omega), by first | exact Nat.le_of_ble_eq_true rfl | omega | (show _ ≤ _; omega) | (dsimp only [headSpec]; omega)⟩) hS (fun z_4 locs_1 hz_3 hS_2 => ?_)
  subst z_4
  refine kx_iald (i := ((pl + ln_size L - 1 : Nat) : Int)) hx hb hK hA_pa (pl + ln_size L - 1) (rfl) (by omega) (by omega) dX4_down_9 ?_
  refine kx_eqi (ln_pos L (pl + ln_size L - 1)) (hM.1 _ (by omega)) ?_
  refine kx_ci0 (va_runSN (As := [.int (kI (ln_pos L (pl + ln_size L - 1)))]) (rest := []) ⟨hx, hb, hml, hown, hts⟩ (m_X1_row l D s.heap (ln_pos L (pl + ln_size L - 1))  (by first | assumption | omega)) ⟨va_cnB 1 hts (lw_meth q1144) rfl rfl rfl (hK.w q1142 rfl) (hts _ q79) (by decide +kernel) ⟨Nat.le_of_ble_eq_true rfl, Nat.le_of_ble_eq_true rfl⟩, hts _ q1143, trivial⟩ (kx_ps hK hS_2 hB) rfl rfl hl.1 rfl (lv_room (Nat.le_of_ble_eq_true rfl)) dX4_down_10 ⟨by first | exact Nat.le_of_ble_eq_true rfl | omega | (show _ ≤ _; omega) | (dsimp only [headSpec]; omega), by first | exact Nat.le_of_ble_eq_true rfl | omega | (show _ ≤ _; omega) | (dsimp only [headSpec]; omega)⟩) hS_2 (fun z_8 locs_5 hz_7 hS_6 => ?_)
  subst z_8
  refine lv_aload_n hx hb dX4_down_13 rfl (lv_at hl 0 rfl) ?_
  refine kx_get (v := .ref pa) (C := RX4) (T := TX4) (N := 6) hx hb hts in_X4 hown hK hO_a rfl 1 (by decide) q336 (fun _ h9 => h9) rfl dX4_down_14 ?_
  refine lv_iload_n hx hb dX4_down_17 rfl (lv_at hl 1 rfl) ?_
  refine kx_iald (i := ((pl : Nat) : Int)) hx hb hK hA_pa pl (rfl) (by omega) (by omega) dX4_down_18 ?_
  refine kx_eqi (ln_pos L pl) (hM.1 _ (by omega)) ?_
  refine kx_ci0 (va_runSN (As := [.int (kI (ln_pos L pl))]) (rest := [.int (kI ((ln_pos L (pl + ln_size L - 1)) / 24))]) ⟨hx, hb, hml, hown, hts⟩ (m_X1_row l D s.heap (ln_pos L pl)  (by first | assumption | omega)) ⟨va_cnB 1 hts (lw_meth q1144) rfl rfl rfl (hK.w q1142 rfl) (hts _ q79) (by decide +kernel) ⟨Nat.le_of_ble_eq_true rfl, Nat.le_of_ble_eq_true rfl⟩, hts _ q1143, trivial⟩ (kx_ps hK hS_6 hB) rfl rfl hl.1 rfl (lv_room (Nat.le_of_ble_eq_true rfl)) dX4_down_19 ⟨by first | exact Nat.le_of_ble_eq_true rfl | omega | (show _ ≤ _; omega) | (dsimp only [headSpec]; omega), by first | exact Nat.le_of_ble_eq_true rfl | omega | (show _ ≤ _; omega) | (dsimp only [headSpec]; omega)⟩) hS_6 (fun z_12 locs_9 hz_11 hS_10 => ?_)
  subst z_12
  refine kx_isub hx hb dX4_down_22 ?_
  exact kx_iret (z := ((ln_pos L (pl + ln_size L - 1)) / 24 - (ln_pos L pl) / 24)) hx hb hr hlk (⟨rfl, by rfl⟩) hS_10 dX4_down_23

set_option maxHeartbeats 4000000 in
set_option maxRecDepth 100000 in
theorem m_X4_stands (l : Launch) (D : kG) (H : Heap) (a : Nat) (pa : Nat) (sa : Nat) (ea : Nat) (gp : Nat → Int) (gs : Nat → Int) (L : Ln) (pl : Nat) (hO_a : kO D H a 3 [.int (kI (ln_lv L)), .ref pa, .ref sa, .int (kI ((ln_n L : Nat) : Int)), .ref ea, .int (kI (ln_lb L))]) (hA_pa : kAi D H pa 61 gp) (hA_sa : kAi D H sa 60 gs) (hM : MLn gp gs L) (hok : LnOK L) (hpl : pl + ln_size L - 1 ≤ ln_n L) : Met l yX4_stands (ws_ yX4_stands cX4_stands 2 (some .boolean)) ({ frames := 3, cells := 0, slots := 0, locals := 62 } : Room) (kPre D H [.ref a, .int (kI ((pl : Nat) : Int))]) (kQb (fun (r : Bool) H' => H' = H ∧ r = ln_stands L pl) kNO) (0) (0) (kNO) := by
  refine Met.ofW (cc := cX4_stands) (maxL := 2) (ret := (some .boolean)) (by decide) rfl ?_
  intro p e s m args below meth c s₁ B hml hv
  obtain ⟨rfl, hH, hK⟩ := hv
  subst hH
  have hx := B.exec
  have hb := B.bytes
  have hr := B.returns
  have hts := atoms_spec (ws := ws_ yX4_stands cX4_stands 2 (some .boolean)) B.pre
  have hts : ∀ w ∈ lw_all, w.before _ s = true := fun w h => hts w (List.mem_cons_of_mem _ h)
  have hown : s.vm.findClass RX4 = some m.cls := findClass_of_methodNamed B.named
  have hlk := B.notSynchronized
  have hS : va_S kNO s.heap s.heap [] := va_S.rf
  have hB : ∀ q, kNO q → kBase D ≤ q := fun _ h => h.elim
  have hl := lv_entry ([.ref a, .int (kI ((pl : Nat) : Int))]) (n := 2) (Nat.le_of_ble_eq_true rfl)
  rw [lg_entry_eq]
  generalize (lg_sl ([.ref a, .int (kI ((pl : Nat) : Int))]) ++ List.replicate (2 - (lg_sl ([.ref a, .int (kI ((pl : Nat) : Int))])).length) Slot.unset).toArray = ls at hl ⊢
  have hl : lv_has ls 2 [(0, .ref a), (1, .int (kI ((pl : Nat) : Int)))] := hl
  have hL60 := hok.n
  have hlb := hok.lbr
  have hlv := hok.lv
  have hsz := ln_size_23 L
  have hp0 := hok.pos (k := pl) (by omega)
  have hp1 := hok.pos (k := pl + ln_size L - 1) (by omega)
  refine lv_aload_n hx hb dX4_stands_0 rfl (lv_at hl 0 rfl) ?_
  refine lv_iload_n hx hb dX4_stands_1 rfl (lv_at hl 1 rfl) ?_
  refine kx_ci0 (va_runV (As := [.int (kI ((pl : Nat) : Int))]) (rest := []) ⟨hx, hb, hml, hown, hts⟩ (m_X4_down l D s.heap a pa sa ea gp gs L pl hO_a hA_pa hA_sa (by first | assumption | omega) (by first | assumption | omega) (by first | assumption | omega)) (cwV 1 hts (lw_V q1138 q1140 qs14 q99 q1141) rfl rfl rfl (by decide +kernel) ⟨Nat.le_of_ble_eq_true rfl, Nat.le_of_ble_eq_true rfl⟩) (kx_pv hK hS hB (kx_rc hK hO_a (C := RX4) (T := TX4) (N := 6) rfl)) rfl rfl hl.1 rfl (lv_room (Nat.le_of_ble_eq_true rfl)) dX4_stands_2 ⟨by first | exact Nat.le_of_ble_eq_true rfl | omega | (show _ ≤ _; omega) | (dsimp only [headSpec]; omega), by first | exact Nat.le_of_ble_eq_true rfl | omega | (show _ ≤ _; omega) | (dsimp only [headSpec]; omega)⟩) hS (fun z_4 locs_1 hz_3 hS_2 => ?_)
  subst z_4
  refine kx_ci0 (va_runSN (As := [.int (kI ((ln_pos L (pl + ln_size L - 1) / 24 - ln_pos L pl / 24)))]) (rest := []) ⟨hx, hb, hml, hown, hts⟩ (m_X1_size l D s.heap ((ln_pos L (pl + ln_size L - 1) / 24 - ln_pos L pl / 24))  (by first | assumption | omega)) ⟨va_cnB 1 hts (lw_meth q1147) rfl rfl rfl (hK.w q1145 rfl) (hts _ q79) (by decide +kernel) ⟨Nat.le_of_ble_eq_true rfl, Nat.le_of_ble_eq_true rfl⟩, hts _ q1146, trivial⟩ (kx_ps hK hS_2 hB) rfl rfl hl.1 rfl (lv_room (Nat.le_of_ble_eq_true rfl)) dX4_stands_5 ⟨by first | exact Nat.le_of_ble_eq_true rfl | omega | (show _ ≤ _; omega) | (dsimp only [headSpec]; omega), by first | exact Nat.le_of_ble_eq_true rfl | omega | (show _ ≤ _; omega) | (dsimp only [headSpec]; omega)⟩) hS_2 (fun z_8 locs_5 hz_7 hS_6 => ?_)
  subst z_8
  refine lv_aload_n hx hb dX4_stands_8 rfl (lv_at hl 0 rfl) ?_
  refine lv_iload_n hx hb dX4_stands_9 rfl (lv_at hl 1 rfl) ?_
  refine kx_ci0 (va_runV (As := [.int (kI ((pl : Nat) : Int))]) (rest := [.int (kI ((if ((ln_pos L (pl + ln_size L - 1) / 24 - ln_pos L pl / 24)) < 0 then -((ln_pos L (pl + ln_size L - 1) / 24 - ln_pos L pl / 24)) else ((ln_pos L (pl + ln_size L - 1) / 24 - ln_pos L pl / 24)))))]) ⟨hx, hb, hml, hown, hts⟩ (m_X4_across l D s.heap a pa sa ea gp gs L pl hO_a hA_pa hA_sa (by first | assumption | omega) (by first | assumption | omega) (by first | assumption | omega)) (cwV 1 hts (lw_V q1148 q1149 q1150 q99 q1151) rfl rfl rfl (by decide +kernel) ⟨Nat.le_of_ble_eq_true rfl, Nat.le_of_ble_eq_true rfl⟩) (kx_pv hK hS_6 hB (kx_rc hK hO_a (C := RX4) (T := TX4) (N := 6) rfl)) rfl rfl hl.1 rfl (lv_room (Nat.le_of_ble_eq_true rfl)) dX4_stands_10 ⟨by first | exact Nat.le_of_ble_eq_true rfl | omega | (show _ ≤ _; omega) | (dsimp only [headSpec]; omega), by first | exact Nat.le_of_ble_eq_true rfl | omega | (show _ ≤ _; omega) | (dsimp only [headSpec]; omega)⟩) hS_6 (fun z_12 locs_9 hz_11 hS_10 => ?_)
  subst z_12
  refine kx_ci0 (va_runSN (As := [.int (kI ((ln_pos L (pl + ln_size L - 1) % 24 - ln_pos L pl % 24)))]) (rest := [.int (kI ((if ((ln_pos L (pl + ln_size L - 1) / 24 - ln_pos L pl / 24)) < 0 then -((ln_pos L (pl + ln_size L - 1) / 24 - ln_pos L pl / 24)) else ((ln_pos L (pl + ln_size L - 1) / 24 - ln_pos L pl / 24)))))]) ⟨hx, hb, hml, hown, hts⟩ (m_X1_size l D s.heap ((ln_pos L (pl + ln_size L - 1) % 24 - ln_pos L pl % 24))  (by first | assumption | omega)) ⟨va_cnB 1 hts (lw_meth q1147) rfl rfl rfl (hK.w q1145 rfl) (hts _ q79) (by decide +kernel) ⟨Nat.le_of_ble_eq_true rfl, Nat.le_of_ble_eq_true rfl⟩, hts _ q1146, trivial⟩ (kx_ps hK hS_10 hB) rfl rfl hl.1 rfl (lv_room (Nat.le_of_ble_eq_true rfl)) dX4_stands_13 ⟨by first | exact Nat.le_of_ble_eq_true rfl | omega | (show _ ≤ _; omega) | (dsimp only [headSpec]; omega), by first | exact Nat.le_of_ble_eq_true rfl | omega | (show _ ≤ _; omega) | (dsimp only [headSpec]; omega)⟩) hS_10 (fun z_16 locs_13 hz_15 hS_14 => ?_)
  subst z_16
  refine kx_icmp_le (x := (if ((ln_pos L (pl + ln_size L - 1) / 24 - ln_pos L pl / 24)) < 0 then -((ln_pos L (pl + ln_size L - 1) / 24 - ln_pos L pl / 24)) else ((ln_pos L (pl + ln_size L - 1) / 24 - ln_pos L pl / 24)))) (y := (if ((ln_pos L (pl + ln_size L - 1) % 24 - ln_pos L pl % 24)) < 0 then -((ln_pos L (pl + ln_size L - 1) % 24 - ln_pos L pl % 24)) else ((ln_pos L (pl + ln_size L - 1) % 24 - ln_pos L pl % 24)))) (tgt := 23) hx hb dX4_stands_16 (by decide) (by omega) (by omega) (by omega) (by omega) (fun c_16_17 => ?_) (fun c_16_17 => ?_)
  · -- taken at 16
    refine kx_iconst hx hb dX4_stands_23 ?_
    exact kx_zret (z := false) hx hb hr hlk (⟨rfl, by unfold ln_stands apart; first | exact (decide_eq_true (by grind)).symm | exact (decide_eq_false (by grind)).symm⟩) hS_14 dX4_stands_24
  · -- not taken at 16
    refine kx_iconst hx hb dX4_stands_19 ?_
    refine lv_goto (tgt := 24) hx hb dX4_stands_20 (by decide) ?_
    exact kx_zret (z := true) hx hb hr hlk (⟨rfl, by unfold ln_stands apart; first | exact (decide_eq_true (by grind)).symm | exact (decide_eq_false (by grind)).symm⟩) hS_14 dX4_stands_24

set_option maxHeartbeats 4000000 in
set_option maxRecDepth 100000 in
theorem m_X4_isTurned (l : Launch) (D : kG) (H : Heap) (a : Nat) (pa : Nat) (sa : Nat) (ea : Nat) (gp : Nat → Int) (gs : Nat → Int) (L : Ln) (hO_a : kO D H a 3 [.int (kI (ln_lv L)), .ref pa, .ref sa, .int (kI ((ln_n L : Nat) : Int)), .ref ea, .int (kI (ln_lb L))]) (hA_pa : kAi D H pa 61 gp) (hA_sa : kAi D H sa 60 gs) (hM : MLn gp gs L) (hok : LnOK L) : Met l yX4_isTurned (ws_ yX4_isTurned cX4_isTurned 1 (some .boolean)) ({ frames := 3, cells := 0, slots := 0, locals := 62 } : Room) (kPre D H [.ref a]) (kQb (fun (r : Bool) H' => H' = H ∧ r = ln_left L) kNO) (0) (0) (kNO) := by
  refine Met.ofW (cc := cX4_isTurned) (maxL := 1) (ret := (some .boolean)) (by decide) rfl ?_
  intro p e s m args below meth c s₁ B hml hv
  obtain ⟨rfl, hH, hK⟩ := hv
  subst hH
  have hx := B.exec
  have hb := B.bytes
  have hr := B.returns
  have hts := atoms_spec (ws := ws_ yX4_isTurned cX4_isTurned 1 (some .boolean)) B.pre
  have hts : ∀ w ∈ lw_all, w.before _ s = true := fun w h => hts w (List.mem_cons_of_mem _ h)
  have hown : s.vm.findClass RX4 = some m.cls := findClass_of_methodNamed B.named
  have hlk := B.notSynchronized
  have hS : va_S kNO s.heap s.heap [] := va_S.rf
  have hB : ∀ q, kNO q → kBase D ≤ q := fun _ h => h.elim
  have hl := lv_entry ([.ref a]) (n := 1) (Nat.le_of_ble_eq_true rfl)
  rw [lg_entry_eq]
  generalize (lg_sl ([.ref a]) ++ List.replicate (1 - (lg_sl ([.ref a])).length) Slot.unset).toArray = ls at hl ⊢
  have hl : lv_has ls 1 [(0, .ref a)] := hl
  have hL60 := hok.n
  have hlb := hok.lbr
  have hlv := hok.lv
  have hsz := ln_size_23 L
  have hlb2 := hok.lb.2
  refine lv_aload_n hx hb dX4_isTurned_0 rfl (lv_at hl 0 rfl) ?_
  refine kx_get (v := .int (kI (ln_lb L))) (C := RX4) (T := TX4) (N := 6) hx hb hts in_X4 hown hK hO_a rfl 5 (by decide) q348 (fun _ h9 => h9) rfl dX4_isTurned_1 ?_
  refine kx_iconst hx hb dX4_isTurned_4 ?_
  refine kx_icmp_eq (x := ln_lb L) (y := (-1)) (tgt := 23) hx hb dX4_isTurned_5 (by decide) (by omega) (by omega) (by omega) (by omega) (fun c_5_1 => ?_) (fun c_5_1 => ?_)
  · -- taken at 5
    refine kx_iconst hx hb dX4_isTurned_23 ?_
    exact kx_zret (z := false) hx hb hr hlk (⟨rfl, by first | exact (ln_left_t (by assumption) (by omega)).symm | exact (ln_left_f (Or.inl (by assumption))).symm | exact (ln_left_f (Or.inr (by omega))).symm⟩) hS dX4_isTurned_24
  · -- not taken at 5
    refine lv_aload_n hx hb dX4_isTurned_8 rfl (lv_at hl 0 rfl) ?_
    refine lv_aload_n hx hb dX4_isTurned_9 rfl (lv_at hl 0 rfl) ?_
    refine kx_get (v := .int (kI (ln_lb L))) (C := RX4) (T := TX4) (N := 6) hx hb hts in_X4 hown hK hO_a rfl 5 (by decide) q348 (fun _ h9 => h9) rfl dX4_isTurned_10 ?_
    refine kx_eqi ((((ln_lb L).toNat : Nat) : Int)) (by omega) ?_
    have hle := hlb2 (by assumption)
    have hp0 := hok.pos (k := (ln_lb L).toNat) (by omega)
    have hp1 := hok.pos (k := (ln_lb L).toNat + ln_size L - 1) (by omega)
    refine kx_ci0 (va_runV (As := [.int (kI (((ln_lb L).toNat : Nat) : Int))]) (rest := []) ⟨hx, hb, hml, hown, hts⟩ (m_X4_across l D s.heap a pa sa ea gp gs L ((ln_lb L).toNat) hO_a hA_pa hA_sa (by first | assumption | omega) (by first | assumption | omega) (by first | assumption | omega)) (cwV 1 hts (lw_V q1148 q1149 q1150 q99 q1151) rfl rfl rfl (by decide +kernel) ⟨Nat.le_of_ble_eq_true rfl, Nat.le_of_ble_eq_true rfl⟩) (kx_pv hK hS hB (kx_rc hK hO_a (C := RX4) (T := TX4) (N := 6) rfl)) rfl rfl hl.1 rfl (lv_room (Nat.le_of_ble_eq_true rfl)) dX4_isTurned_13 ⟨by first | exact Nat.le_of_ble_eq_true rfl | omega | (show _ ≤ _; omega) | (dsimp only [headSpec]; omega), by first | exact Nat.le_of_ble_eq_true rfl | omega | (show _ ≤ _; omega) | (dsimp only [headSpec]; omega)⟩) hS (fun z_5 locs_2 hz_4 hS_3 => ?_)
    subst z_5
    refine kx_if_ge (x := (ln_pos L (((ln_lb L).toNat) + ln_size L - 1) % 24 - ln_pos L ((ln_lb L).toNat) % 24)) (tgt := 23) hx hb dX4_isTurned_16 (by decide) (by omega) (by omega) (fun c_16_6 => ?_) (fun c_16_6 => ?_)
    · -- taken at 16
      refine kx_iconst hx hb dX4_isTurned_23 ?_
      exact kx_zret (z := false) hx hb hr hlk (⟨rfl, by first | exact (ln_left_t (by assumption) (by omega)).symm | exact (ln_left_f (Or.inl (by assumption))).symm | exact (ln_left_f (Or.inr (by omega))).symm⟩) hS_3 dX4_isTurned_24
    · -- not taken at 16
      refine kx_iconst hx hb dX4_isTurned_19 ?_
      refine lv_goto (tgt := 24) hx hb dX4_isTurned_20 (by decide) ?_
      exact kx_zret (z := true) hx hb hr hlk (⟨rfl, by first | exact (ln_left_t (by assumption) (by omega)).symm | exact (ln_left_f (Or.inl (by assumption))).symm | exact (ln_left_f (Or.inr (by omega))).symm⟩) hS_3 dX4_isTurned_24

set_option maxHeartbeats 4000000 in
set_option maxRecDepth 100000 in
theorem m_X4_readFrom (l : Launch) (D : kG) (H : Heap) (a : Nat) (pa : Nat) (sa : Nat) (ea : Nat) (gp : Nat → Int) (gs : Nat → Int) (L : Ln) (hO_a : kO D H a 3 [.int (kI (ln_lv L)), .ref pa, .ref sa, .int (kI ((ln_n L : Nat) : Int)), .ref ea, .int (kI (ln_lb L))]) (hA_pa : kAi D H pa 61 gp) (hA_sa : kAi D H sa 60 gs) (hM : MLn gp gs L) (hok : LnOK L) : Met l yX4_readFrom (ws_ yX4_readFrom cX4_readFrom 1 (some .int)) ({ frames := 4, cells := 0, slots := 0, locals := 82 } : Room) (kPre D H [.ref a]) (kQi (fun (r : Int) H' => H' = H ∧ r = (if ln_lb L = -1 then -1 else if ln_left L = true then ln_pos L ((ln_lb L).toNat + ln_size L - 1) else ln_pos L (ln_lb L).toNat)) kNO) (0) (0) (kNO) := by
  refine Met.ofW (cc := cX4_readFrom) (maxL := 1) (ret := (some .int)) (by decide) rfl ?_
  intro p e s m args below meth c s₁ B hml hv
  obtain ⟨rfl, hH, hK⟩ := hv
  subst hH
  have hx := B.exec
  have hb := B.bytes
  have hr := B.returns
  have hts := atoms_spec (ws := ws_ yX4_readFrom cX4_readFrom 1 (some .int)) B.pre
  have hts : ∀ w ∈ lw_all, w.before _ s = true := fun w h => hts w (List.mem_cons_of_mem _ h)
  have hown : s.vm.findClass RX4 = some m.cls := findClass_of_methodNamed B.named
  have hlk := B.notSynchronized
  have hS : va_S kNO s.heap s.heap [] := va_S.rf
  have hB : ∀ q, kNO q → kBase D ≤ q := fun _ h => h.elim
  have hl := lv_entry ([.ref a]) (n := 1) (Nat.le_of_ble_eq_true rfl)
  rw [lg_entry_eq]
  generalize (lg_sl ([.ref a]) ++ List.replicate (1 - (lg_sl ([.ref a])).length) Slot.unset).toArray = ls at hl ⊢
  have hl : lv_has ls 1 [(0, .ref a)] := hl
  have hL60 := hok.n
  have hlb := hok.lbr
  have hlv := hok.lv
  have hsz := ln_size_23 L
  have hlb2 := hok.lb.2
  refine lv_aload_n hx hb dX4_readFrom_0 rfl (lv_at hl 0 rfl) ?_
  refine kx_get (v := .int (kI (ln_lb L))) (C := RX4) (T := TX4) (N := 6) hx hb hts in_X4 hown hK hO_a rfl 5 (by decide) q348 (fun _ h9 => h9) rfl dX4_readFrom_1 ?_
  refine kx_iconst hx hb dX4_readFrom_4 ?_
  refine kx_icmp_ne (x := ln_lb L) (y := (-1)) (tgt := 12) hx hb dX4_readFrom_5 (by decide) (by omega) (by omega) (by omega) (by omega) (fun c5 => ?_) (fun c5 => ?_)
  · -- taken at 5
    have hle := hlb2 (by assumption)
    refine lv_aload_n hx hb dX4_readFrom_12 rfl (lv_at hl 0 rfl) ?_
    refine kx_get (v := .ref pa) (C := RX4) (T := TX4) (N := 6) hx hb hts in_X4 hown hK hO_a rfl 1 (by decide) q336 (fun _ h9 => h9) rfl dX4_readFrom_13 ?_
    refine lv_aload_n hx hb dX4_readFrom_16 rfl (lv_at hl 0 rfl) ?_
    refine kx_cb0 (va_runV (As := []) (rest := [.ref pa]) ⟨hx, hb, hml, hown, hts⟩ (m_X4_isTurned l D s.heap a pa sa ea gp gs L hO_a hA_pa hA_sa (by first | assumption | omega) (by first | assumption | omega)) (cwV 0 hts (lw_V q2032 q2018 q2019 q99 q2020) rfl rfl rfl (by decide +kernel) ⟨Nat.le_of_ble_eq_true rfl, Nat.le_of_ble_eq_true rfl⟩) (kx_pv hK hS hB (kx_rc hK hO_a (C := RX4) (T := TX4) (N := 6) rfl)) rfl rfl hl.1 rfl (lv_room (Nat.le_of_ble_eq_true rfl)) dX4_readFrom_17 ⟨by first | exact Nat.le_of_ble_eq_true rfl | omega | (show _ ≤ _; omega) | (dsimp only [headSpec]; omega), by first | exact Nat.le_of_ble_eq_true rfl | omega | (show _ ≤ _; omega) | (dsimp only [headSpec]; omega)⟩) hS (fun z_4 locs_1 hz_3 hS_2 => ?_)
    subst z_4
    refine kx_ifz (tgt := 34) hx hb dX4_readFrom_20 (by decide) (fun c20 => ?_) (fun c20 => ?_)
    · -- taken at 20
      refine lv_aload_n hx hb dX4_readFrom_34 rfl (lv_at hl 0 rfl) ?_
      refine kx_get (v := .int (kI (ln_lb L))) (C := RX4) (T := TX4) (N := 6) hx hb hts in_X4 hown hK hO_a rfl 5 (by decide) q348 (fun _ h9 => h9) rfl dX4_readFrom_35 ?_
      refine kx_iald (i := ln_lb L) hx hb hK hA_pa ((ln_lb L).toNat) (by omega) (by omega) (by omega) dX4_readFrom_38 ?_
      exact kx_iret (z := (gp ((ln_lb L).toNat))) hx hb hr hlk (⟨rfl, by first | (rw [if_pos (by assumption)]; done) | (rw [if_neg (by assumption), if_pos (by assumption)]; exact hM.1 _ (by omega)) | (rw [if_neg (by assumption), if_neg (by simp [*])]; exact hM.1 _ (by omega))⟩) hS_2 dX4_readFrom_39
    · -- not taken at 20
      refine lv_aload_n hx hb dX4_readFrom_23 rfl (lv_at hl 0 rfl) ?_
      refine lv_aload_n hx hb dX4_readFrom_24 rfl (lv_at hl 0 rfl) ?_
      refine kx_get (v := .int (kI (ln_lb L))) (C := RX4) (T := TX4) (N := 6) hx hb hts in_X4 hown hK hO_a rfl 5 (by decide) q348 (fun _ h9 => h9) rfl dX4_readFrom_25 ?_
      refine kx_eqi ((((ln_lb L).toNat : Nat) : Int)) (by omega) ?_
      have hle := hlb2 (by assumption)
      refine kx_ci0 (va_runV (As := [.int (kI (((ln_lb L).toNat : Nat) : Int))]) (rest := [.ref pa]) ⟨hx, hb, hml, hown, hts⟩ (m_X4_lastOf l D s.heap a pa sa ea L ((ln_lb L).toNat) hO_a (by first | assumption | omega) (by first | assumption | omega)) (cwV 1 hts (lw_V q1080 q1081 q1082 q99 q1083) rfl rfl rfl (by decide +kernel) ⟨Nat.le_of_ble_eq_true rfl, Nat.le_of_ble_eq_true rfl⟩) (kx_pv hK hS_2 hB (kx_rc hK hO_a (C := RX4) (T := TX4) (N := 6) rfl)) rfl rfl hl.1 rfl (lv_room (Nat.le_of_ble_eq_true rfl)) dX4_readFrom_28 ⟨by first | exact Nat.le_of_ble_eq_true rfl | omega | (show _ ≤ _; omega) | (dsimp only [headSpec]; omega), by first | exact Nat.le_of_ble_eq_true rfl | omega | (show _ ≤ _; omega) | (dsimp only [headSpec]; omega)⟩) hS_2 (fun z_8 locs_5 hz_7 hS_6 => ?_)
      subst z_8
      refine lv_goto (tgt := 38) hx hb dX4_readFrom_31 (by decide) ?_
      refine kx_iald (i := ((((ln_lb L).toNat) + ln_size L - 1 : Nat) : Int)) hx hb hK hA_pa (((ln_lb L).toNat) + ln_size L - 1) (rfl) (by omega) (by omega) dX4_readFrom_38 ?_
      exact kx_iret (z := (gp (((ln_lb L).toNat) + ln_size L - 1))) hx hb hr hlk (⟨rfl, by first | (rw [if_pos (by assumption)]; done) | (rw [if_neg (by assumption), if_pos (by assumption)]; exact hM.1 _ (by omega)) | (rw [if_neg (by assumption), if_neg (by simp [*])]; exact hM.1 _ (by omega))⟩) hS_6 dX4_readFrom_39
  · -- not taken at 5
    refine kx_iconst hx hb dX4_readFrom_8 ?_
    refine lv_goto (tgt := 39) hx hb dX4_readFrom_9 (by decide) ?_
    exact kx_iret (z := (-1)) hx hb hr hlk (⟨rfl, by first | (rw [if_pos (by assumption)]; done) | (rw [if_neg (by assumption), if_pos (by assumption)]; exact hM.1 _ (by omega)) | (rw [if_neg (by assumption), if_neg (by simp [*])]; exact hM.1 _ (by omega))⟩) hS dX4_readFrom_39

set_option maxHeartbeats 4000000 in
set_option maxRecDepth 100000 in
theorem m_X4_slanting (l : Launch) (D : kG) (H : Heap) (a : Nat) (pa : Nat) (sa : Nat) (ea : Nat) (gp : Nat → Int) (gs : Nat → Int) (L : Ln) (hO_a : kO D H a 3 [.int (kI (ln_lv L)), .ref pa, .ref sa, .int (kI ((ln_n L : Nat) : Int)), .ref ea, .int (kI (ln_lb L))]) (hA_pa : kAi D H pa 61 gp) (hA_sa : kAi D H sa 60 gs) (hM : MLn gp gs L) (hok : LnOK L) : Met l yX4_slanting (ws_ yX4_slanting cX4_slanting 3 (some .int)) ({ frames := 1, cells := 0, slots := 0, locals := 20 } : Room) (kPre D H [.ref a]) (kQi (fun (r : Int) H' => H' = H ∧ r = ln_sl L) kNO) (0) (0) (kNO) := by
  refine Met.ofW (cc := cX4_slanting) (maxL := 3) (ret := (some .int)) (by decide) rfl ?_
  intro p e s m args below meth c s₁ B hml hv
  obtain ⟨rfl, hH, hK⟩ := hv
  subst hH
  have hx := B.exec
  have hb := B.bytes
  have hr := B.returns
  have hts := atoms_spec (ws := ws_ yX4_slanting cX4_slanting 3 (some .int)) B.pre
  have hts : ∀ w ∈ lw_all, w.before _ s = true := fun w h => hts w (List.mem_cons_of_mem _ h)
  have hown : s.vm.findClass RX4 = some m.cls := findClass_of_methodNamed B.named
  have hlk := B.notSynchronized
  have hS : va_S kNO s.heap s.heap [] := va_S.rf
  have hB : ∀ q, kNO q → kBase D ≤ q := fun _ h => h.elim
  have hl := lv_entry ([.ref a]) (n := 3) (Nat.le_of_ble_eq_true rfl)
  rw [lg_entry_eq]
  generalize (lg_sl ([.ref a]) ++ List.replicate (3 - (lg_sl ([.ref a])).length) Slot.unset).toArray = ls at hl ⊢
  have hl : lv_has ls 3 [(0, .ref a)] := hl
  have hL60 := hok.n
  have hlb := hok.lbr
  have hlv := hok.lv
  have hsz := ln_size_23 L
  refine kx_iconst hx hb dX4_slanting_0 ?_
  refine lv_istore_n (lv' := [(1, .int (kI (0))), (0, .ref a)]) hx hb dX4_slanting_1 rfl hl (by decide) rfl (fun ls hl => ?_)
  refine kx_iconst hx hb dX4_slanting_2 ?_
  refine lv_istore_n (lv' := [(2, .int (kI (0))), (1, .int (kI (0))), (0, .ref a)]) hx hb dX4_slanting_3 rfl hl (by decide) rfl (fun ls hl => ?_)
  have lp_4_x_1 : ∀ (n_4 : Nat) (k : Nat) (sm : Int) (hk : k ≤ ln_n L) (hsm : sm = ln_slTo L k) (locs : List Loc) (hS : va_S kNO s.heap s.heap locs) (hm_4 : ln_n L - k < n_4) (ls : Array Slot), lv_has ls 3 [(0, .ref a), (1, .int (kI (sm))), (2, .int (kI ((k : Nat) : Int)))] → W p l e (headSpec (ws_ yX4_slanting cX4_slanting 3 (some .int)) ({ frames := 1, cells := 0, slots := 0, locals := 20 } : Room)).room s m ([.ref a] : List Value).toArray below meth c s.heap locs (0) (0) (MQ below (kQi (fun (r : Int) H' => H' = s.heap ∧ r = ln_sl L) kNO) ([.ref a] : List Value).toArray s (0) (0) (kNO)) (F0 m 4 ls []) := by
    intro n_4
    induction n_4 with
    | zero => intro k sm hk hsm locs hS hm_4; exact absurd hm_4 (Nat.not_lt_zero _)
    | succ n_4 ih_4 =>
      intro k sm hk hsm locs hS hm_4 ls hl
      refine lv_iload_n hx hb dX4_slanting_4 rfl (lv_at hl 2 rfl) ?_
      refine lv_aload_n hx hb dX4_slanting_5 rfl (lv_at hl 0 rfl) ?_
      refine kx_get (v := .int (kI ((ln_n L : Nat) : Int))) (C := RX4) (T := TX4) (N := 6) hx hb hts in_X4 hown hK hO_a rfl 3 (by decide) q344 (fun _ h9 => h9) rfl dX4_slanting_6 ?_
      refine kx_icmp_ge (x := ((k : Nat) : Int)) (y := ((ln_n L : Nat) : Int)) (tgt := 38) hx hb dX4_slanting_9 (by decide) (by omega) (by omega) (by omega) (by omega) (fun c_9_2 => ?_) (fun c_9_2 => ?_)
      · -- taken at 9
        refine lv_iload_n hx hb dX4_slanting_38 rfl (lv_at hl 1 rfl) ?_
        exact kx_iret (z := sm) hx hb hr hlk (⟨rfl, by rw [hsm, ln_sl, show k = ln_n L by omega]⟩) hS dX4_slanting_39
      · -- not taken at 9
        refine lv_iload_n hx hb dX4_slanting_12 rfl (lv_at hl 1 rfl) ?_
        refine lv_aload_n hx hb dX4_slanting_13 rfl (lv_at hl 0 rfl) ?_
        refine kx_get (v := .ref sa) (C := RX4) (T := TX4) (N := 6) hx hb hts in_X4 hown hK hO_a rfl 2 (by decide) q339 (fun _ h9 => h9) rfl dX4_slanting_14 ?_
        refine lv_iload_n hx hb dX4_slanting_17 rfl (lv_at hl 2 rfl) ?_
        refine kx_iald (i := ((k : Nat) : Int)) hx hb hK hA_sa k (rfl) (by omega) (by omega) dX4_slanting_18 ?_
        refine kx_eqi (ln_d L k) (hM.2 _ (by omega)) ?_
        have hd := hok.d (k := k) (by omega)
        refine kx_cb0 (va_runSN (As := [.int (kI (ln_d L k))]) (rest := [.int (kI (sm))]) ⟨hx, hb, hml, hown, hts⟩ (m_X1_isSlanting l D s.heap (ln_d L k)  (by first | assumption | omega)) ⟨va_cnB 1 hts (lw_meth q1722) rfl rfl rfl (hK.w q1989 rfl) (hts _ q79) (by decide +kernel) ⟨Nat.le_of_ble_eq_true rfl, Nat.le_of_ble_eq_true rfl⟩, hts _ q1721, trivial⟩ (kx_ps hK hS hB) rfl rfl hl.1 rfl (lv_room (Nat.le_of_ble_eq_true rfl)) dX4_slanting_19 ⟨by first | exact Nat.le_of_ble_eq_true rfl | omega | (show _ ≤ _; omega) | (dsimp only [headSpec]; omega), by first | exact Nat.le_of_ble_eq_true rfl | omega | (show _ ≤ _; omega) | (dsimp only [headSpec]; omega)⟩) hS (fun z_6 locs_3 hz_5 hS_4 => ?_)
        subst z_6
        refine kx_ifz (tgt := 29) hx hb dX4_slanting_22 (by decide) (fun c_22_7 => ?_) (fun c_22_7 => ?_)
        · -- taken at 22
          have c_22_7 := of_decide_eq_false c_22_7
          refine kx_iconst hx hb dX4_slanting_29 ?_
          refine kx_iadd hx hb dX4_slanting_30 ?_
          refine lv_istore_n (lv' := [(1, .int (kI ((sm + 0)))), (0, .ref a), (2, .int (kI ((k : Nat) : Int)))]) hx hb dX4_slanting_31 rfl hl (by decide) rfl (fun ls hl => ?_)
          refine lv_iinc (v := kI (((k + 1 : Nat) : Int))) (lv' := [(2, .int (kI ((k + 1 : Nat) : Int))), (1, .int (kI ((sm + 0)))), (0, .ref a)]) hx hb dX4_slanting_32 hl (k := 2) rfl (kI_incN _ _) (by decide) rfl (fun ls hl => ?_)
          refine lv_goto (tgt := 4) hx hb dX4_slanting_35 (by decide) ?_
          exact ih_4  (k + 1) ((sm + 0)) (by first | assumption | omega | (simp_all; done) | grind) (by rw [ln_slTo, ← hsm]; first | (simp_all; done) | (simp_all; omega)) _ hS_4 (by omega) ls (lv_sub hl [2, 1, 0] rfl)
        · -- not taken at 22
          have c_22_7 := of_decide_eq_true c_22_7
          refine kx_iconst hx hb dX4_slanting_25 ?_
          refine lv_goto (tgt := 30) hx hb dX4_slanting_26 (by decide) ?_
          refine kx_iadd hx hb dX4_slanting_30 ?_
          refine lv_istore_n (lv' := [(1, .int (kI ((sm + 1)))), (0, .ref a), (2, .int (kI ((k : Nat) : Int)))]) hx hb dX4_slanting_31 rfl hl (by decide) rfl (fun ls hl => ?_)
          refine lv_iinc (v := kI (((k + 1 : Nat) : Int))) (lv' := [(2, .int (kI ((k + 1 : Nat) : Int))), (1, .int (kI ((sm + 1)))), (0, .ref a)]) hx hb dX4_slanting_32 hl (k := 2) rfl (kI_incN _ _) (by decide) rfl (fun ls hl => ?_)
          refine lv_goto (tgt := 4) hx hb dX4_slanting_35 (by decide) ?_
          exact ih_4  (k + 1) ((sm + 1)) (by first | assumption | omega | (simp_all; done) | grind) (by rw [ln_slTo, ← hsm]; first | (simp_all; done) | (simp_all; omega)) _ hS_4 (by omega) ls (lv_sub hl [2, 1, 0] rfl)
  exact lp_4_x_1 (ln_n L - 0 + 1) 0 0 (by first | assumption | omega | (simp_all; done) | grind) (rfl) _ hS (Nat.lt_succ_self _) ls (lv_sub hl [2, 1, 0] rfl)

set_option maxHeartbeats 4000000 in
set_option maxRecDepth 100000 in
theorem m_X4_lengthBySteps (l : Launch) (D : kG) (H : Heap) (a : Nat) (pa : Nat) (sa : Nat) (ea : Nat) (gp : Nat → Int) (gs : Nat → Int) (L : Ln) (hO_a : kO D H a 3 [.int (kI (ln_lv L)), .ref pa, .ref sa, .int (kI ((ln_n L : Nat) : Int)), .ref ea, .int (kI (ln_lb L))]) (hA_pa : kAi D H pa 61 gp) (hA_sa : kAi D H sa 60 gs) (hM : MLn gp gs L) (hok : LnOK L) : Met l yX4_lengthBySteps (ws_ yX4_lengthBySteps cX4_lengthBySteps 4 (some .double)) ({ frames := 1, cells := 0, slots := 0, locals := 20 } : Room) (kPre D H [.ref a]) (kQd (fun (r : UInt64) H' => H' = H ∧ r = ln_lenS L) kNO) (0) (0) (kNO) := by
  refine Met.ofW (cc := cX4_lengthBySteps) (maxL := 4) (ret := (some .double)) (by decide) rfl ?_
  intro p e s m args below meth c s₁ B hml hv
  obtain ⟨rfl, hH, hK⟩ := hv
  subst hH
  have hx := B.exec
  have hb := B.bytes
  have hr := B.returns
  have hts := atoms_spec (ws := ws_ yX4_lengthBySteps cX4_lengthBySteps 4 (some .double)) B.pre
  have hts : ∀ w ∈ lw_all, w.before _ s = true := fun w h => hts w (List.mem_cons_of_mem _ h)
  have hown : s.vm.findClass RX4 = some m.cls := findClass_of_methodNamed B.named
  have hlk := B.notSynchronized
  have hS : va_S kNO s.heap s.heap [] := va_S.rf
  have hB : ∀ q, kNO q → kBase D ≤ q := fun _ h => h.elim
  have hl := lv_entry ([.ref a]) (n := 4) (Nat.le_of_ble_eq_true rfl)
  rw [lg_entry_eq]
  generalize (lg_sl ([.ref a]) ++ List.replicate (4 - (lg_sl ([.ref a])).length) Slot.unset).toArray = ls at hl ⊢
  have hl : lv_has ls 4 [(0, .ref a)] := hl
  have hL60 := hok.n
  have hlb := hok.lbr
  have hlv := hok.lv
  have hsz := ln_size_23 L
  refine lv_dconst0 hx hb dX4_lengthBySteps_0 ?_
  refine lv_dstore_n (lv' := [(1, .double (FP.dconst0)), (0, .ref a)]) hx hb dX4_lengthBySteps_1 rfl hl (by decide) rfl (fun ls hl => ?_)
  refine kx_iconst hx hb dX4_lengthBySteps_2 ?_
  refine lv_istore_n (lv' := [(3, .int (kI (0))), (1, .double (FP.dconst0)), (0, .ref a)]) hx hb dX4_lengthBySteps_3 rfl hl (by decide) rfl (fun ls hl => ?_)
  have lp_4_x_1 : ∀ (n_4 : Nat) (k : Nat) (sm : UInt64) (hk : k ≤ ln_n L) (hsm : sm = ln_lenTo L k) (locs : List Loc) (hS : va_S kNO s.heap s.heap locs) (hm_4 : ln_n L - k < n_4) (ls : Array Slot), lv_has ls 4 [(0, .ref a), (1, .double (sm)), (3, .int (kI ((k : Nat) : Int)))] → W p l e (headSpec (ws_ yX4_lengthBySteps cX4_lengthBySteps 4 (some .double)) ({ frames := 1, cells := 0, slots := 0, locals := 20 } : Room)).room s m ([.ref a] : List Value).toArray below meth c s.heap locs (0) (0) (MQ below (kQd (fun (r : UInt64) H' => H' = s.heap ∧ r = ln_lenS L) kNO) ([.ref a] : List Value).toArray s (0) (0) (kNO)) (F0 m 4 ls []) := by
    intro n_4
    induction n_4 with
    | zero => intro k sm hk hsm locs hS hm_4; exact absurd hm_4 (Nat.not_lt_zero _)
    | succ n_4 ih_4 =>
      intro k sm hk hsm locs hS hm_4 ls hl
      refine lv_iload_n hx hb dX4_lengthBySteps_4 rfl (lv_at hl 2 rfl) ?_
      refine lv_aload_n hx hb dX4_lengthBySteps_5 rfl (lv_at hl 0 rfl) ?_
      refine kx_get (v := .int (kI ((ln_n L : Nat) : Int))) (C := RX4) (T := TX4) (N := 6) hx hb hts in_X4 hown hK hO_a rfl 3 (by decide) q344 (fun _ h9 => h9) rfl dX4_lengthBySteps_6 ?_
      refine kx_icmp_ge (x := ((k : Nat) : Int)) (y := ((ln_n L : Nat) : Int)) (tgt := 40) hx hb dX4_lengthBySteps_9 (by decide) (by omega) (by omega) (by omega) (by omega) (fun c_9_2 => ?_) (fun c_9_2 => ?_)
      · -- taken at 9
        refine lv_dload_n hx hb dX4_lengthBySteps_40 rfl (lv_at hl 1 rfl) ?_
        exact kx_dret (z := sm) hx hb hr hlk (⟨rfl, by rw [hsm, ln_lenS, show k = ln_n L by omega]⟩) hS dX4_lengthBySteps_41
      · -- not taken at 9
        refine lv_dload_n hx hb dX4_lengthBySteps_12 rfl (lv_at hl 1 rfl) ?_
        refine lv_aload_n hx hb dX4_lengthBySteps_13 rfl (lv_at hl 0 rfl) ?_
        refine kx_get (v := .ref sa) (C := RX4) (T := TX4) (N := 6) hx hb hts in_X4 hown hK hO_a rfl 2 (by decide) q339 (fun _ h9 => h9) rfl dX4_lengthBySteps_14 ?_
        refine lv_iload_n hx hb dX4_lengthBySteps_17 rfl (lv_at hl 2 rfl) ?_
        refine kx_iald (i := ((k : Nat) : Int)) hx hb hK hA_sa k (rfl) (by omega) (by omega) dX4_lengthBySteps_18 ?_
        refine kx_eqi (ln_d L k) (hM.2 _ (by omega)) ?_
        have hd := hok.d (k := k) (by omega)
        refine kx_cb0 (va_runSN (As := [.int (kI (ln_d L k))]) (rest := [.double (sm)]) ⟨hx, hb, hml, hown, hts⟩ (m_X1_isSlanting l D s.heap (ln_d L k)  (by first | assumption | omega)) ⟨va_cnB 1 hts (lw_meth q1722) rfl rfl rfl (hK.w q1989 rfl) (hts _ q79) (by decide +kernel) ⟨Nat.le_of_ble_eq_true rfl, Nat.le_of_ble_eq_true rfl⟩, hts _ q1721, trivial⟩ (kx_ps hK hS hB) rfl rfl hl.1 rfl (lv_room (Nat.le_of_ble_eq_true rfl)) dX4_lengthBySteps_19 ⟨by first | exact Nat.le_of_ble_eq_true rfl | omega | (show _ ≤ _; omega) | (dsimp only [headSpec]; omega), by first | exact Nat.le_of_ble_eq_true rfl | omega | (show _ ≤ _; omega) | (dsimp only [headSpec]; omega)⟩) hS (fun z_6 locs_3 hz_5 hS_4 => ?_)
        subst z_6
        refine kx_ifz (tgt := 31) hx hb dX4_lengthBySteps_22 (by decide) (fun c_22_7 => ?_) (fun c_22_7 => ?_)
        · -- taken at 22
          have c_22_7 := of_decide_eq_false c_22_7
          refine lv_dconst1 hx hb dX4_lengthBySteps_31 ?_
          refine lv_dadd hx hb dX4_lengthBySteps_32 ((dpos_add (by rw [hsm]; exact ln_lenTo_pos _ _) (by first | exact dpos_r2 | exact dpos_1)).n) ?_
          refine lv_dstore_n (lv' := [(1, .double (FP.dadd sm FP.dconst1)), (0, .ref a), (3, .int (kI ((k : Nat) : Int)))]) hx hb dX4_lengthBySteps_33 rfl hl (by decide) rfl (fun ls hl => ?_)
          refine lv_iinc (v := kI (((k + 1 : Nat) : Int))) (lv' := [(3, .int (kI ((k + 1 : Nat) : Int))), (1, .double (FP.dadd sm FP.dconst1)), (0, .ref a)]) hx hb dX4_lengthBySteps_34 hl (k := 2) rfl (kI_incN _ _) (by decide) rfl (fun ls hl => ?_)
          refine lv_goto (tgt := 4) hx hb dX4_lengthBySteps_37 (by decide) ?_
          exact ih_4  (k + 1) (FP.dadd sm FP.dconst1) (by first | assumption | omega | (simp_all; done) | grind) (by rw [ln_lenTo, ← hsm]; first | (rw [if_pos (by simp_all)]; done) | (rw [if_neg (by simp_all)]; done)) _ hS_4 (by omega) ls (lv_sub hl [2, 1, 0] rfl)
        · -- not taken at 22
          have c_22_7 := of_decide_eq_true c_22_7
          refine lv_ldc2d hx hb hown (hts _ q2002) dX4_lengthBySteps_25 ?_
          refine lv_goto (tgt := 32) hx hb dX4_lengthBySteps_28 (by decide) ?_
          refine lv_dadd hx hb dX4_lengthBySteps_32 ((dpos_add (by rw [hsm]; exact ln_lenTo_pos _ _) (by first | exact dpos_r2 | exact dpos_1)).n) ?_
          refine lv_dstore_n (lv' := [(1, .double (FP.dadd sm 4609047870845172685)), (0, .ref a), (3, .int (kI ((k : Nat) : Int)))]) hx hb dX4_lengthBySteps_33 rfl hl (by decide) rfl (fun ls hl => ?_)
          refine lv_iinc (v := kI (((k + 1 : Nat) : Int))) (lv' := [(3, .int (kI ((k + 1 : Nat) : Int))), (1, .double (FP.dadd sm 4609047870845172685)), (0, .ref a)]) hx hb dX4_lengthBySteps_34 hl (k := 2) rfl (kI_incN _ _) (by decide) rfl (fun ls hl => ?_)
          refine lv_goto (tgt := 4) hx hb dX4_lengthBySteps_37 (by decide) ?_
          exact ih_4  (k + 1) (FP.dadd sm 4609047870845172685) (by first | assumption | omega | (simp_all; done) | grind) (by rw [ln_lenTo, ← hsm]; first | (rw [if_pos (by simp_all)]; done) | (rw [if_neg (by simp_all)]; done)) _ hS_4 (by omega) ls (lv_sub hl [2, 1, 0] rfl)
  exact lp_4_x_1 (ln_n L - 0 + 1) 0 FP.dconst0 (by first | assumption | omega | (simp_all; done) | grind) (rfl) _ hS (Nat.lt_succ_self _) ls (lv_sub hl [2, 1, 0] rfl)

set_option maxHeartbeats 4000000 in
set_option maxRecDepth 100000 in
theorem m_X4_far (l : Launch) (D : kG) (H : Heap) (a : Nat) (pa : Nat) (sa : Nat) (ea : Nat) (gp : Nat → Int) (gs : Nat → Int) (L : Ln) (pl : Nat) (b : Nat) (pb : Nat) (sb : Nat) (eb : Nat) (gpb : Nat → Int) (gsb : Nat → Int) (L2 : Ln) (hO_a : kO D H a 3 [.int (kI (ln_lv L)), .ref pa, .ref sa, .int (kI ((ln_n L : Nat) : Int)), .ref ea, .int (kI (ln_lb L))]) (hA_pa : kAi D H pa 61 gp) (hA_sa : kAi D H sa 60 gs) (hO_b : kO D H b 3 [.int (kI (ln_lv L2)), .ref pb, .ref sb, .int (kI ((ln_n L2 : Nat) : Int)), .ref eb, .int (kI (ln_lb L2))]) (hA_pb : kAi D H pb 61 gpb) (hA_sb : kAi D H sb 60 gsb) (hM : MLn gp gs L) (hok : LnOK L) (hpl : pl + ln_size L - 1 ≤ ln_n L) (hM2 : MLn gpb gsb L2) (hok2 : LnOK L2) (hlab : ln_lb L2 ≠ -1) : Met l yX4_far (ws_ yX4_far cX4_far 7 (some .int)) ({ frames := 2, cells := 0, slots := 0, locals := 43 } : Room) (kPre D H [.ref a, .int (kI ((pl : Nat) : Int)), .ref b]) (kQi (fun (r : Int) H' => H' = H ∧ r = between L pl L2 (ln_lb L2).toNat) kNO) (0) (0) (kNO) := by
  refine Met.ofW (cc := cX4_far) (maxL := 7) (ret := (some .int)) (by decide) rfl ?_
  intro p e s m args below meth c s₁ B hml hv
  obtain ⟨rfl, hH, hK⟩ := hv
  subst hH
  have hx := B.exec
  have hb := B.bytes
  have hr := B.returns
  have hts := atoms_spec (ws := ws_ yX4_far cX4_far 7 (some .int)) B.pre
  have hts : ∀ w ∈ lw_all, w.before _ s = true := fun w h => hts w (List.mem_cons_of_mem _ h)
  have hown : s.vm.findClass RX4 = some m.cls := findClass_of_methodNamed B.named
  have hlk := B.notSynchronized
  have hS : va_S kNO s.heap s.heap [] := va_S.rf
  have hB : ∀ q, kNO q → kBase D ≤ q := fun _ h => h.elim
  have hl := lv_entry ([.ref a, .int (kI ((pl : Nat) : Int)), .ref b]) (n := 7) (Nat.le_of_ble_eq_true rfl)
  rw [lg_entry_eq]
  generalize (lg_sl ([.ref a, .int (kI ((pl : Nat) : Int)), .ref b]) ++ List.replicate (7 - (lg_sl ([.ref a, .int (kI ((pl : Nat) : Int)), .ref b])).length) Slot.unset).toArray = ls at hl ⊢
  have hl : lv_has ls 7 [(0, .ref a), (1, .int (kI ((pl : Nat) : Int))), (2, .ref b)] := hl
  have hL60 := hok.n
  have hlb := hok.lbr
  have hlv := hok.lv
  have hsz := ln_size_23 L
  have hL602 := hok2.n
  have hlb2 := hok2.lb
  have hlv2 := hok2.lv
  have hsz2 := ln_size_23 L2
  have hle := hlb2.2 hlab
  refine kx_bipush hx hb (by decide) dX4_far_0 ?_
  refine lv_istore_n (lv' := [(3, .int (kI (99))), (0, .ref a), (1, .int (kI ((pl : Nat) : Int))), (2, .ref b)]) hx hb dX4_far_2 rfl hl (by decide) rfl (fun ls hl => ?_)
  refine lv_iload_n hx hb dX4_far_3 rfl (lv_at hl 2 rfl) ?_
  refine lv_istore (lv' := [(4, .int (kI ((pl : Nat) : Int))), (3, .int (kI (99))), (0, .ref a), (1, .int (kI ((pl : Nat) : Int))), (2, .ref b)]) hx hb dX4_far_4 hl (by decide) rfl (fun ls hl => ?_)
  have lp_6_x_1 : ∀ (n_6 : Nat) (i : Nat) (sm : Int) (hi : i ≤ ln_size L) (hsm : sm = btOut L pl L2 (ln_lb L2).toNat i) (hsr : 0 ≤ sm ∧ sm ≤ 99) (locs : List Loc) (hS : va_S kNO s.heap s.heap locs) (hm_6 : ln_size L - i < n_6) (ls : Array Slot), lv_has ls 7 [(0, .ref a), (1, .int (kI ((pl : Nat) : Int))), (2, .ref b), (3, .int (kI (sm))), (4, .int (kI ((pl + i : Nat) : Int)))] → W p l e (headSpec (ws_ yX4_far cX4_far 7 (some .int)) ({ frames := 2, cells := 0, slots := 0, locals := 43 } : Room)).room s m ([.ref a, .int (kI ((pl : Nat) : Int)), .ref b] : List Value).toArray below meth c s.heap locs (0) (0) (MQ below (kQi (fun (r : Int) H' => H' = s.heap ∧ r = between L pl L2 (ln_lb L2).toNat) kNO) ([.ref a, .int (kI ((pl : Nat) : Int)), .ref b] : List Value).toArray s (0) (0) (kNO)) (F0 m 6 ls []) := by
    intro n_6
    induction n_6 with
    | zero => intro i sm hi hsm hsr locs hS hm_6; exact absurd hm_6 (Nat.not_lt_zero _)
    | succ n_6 ih_6 =>
      intro i sm hi hsm hsr locs hS hm_6 ls hl
      refine lv_iload hx hb dX4_far_6 (lv_at hl 4 rfl) ?_
      refine lv_aload_n hx hb dX4_far_8 rfl (lv_at hl 0 rfl) ?_
      refine lv_iload_n hx hb dX4_far_9 rfl (lv_at hl 1 rfl) ?_
      refine kx_ci0 (va_runV (As := [.int (kI ((pl : Nat) : Int))]) (rest := [.int (kI ((pl + i : Nat) : Int))]) ⟨hx, hb, hml, hown, hts⟩ (m_X4_lastOf l D s.heap a pa sa ea L pl hO_a (by first | assumption | omega) (by first | assumption | omega)) (cwV 1 hts (lw_V q1080 q1081 q1082 q99 q1083) rfl rfl rfl (by decide +kernel) ⟨Nat.le_of_ble_eq_true rfl, Nat.le_of_ble_eq_true rfl⟩) (kx_pv hK hS hB (kx_rc hK hO_a (C := RX4) (T := TX4) (N := 6) rfl)) rfl rfl hl.1 rfl (lv_room (Nat.le_of_ble_eq_true rfl)) dX4_far_10 ⟨by first | exact Nat.le_of_ble_eq_true rfl | omega | (show _ ≤ _; omega) | (dsimp only [headSpec]; omega), by first | exact Nat.le_of_ble_eq_true rfl | omega | (show _ ≤ _; omega) | (dsimp only [headSpec]; omega)⟩) hS (fun z_5 locs_2 hz_4 hS_3 => ?_)
      subst z_5
      refine kx_icmp_gt (x := ((pl + i : Nat) : Int)) (y := ((pl + ln_size L - 1 : Nat) : Int)) (tgt := 79) hx hb dX4_far_13 (by decide) (by omega) (by omega) (by omega) (by omega) (fun c_13_6 => ?_) (fun c_13_6 => ?_)
      · -- taken at 13
        refine lv_iload_n hx hb dX4_far_79 rfl (lv_at hl 3 rfl) ?_
        exact kx_iret (z := sm) hx hb hr hlk (⟨rfl, by rw [hsm, between, show i = ln_size L by omega]⟩) hS_3 dX4_far_80
      · -- not taken at 13
        refine lv_aload_n hx hb dX4_far_16 rfl (lv_at hl 2 rfl) ?_
        refine kx_get (v := .int (kI (ln_lb L2))) (C := RX4) (T := TX4) (N := 6) hx hb hts in_X4 hown hK hO_b rfl 5 (by decide) q348 (fun _ h9 => h9) rfl dX4_far_17 ?_
        refine kx_eqi ((((ln_lb L2).toNat + 0 : Nat) : Int)) (by omega) ?_
        refine lv_istore (lv' := [(5, .int (kI (((ln_lb L2).toNat + 0 : Nat) : Int))), (0, .ref a), (1, .int (kI ((pl : Nat) : Int))), (2, .ref b), (3, .int (kI (sm))), (4, .int (kI ((pl + i : Nat) : Int)))]) hx hb dX4_far_20 hl (by decide) rfl (fun ls hl => ?_)
        have lp_22_x_7 : ∀ (n_22 : Nat) (j : Nat) (s2 : Int) (hj : j ≤ ln_size L2) (hs2 : s2 = btIn (ln_pos L (pl + i)) L2 (ln_lb L2).toNat sm j) (hsr2 : 0 ≤ s2 ∧ s2 ≤ 99) (locs : List Loc) (hS : va_S kNO s.heap s.heap locs) (hm_22 : ln_size L2 - j < n_22) (ls : Array Slot), lv_has ls 7 [(0, .ref a), (1, .int (kI ((pl : Nat) : Int))), (2, .ref b), (3, .int (kI (s2))), (4, .int (kI ((pl + i : Nat) : Int))), (5, .int (kI (((ln_lb L2).toNat + j : Nat) : Int)))] → W p l e (headSpec (ws_ yX4_far cX4_far 7 (some .int)) ({ frames := 2, cells := 0, slots := 0, locals := 43 } : Room)).room s m ([.ref a, .int (kI ((pl : Nat) : Int)), .ref b] : List Value).toArray below meth c s.heap locs (0) (0) (MQ below (kQi (fun (r : Int) H' => H' = s.heap ∧ r = between L pl L2 (ln_lb L2).toNat) kNO) ([.ref a, .int (kI ((pl : Nat) : Int)), .ref b] : List Value).toArray s (0) (0) (kNO)) (F0 m 22 ls []) := by
          intro n_22
          induction n_22 with
          | zero => intro j s2 hj hs2 hsr2 locs hS hm_22; exact absurd hm_22 (Nat.not_lt_zero _)
          | succ n_22 ih_22 =>
            intro j s2 hj hs2 hsr2 locs hS hm_22 ls hl
            refine lv_iload hx hb dX4_far_22 (lv_at hl 5 rfl) ?_
            refine lv_aload_n hx hb dX4_far_24 rfl (lv_at hl 2 rfl) ?_
            refine lv_aload_n hx hb dX4_far_25 rfl (lv_at hl 2 rfl) ?_
            refine kx_get (v := .int (kI (ln_lb L2))) (C := RX4) (T := TX4) (N := 6) hx hb hts in_X4 hown hK hO_b rfl 5 (by decide) q348 (fun _ h9 => h9) rfl dX4_far_26 ?_
            refine kx_eqi ((((ln_lb L2).toNat : Nat) : Int)) (by omega) ?_
            refine kx_ci0 (va_runV (As := [.int (kI (((ln_lb L2).toNat : Nat) : Int))]) (rest := [.int (kI (((ln_lb L2).toNat + j : Nat) : Int))]) ⟨hx, hb, hml, hown, hts⟩ (m_X4_lastOf l D s.heap b pb sb eb L2 ((ln_lb L2).toNat) hO_b (by first | assumption | omega) (by first | assumption | omega)) (cwV 1 hts (lw_V q1080 q1081 q1082 q99 q1083) rfl rfl rfl (by decide +kernel) ⟨Nat.le_of_ble_eq_true rfl, Nat.le_of_ble_eq_true rfl⟩) (kx_pv hK hS hB (kx_rc hK hO_b (C := RX4) (T := TX4) (N := 6) rfl)) rfl rfl hl.1 rfl (lv_room (Nat.le_of_ble_eq_true rfl)) dX4_far_29 ⟨by first | exact Nat.le_of_ble_eq_true rfl | omega | (show _ ≤ _; omega) | (dsimp only [headSpec]; omega), by first | exact Nat.le_of_ble_eq_true rfl | omega | (show _ ≤ _; omega) | (dsimp only [headSpec]; omega)⟩) hS (fun z_11 locs_8 hz_10 hS_9 => ?_)
            subst z_11
            refine kx_icmp_gt (x := (((ln_lb L2).toNat + j : Nat) : Int)) (y := ((((ln_lb L2).toNat) + ln_size L2 - 1 : Nat) : Int)) (tgt := 73) hx hb dX4_far_32 (by decide) (by omega) (by omega) (by omega) (by omega) (fun c_32_12 => ?_) (fun c_32_12 => ?_)
            · -- taken at 32
              refine lv_iinc (v := kI (((pl + i + 1 : Nat) : Int))) (lv' := [(4, .int (kI ((pl + i + 1 : Nat) : Int))), (0, .ref a), (1, .int (kI ((pl : Nat) : Int))), (2, .ref b), (3, .int (kI (s2))), (5, .int (kI (((ln_lb L2).toNat + j : Nat) : Int)))]) hx hb dX4_far_73 hl (k := 4) rfl (kI_incN _ _) (by decide) rfl (fun ls hl => ?_)
              refine lv_goto (tgt := 6) hx hb dX4_far_76 (by decide) ?_
              exact ih_6  ((i + 1)) s2 (by first | assumption | omega | (simp_all; done) | grind) (by rw [btOut, ← hsm, hs2, show j = ln_size L2 by omega]) (by first | assumption | omega | (simp_all; done) | grind) _ hS_9 (by omega) ls (lv_sub hl [1, 2, 3, 4, 0] rfl)
            · -- not taken at 32
              refine lv_aload_n hx hb dX4_far_35 rfl (lv_at hl 0 rfl) ?_
              refine kx_get (v := .ref pa) (C := RX4) (T := TX4) (N := 6) hx hb hts in_X4 hown hK hO_a rfl 1 (by decide) q336 (fun _ h9 => h9) rfl dX4_far_36 ?_
              refine lv_iload hx hb dX4_far_39 (lv_at hl 4 rfl) ?_
              refine kx_iald (i := ((pl + i : Nat) : Int)) hx hb hK hA_pa (pl + i) (rfl) (by omega) (by omega) dX4_far_41 ?_
              refine kx_eqi (ln_pos L (pl + i)) (hM.1 _ (by omega)) ?_
              refine lv_aload_n hx hb dX4_far_42 rfl (lv_at hl 2 rfl) ?_
              refine kx_get (v := .ref pb) (C := RX4) (T := TX4) (N := 6) hx hb hts in_X4 hown hK hO_b rfl 1 (by decide) q336 (fun _ h9 => h9) rfl dX4_far_43 ?_
              refine lv_iload hx hb dX4_far_46 (lv_at hl 5 rfl) ?_
              refine kx_iald (i := (((ln_lb L2).toNat + j : Nat) : Int)) hx hb hK hA_pb ((ln_lb L2).toNat + j) (rfl) (by omega) (by omega) dX4_far_48 ?_
              refine kx_eqi (ln_pos L2 ((ln_lb L2).toNat + j)) (hM2.1 _ (by omega)) ?_
              have hp1 := hok.pos (k := pl + i) (by omega)
              have hp2 := hok2.pos (k := (ln_lb L2).toNat + j) (by omega)
              have hfr := far_rng hp1 hp2
              refine kx_ci0 (va_runSN (As := [.int (kI (ln_pos L (pl + i))), .int (kI (ln_pos L2 ((ln_lb L2).toNat + j)))]) (rest := []) ⟨hx, hb, hml, hown, hts⟩ (m_X1_far l D s.heap (ln_pos L (pl + i)) (ln_pos L2 ((ln_lb L2).toNat + j))  (by first | assumption | omega) (by first | assumption | omega)) ⟨va_cnB 2 hts (lw_meth q1168) rfl rfl rfl (hK.w q1166 rfl) (hts _ q79) (by decide +kernel) ⟨Nat.le_of_ble_eq_true rfl, Nat.le_of_ble_eq_true rfl⟩, hts _ q1167, trivial⟩ (kx_ps hK hS_9 hB) rfl rfl hl.1 rfl (lv_room (Nat.le_of_ble_eq_true rfl)) dX4_far_49 ⟨by first | exact Nat.le_of_ble_eq_true rfl | omega | (show _ ≤ _; omega) | (dsimp only [headSpec]; omega), by first | exact Nat.le_of_ble_eq_true rfl | omega | (show _ ≤ _; omega) | (dsimp only [headSpec]; omega)⟩) hS_9 (fun z_16 locs_13 hz_15 hS_14 => ?_)
              subst z_16
              refine lv_istore (lv' := [(6, .int (kI (far (ln_pos L (pl + i)) (ln_pos L2 ((ln_lb L2).toNat + j))))), (0, .ref a), (1, .int (kI ((pl : Nat) : Int))), (2, .ref b), (3, .int (kI (s2))), (4, .int (kI ((pl + i : Nat) : Int))), (5, .int (kI (((ln_lb L2).toNat + j : Nat) : Int)))]) hx hb dX4_far_52 hl (by decide) rfl (fun ls hl => ?_)
              refine lv_iload hx hb dX4_far_54 (lv_at hl 0 rfl) ?_
              refine lv_iload_n hx hb dX4_far_56 rfl (lv_at hl 4 rfl) ?_
              refine kx_icmp_ge (x := far (ln_pos L (pl + i)) (ln_pos L2 ((ln_lb L2).toNat + j))) (y := s2) (tgt := 65) hx hb dX4_far_57 (by decide) (by omega) (by omega) (by omega) (by omega) (fun c_57_17 => ?_) (fun c_57_17 => ?_)
              · -- taken at 57
                refine lv_iload_n hx hb dX4_far_65 rfl (lv_at hl 4 rfl) ?_
                refine lv_istore_n (lv' := [(3, .int (kI (s2))), (6, .int (kI (far (ln_pos L (pl + i)) (ln_pos L2 ((ln_lb L2).toNat + j))))), (0, .ref a), (1, .int (kI ((pl : Nat) : Int))), (2, .ref b), (4, .int (kI ((pl + i : Nat) : Int))), (5, .int (kI (((ln_lb L2).toNat + j : Nat) : Int)))]) hx hb dX4_far_66 rfl hl (by decide) rfl (fun ls hl => ?_)
                refine lv_iinc (v := kI ((((ln_lb L2).toNat + j + 1 : Nat) : Int))) (lv' := [(5, .int (kI (((ln_lb L2).toNat + j + 1 : Nat) : Int))), (3, .int (kI (s2))), (6, .int (kI (far (ln_pos L (pl + i)) (ln_pos L2 ((ln_lb L2).toNat + j))))), (0, .ref a), (1, .int (kI ((pl : Nat) : Int))), (2, .ref b), (4, .int (kI ((pl + i : Nat) : Int)))]) hx hb dX4_far_67 hl (k := 6) rfl (kI_incN _ _) (by decide) rfl (fun ls hl => ?_)
                refine lv_goto (tgt := 22) hx hb dX4_far_70 (by decide) ?_
                exact ih_22  ((j + 1)) s2 (by first | assumption | omega | (simp_all; done) | grind) (by rw [btIn, ← hs2, lesser]; first | (rw [if_pos (by omega)]; done) | (rw [if_neg (by omega)]; done)) (by first | assumption | omega | (simp_all; done) | grind) _ hS_14 (by omega) ls (lv_sub hl [3, 4, 5, 1, 6, 0] rfl)
              · -- not taken at 57
                refine lv_iload hx hb dX4_far_60 (lv_at hl 0 rfl) ?_
                refine lv_goto (tgt := 66) hx hb dX4_far_62 (by decide) ?_
                refine lv_istore_n (lv' := [(3, .int (kI (far (ln_pos L (pl + i)) (ln_pos L2 ((ln_lb L2).toNat + j))))), (6, .int (kI (far (ln_pos L (pl + i)) (ln_pos L2 ((ln_lb L2).toNat + j))))), (0, .ref a), (1, .int (kI ((pl : Nat) : Int))), (2, .ref b), (4, .int (kI ((pl + i : Nat) : Int))), (5, .int (kI (((ln_lb L2).toNat + j : Nat) : Int)))]) hx hb dX4_far_66 rfl hl (by decide) rfl (fun ls hl => ?_)
                refine lv_iinc (v := kI ((((ln_lb L2).toNat + j + 1 : Nat) : Int))) (lv' := [(5, .int (kI (((ln_lb L2).toNat + j + 1 : Nat) : Int))), (3, .int (kI (far (ln_pos L (pl + i)) (ln_pos L2 ((ln_lb L2).toNat + j))))), (6, .int (kI (far (ln_pos L (pl + i)) (ln_pos L2 ((ln_lb L2).toNat + j))))), (0, .ref a), (1, .int (kI ((pl : Nat) : Int))), (2, .ref b), (4, .int (kI ((pl + i : Nat) : Int)))]) hx hb dX4_far_67 hl (k := 6) rfl (kI_incN _ _) (by decide) rfl (fun ls hl => ?_)
                refine lv_goto (tgt := 22) hx hb dX4_far_70 (by decide) ?_
                exact ih_22  ((j + 1)) (far (ln_pos L (pl + i)) (ln_pos L2 ((ln_lb L2).toNat + j))) (by first | assumption | omega | (simp_all; done) | grind) (by rw [btIn, ← hs2, lesser]; first | (rw [if_pos (by omega)]; done) | (rw [if_neg (by omega)]; done)) (by first | assumption | omega | (simp_all; done) | grind) _ hS_14 (by omega) ls (lv_sub hl [3, 4, 5, 1, 6, 0] rfl)
        exact lp_22_x_7 (ln_size L2 - 0 + 1) 0 sm (by first | assumption | omega | (simp_all; done) | grind) (rfl) (by first | assumption | omega | (simp_all; done) | grind) _ hS_3 (Nat.lt_succ_self _) ls (lv_sub hl [1, 2, 3, 4, 5, 0] rfl)
  exact lp_6_x_1 (ln_size L - 0 + 1) 0 99 (by first | assumption | omega | (simp_all; done) | grind) (rfl) (by first | assumption | omega | (simp_all; done) | grind) _ hS (Nat.lt_succ_self _) ls (lv_sub hl [2, 3, 4, 1, 0] rfl)

set_option maxHeartbeats 4000000 in
set_option maxRecDepth 100000 in
theorem m_X4_isRound (l : Launch) (D : kG) (H : Heap) (a : Nat) (pa : Nat) (sa : Nat) (ea : Nat) (gp : Nat → Int) (gs : Nat → Int) (L : Ln) (x : Int) (hO_a : kO D H a 3 [.int (kI (ln_lv L)), .ref pa, .ref sa, .int (kI ((ln_n L : Nat) : Int)), .ref ea, .int (kI (ln_lb L))]) (hA_pa : kAi D H pa 61 gp) (hA_sa : kAi D H sa 60 gs) (hM : MLn gp gs L) (hok : LnOK L) (hpt : 0 ≤ x ∧ x ≤ 383) : Met l yX4_isRound (ws_ yX4_isRound cX4_isRound 6 (some .boolean)) ({ frames := 1, cells := 0, slots := 0, locals := 20 } : Room) (kPre D H [.ref a, .int (kI (x))]) (kQb (fun (r : Bool) H' => H' = H ∧ r = ln_rayTo L x (ln_n L)) kNO) (0) (0) (kNO) := by
  refine Met.ofW (cc := cX4_isRound) (maxL := 6) (ret := (some .boolean)) (by decide) rfl ?_
  intro p e s m args below meth c s₁ B hml hv
  obtain ⟨rfl, hH, hK⟩ := hv
  subst hH
  have hx := B.exec
  have hb := B.bytes
  have hr := B.returns
  have hts := atoms_spec (ws := ws_ yX4_isRound cX4_isRound 6 (some .boolean)) B.pre
  have hts : ∀ w ∈ lw_all, w.before _ s = true := fun w h => hts w (List.mem_cons_of_mem _ h)
  have hown : s.vm.findClass RX4 = some m.cls := findClass_of_methodNamed B.named
  have hlk := B.notSynchronized
  have hS : va_S kNO s.heap s.heap [] := va_S.rf
  have hB : ∀ q, kNO q → kBase D ≤ q := fun _ h => h.elim
  have hl := lv_entry ([.ref a, .int (kI (x))]) (n := 6) (Nat.le_of_ble_eq_true rfl)
  rw [lg_entry_eq]
  generalize (lg_sl ([.ref a, .int (kI (x))]) ++ List.replicate (6 - (lg_sl ([.ref a, .int (kI (x))])).length) Slot.unset).toArray = ls at hl ⊢
  have hl : lv_has ls 6 [(0, .ref a), (1, .int (kI (x)))] := hl
  have hL60 := hok.n
  have hlb := hok.lbr
  have hlv := hok.lv
  have hsz := ln_size_23 L
  refine kx_iconst hx hb dX4_isRound_0 ?_
  refine lv_istore_n (lv' := [(2, .int (kI (0))), (0, .ref a), (1, .int (kI (x)))]) hx hb dX4_isRound_1 rfl hl (by decide) rfl (fun ls hl => ?_)
  refine kx_iconst hx hb dX4_isRound_2 ?_
  refine lv_istore_n (lv' := [(3, .int (kI (0))), (2, .int (kI (0))), (0, .ref a), (1, .int (kI (x)))]) hx hb dX4_isRound_3 rfl hl (by decide) rfl (fun ls hl => ?_)
  have lp_4_x_1 : ∀ (n_4 : Nat) (k : Nat) (b : Bool) (hk : k ≤ ln_n L) (hbb : b = ln_rayTo L x k) (locs : List Loc) (hS : va_S kNO s.heap s.heap locs) (hm_4 : ln_n L - k < n_4) (ls : Array Slot), lv_has ls 6 [(0, .ref a), (1, .int (kI (x))), (2, .int (kI (kb (b)))), (3, .int (kI ((k : Nat) : Int)))] → W p l e (headSpec (ws_ yX4_isRound cX4_isRound 6 (some .boolean)) ({ frames := 1, cells := 0, slots := 0, locals := 20 } : Room)).room s m ([.ref a, .int (kI (x))] : List Value).toArray below meth c s.heap locs (0) (0) (MQ below (kQb (fun (r : Bool) H' => H' = s.heap ∧ r = ln_rayTo L x (ln_n L)) kNO) ([.ref a, .int (kI (x))] : List Value).toArray s (0) (0) (kNO)) (F0 m 4 ls []) := by
    intro n_4
    induction n_4 with
    | zero => intro k b hk hbb locs hS hm_4; exact absurd hm_4 (Nat.not_lt_zero _)
    | succ n_4 ih_4 =>
      intro k b hk hbb locs hS hm_4 ls hl
      refine lv_iload_n hx hb dX4_isRound_4 rfl (lv_at hl 3 rfl) ?_
      refine lv_aload_n hx hb dX4_isRound_5 rfl (lv_at hl 0 rfl) ?_
      refine kx_get (v := .int (kI ((ln_n L : Nat) : Int))) (C := RX4) (T := TX4) (N := 6) hx hb hts in_X4 hown hK hO_a rfl 3 (by decide) q344 (fun _ h9 => h9) rfl dX4_isRound_6 ?_
      refine kx_icmp_ge (x := ((k : Nat) : Int)) (y := ((ln_n L : Nat) : Int)) (tgt := 127) hx hb dX4_isRound_9 (by decide) (by omega) (by omega) (by omega) (by omega) (fun c_9_2 => ?_) (fun c_9_2 => ?_)
      · -- taken at 9
        refine lv_iload_n hx hb dX4_isRound_127 rfl (lv_at hl 2 rfl) ?_
        exact kx_zret (z := b) hx hb hr hlk (⟨rfl, by rw [hbb, show k = ln_n L by omega]⟩) hS dX4_isRound_128
      · -- not taken at 9
        refine lv_aload_n hx hb dX4_isRound_12 rfl (lv_at hl 0 rfl) ?_
        refine kx_get (v := .ref pa) (C := RX4) (T := TX4) (N := 6) hx hb hts in_X4 hown hK hO_a rfl 1 (by decide) q336 (fun _ h9 => h9) rfl dX4_isRound_13 ?_
        refine lv_iload_n hx hb dX4_isRound_16 rfl (lv_at hl 3 rfl) ?_
        refine kx_iald (i := ((k : Nat) : Int)) hx hb hK hA_pa k (rfl) (by omega) (by omega) dX4_isRound_17 ?_
        refine kx_eqi (ln_pos L k) (hM.1 k (by omega)) ?_
        have hpk := hok.pos (k := k) (by omega)
        have hpk2 := hok.pos (k := k + 1) (by omega)
        refine kx_ci0 (va_runSN (As := [.int (kI (ln_pos L k))]) (rest := []) ⟨hx, hb, hml, hown, hts⟩ (m_X1_row l D s.heap (ln_pos L k)  (by first | assumption | omega)) ⟨va_cnB 1 hts (lw_meth q1144) rfl rfl rfl (hK.w q1142 rfl) (hts _ q79) (by decide +kernel) ⟨Nat.le_of_ble_eq_true rfl, Nat.le_of_ble_eq_true rfl⟩, hts _ q1143, trivial⟩ (kx_ps hK hS hB) rfl rfl hl.1 rfl (lv_room (Nat.le_of_ble_eq_true rfl)) dX4_isRound_18 ⟨by first | exact Nat.le_of_ble_eq_true rfl | omega | (show _ ≤ _; omega) | (dsimp only [headSpec]; omega), by first | exact Nat.le_of_ble_eq_true rfl | omega | (show _ ≤ _; omega) | (dsimp only [headSpec]; omega)⟩) hS (fun z_6 locs_3 hz_5 hS_4 => ?_)
        subst z_6
        refine lv_aload_n hx hb dX4_isRound_21 rfl (lv_at hl 0 rfl) ?_
        refine kx_get (v := .ref pa) (C := RX4) (T := TX4) (N := 6) hx hb hts in_X4 hown hK hO_a rfl 1 (by decide) q336 (fun _ h9 => h9) rfl dX4_isRound_22 ?_
        refine lv_iload_n hx hb dX4_isRound_25 rfl (lv_at hl 3 rfl) ?_
        refine kx_iconst hx hb dX4_isRound_26 ?_
        refine kx_iadd hx hb dX4_isRound_27 ?_
        refine kx_eqi (((k + 1 : Nat) : Int)) (by omega) ?_
        refine kx_iald (i := ((k + 1 : Nat) : Int)) hx hb hK hA_pa (k + 1) (rfl) (by omega) (by omega) dX4_isRound_28 ?_
        refine kx_eqi (ln_pos L (k + 1)) (hM.1 _ (by omega)) ?_
        refine kx_ci0 (va_runSN (As := [.int (kI (ln_pos L (k + 1)))]) (rest := [.int (kI ((ln_pos L k) / 24))]) ⟨hx, hb, hml, hown, hts⟩ (m_X1_row l D s.heap (ln_pos L (k + 1))  (by first | assumption | omega)) ⟨va_cnB 1 hts (lw_meth q1144) rfl rfl rfl (hK.w q1142 rfl) (hts _ q79) (by decide +kernel) ⟨Nat.le_of_ble_eq_true rfl, Nat.le_of_ble_eq_true rfl⟩, hts _ q1143, trivial⟩ (kx_ps hK hS_4 hB) rfl rfl hl.1 rfl (lv_room (Nat.le_of_ble_eq_true rfl)) dX4_isRound_29 ⟨by first | exact Nat.le_of_ble_eq_true rfl | omega | (show _ ≤ _; omega) | (dsimp only [headSpec]; omega), by first | exact Nat.le_of_ble_eq_true rfl | omega | (show _ ≤ _; omega) | (dsimp only [headSpec]; omega)⟩) hS_4 (fun z_10 locs_7 hz_9 hS_8 => ?_)
        subst z_10
        refine kx_icmp_ge (x := (ln_pos L k) / 24) (y := (ln_pos L (k + 1)) / 24) (tgt := 39) hx hb dX4_isRound_32 (by decide) (by omega) (by omega) (by omega) (by omega) (fun c_32_11 => ?_) (fun c_32_11 => ?_)
        · -- taken at 32
          refine lv_iload_n hx hb dX4_isRound_39 rfl (lv_at hl 3 rfl) ?_
          refine kx_iconst hx hb dX4_isRound_40 ?_
          refine kx_iadd hx hb dX4_isRound_41 ?_
          refine kx_eqi (((k + 1 : Nat) : Int)) (by omega) ?_
          refine lv_istore (lv' := [(4, .int (kI ((k + 1 : Nat) : Int))), (0, .ref a), (1, .int (kI (x))), (2, .int (kI (kb (b)))), (3, .int (kI ((k : Nat) : Int)))]) hx hb dX4_isRound_42 hl (by decide) rfl (fun ls hl => ?_)
          refine lv_aload_n hx hb dX4_isRound_44 rfl (lv_at hl 1 rfl) ?_
          refine kx_get (v := .ref pa) (C := RX4) (T := TX4) (N := 6) hx hb hts in_X4 hown hK hO_a rfl 1 (by decide) q336 (fun _ h9 => h9) rfl dX4_isRound_45 ?_
          refine lv_iload_n hx hb dX4_isRound_48 rfl (lv_at hl 4 rfl) ?_
          refine kx_iald (i := ((k : Nat) : Int)) hx hb hK hA_pa k (rfl) (by omega) (by omega) dX4_isRound_49 ?_
          refine kx_eqi (ln_pos L k) (hM.1 k (by omega)) ?_
          refine kx_ci0 (va_runSN (As := [.int (kI (ln_pos L k))]) (rest := []) ⟨hx, hb, hml, hown, hts⟩ (m_X1_row l D s.heap (ln_pos L k)  (by first | assumption | omega)) ⟨va_cnB 1 hts (lw_meth q1144) rfl rfl rfl (hK.w q1142 rfl) (hts _ q79) (by decide +kernel) ⟨Nat.le_of_ble_eq_true rfl, Nat.le_of_ble_eq_true rfl⟩, hts _ q1143, trivial⟩ (kx_ps hK hS_8 hB) rfl rfl hl.1 rfl (lv_room (Nat.le_of_ble_eq_true rfl)) dX4_isRound_50 ⟨by first | exact Nat.le_of_ble_eq_true rfl | omega | (show _ ≤ _; omega) | (dsimp only [headSpec]; omega), by first | exact Nat.le_of_ble_eq_true rfl | omega | (show _ ≤ _; omega) | (dsimp only [headSpec]; omega)⟩) hS_8 (fun z_15 locs_12 hz_14 hS_13 => ?_)
          subst z_15
          refine lv_aload_n hx hb dX4_isRound_53 rfl (lv_at hl 1 rfl) ?_
          refine kx_get (v := .ref pa) (C := RX4) (T := TX4) (N := 6) hx hb hts in_X4 hown hK hO_a rfl 1 (by decide) q336 (fun _ h9 => h9) rfl dX4_isRound_54 ?_
          refine lv_iload_n hx hb dX4_isRound_57 rfl (lv_at hl 4 rfl) ?_
          refine kx_iconst hx hb dX4_isRound_58 ?_
          refine kx_iadd hx hb dX4_isRound_59 ?_
          refine kx_eqi (((k + 1 : Nat) : Int)) (by omega) ?_
          refine kx_iald (i := ((k + 1 : Nat) : Int)) hx hb hK hA_pa (k + 1) (rfl) (by omega) (by omega) dX4_isRound_60 ?_
          refine kx_eqi (ln_pos L (k + 1)) (hM.1 _ (by omega)) ?_
          refine kx_ci0 (va_runSN (As := [.int (kI (ln_pos L (k + 1)))]) (rest := [.int (kI ((ln_pos L k) / 24))]) ⟨hx, hb, hml, hown, hts⟩ (m_X1_row l D s.heap (ln_pos L (k + 1))  (by first | assumption | omega)) ⟨va_cnB 1 hts (lw_meth q1144) rfl rfl rfl (hK.w q1142 rfl) (hts _ q79) (by decide +kernel) ⟨Nat.le_of_ble_eq_true rfl, Nat.le_of_ble_eq_true rfl⟩, hts _ q1143, trivial⟩ (kx_ps hK hS_13 hB) rfl rfl hl.1 rfl (lv_room (Nat.le_of_ble_eq_true rfl)) dX4_isRound_61 ⟨by first | exact Nat.le_of_ble_eq_true rfl | omega | (show _ ≤ _; omega) | (dsimp only [headSpec]; omega), by first | exact Nat.le_of_ble_eq_true rfl | omega | (show _ ≤ _; omega) | (dsimp only [headSpec]; omega)⟩) hS_13 (fun z_19 locs_16 hz_18 hS_17 => ?_)
          subst z_19
          refine kx_icmp_eq (x := (ln_pos L k) / 24) (y := (ln_pos L (k + 1)) / 24) (tgt := 88) hx hb dX4_isRound_64 (by decide) (by omega) (by omega) (by omega) (by omega) (fun c_64_20 => ?_) (fun c_64_20 => ?_)
          · -- taken at 64
            refine kx_iconst hx hb dX4_isRound_88 ?_
            refine lv_istore (lv' := [(5, .int (kI (0))), (4, .int (kI ((k + 1 : Nat) : Int))), (0, .ref a), (1, .int (kI (x))), (2, .int (kI (kb (b)))), (3, .int (kI ((k : Nat) : Int)))]) hx hb dX4_isRound_89 hl (by decide) rfl (fun ls hl => ?_)
            refine lv_iload_n hx hb dX4_isRound_91 rfl (lv_at hl 4 rfl) ?_
            refine lv_iload hx hb dX4_isRound_92 (lv_at hl 0 rfl) ?_
            refine kx_if_eq (x := 0) (tgt := 118) hx hb dX4_isRound_94 (by decide) (by omega) (by omega) (fun c_94_21 => ?_) (fun c_94_21 => ?_)
            · -- taken at 94
              refine kx_iconst hx hb dX4_isRound_118 ?_
              refine kx_ixorb (x := b) (y := false) hx hb dX4_isRound_119 ?_
              refine lv_istore_n (lv' := [(2, .int (kI (kb ((Bool.xor b false))))), (5, .int (kI (0))), (4, .int (kI ((k + 1 : Nat) : Int))), (0, .ref a), (1, .int (kI (x))), (3, .int (kI ((k : Nat) : Int)))]) hx hb dX4_isRound_120 rfl hl (by decide) rfl (fun ls hl => ?_)
              refine lv_iinc (v := kI (((k + 1 : Nat) : Int))) (lv' := [(3, .int (kI ((k + 1 : Nat) : Int))), (2, .int (kI (kb ((Bool.xor b false))))), (5, .int (kI (0))), (4, .int (kI ((k + 1 : Nat) : Int))), (0, .ref a), (1, .int (kI (x)))]) hx hb dX4_isRound_121 hl (k := 5) rfl (kI_incN _ _) (by decide) rfl (fun ls hl => ?_)
              refine lv_goto (tgt := 4) hx hb dX4_isRound_124 (by decide) ?_
              exact ih_4  (k + 1) ((Bool.xor b false)) (by first | assumption | omega | (simp_all; done) | grind) (by rw [ln_rayTo, ← hbb]; congr 1; unfold ln_ray ln_up; first | (simp [*]; done) | (simp [*]; omega) | grind) _ hS_17 (by omega) ls (lv_sub hl [4, 5, 1, 0] rfl)
            · -- not taken at 94
              exfalso; omega
          · -- not taken at 64
            refine lv_aload_n hx hb dX4_isRound_67 rfl (lv_at hl 1 rfl) ?_
            refine kx_get (v := .ref pa) (C := RX4) (T := TX4) (N := 6) hx hb hts in_X4 hown hK hO_a rfl 1 (by decide) q336 (fun _ h9 => h9) rfl dX4_isRound_68 ?_
            refine lv_iload hx hb dX4_isRound_71 (lv_at hl 0 rfl) ?_
            refine kx_iald (i := ((k + 1 : Nat) : Int)) hx hb hK hA_pa (k + 1) (rfl) (by omega) (by omega) dX4_isRound_73 ?_
            refine kx_eqi (ln_pos L (k + 1)) (hM.1 _ (by omega)) ?_
            refine kx_ci0 (va_runSN (As := [.int (kI (ln_pos L (k + 1)))]) (rest := []) ⟨hx, hb, hml, hown, hts⟩ (m_X1_row l D s.heap (ln_pos L (k + 1))  (by first | assumption | omega)) ⟨va_cnB 1 hts (lw_meth q1144) rfl rfl rfl (hK.w q1142 rfl) (hts _ q79) (by decide +kernel) ⟨Nat.le_of_ble_eq_true rfl, Nat.le_of_ble_eq_true rfl⟩, hts _ q1143, trivial⟩ (kx_ps hK hS_17 hB) rfl rfl hl.1 rfl (lv_room (Nat.le_of_ble_eq_true rfl)) dX4_isRound_74 ⟨by first | exact Nat.le_of_ble_eq_true rfl | omega | (show _ ≤ _; omega) | (dsimp only [headSpec]; omega), by first | exact Nat.le_of_ble_eq_true rfl | omega | (show _ ≤ _; omega) | (dsimp only [headSpec]; omega)⟩) hS_17 (fun z_25 locs_22 hz_24 hS_23 => ?_)
            subst z_25
            refine lv_iload_n hx hb dX4_isRound_77 rfl (lv_at hl 2 rfl) ?_
            refine kx_ci0 (va_runSN (As := [.int (kI (x))]) (rest := [.int (kI ((ln_pos L (k + 1)) / 24))]) ⟨hx, hb, hml, hown, hts⟩ (m_X1_row l D s.heap x  (by first | assumption | omega)) ⟨va_cnB 1 hts (lw_meth q1144) rfl rfl rfl (hK.w q1142 rfl) (hts _ q79) (by decide +kernel) ⟨Nat.le_of_ble_eq_true rfl, Nat.le_of_ble_eq_true rfl⟩, hts _ q1143, trivial⟩ (kx_ps hK hS_23 hB) rfl rfl hl.1 rfl (lv_room (Nat.le_of_ble_eq_true rfl)) dX4_isRound_78 ⟨by first | exact Nat.le_of_ble_eq_true rfl | omega | (show _ ≤ _; omega) | (dsimp only [headSpec]; omega), by first | exact Nat.le_of_ble_eq_true rfl | omega | (show _ ≤ _; omega) | (dsimp only [headSpec]; omega)⟩) hS_23 (fun z_29 locs_26 hz_28 hS_27 => ?_)
            subst z_29
            refine kx_icmp_ne (x := (ln_pos L (k + 1)) / 24) (y := x / 24) (tgt := 88) hx hb dX4_isRound_81 (by decide) (by omega) (by omega) (by omega) (by omega) (fun c_81_30 => ?_) (fun c_81_30 => ?_)
            · -- taken at 81
              refine kx_iconst hx hb dX4_isRound_88 ?_
              refine lv_istore (lv' := [(5, .int (kI (0))), (4, .int (kI ((k + 1 : Nat) : Int))), (0, .ref a), (1, .int (kI (x))), (2, .int (kI (kb (b)))), (3, .int (kI ((k : Nat) : Int)))]) hx hb dX4_isRound_89 hl (by decide) rfl (fun ls hl => ?_)
              refine lv_iload_n hx hb dX4_isRound_91 rfl (lv_at hl 4 rfl) ?_
              refine lv_iload hx hb dX4_isRound_92 (lv_at hl 0 rfl) ?_
              refine kx_if_eq (x := 0) (tgt := 118) hx hb dX4_isRound_94 (by decide) (by omega) (by omega) (fun c_94_31 => ?_) (fun c_94_31 => ?_)
              · -- taken at 94
                refine kx_iconst hx hb dX4_isRound_118 ?_
                refine kx_ixorb (x := b) (y := false) hx hb dX4_isRound_119 ?_
                refine lv_istore_n (lv' := [(2, .int (kI (kb ((Bool.xor b false))))), (5, .int (kI (0))), (4, .int (kI ((k + 1 : Nat) : Int))), (0, .ref a), (1, .int (kI (x))), (3, .int (kI ((k : Nat) : Int)))]) hx hb dX4_isRound_120 rfl hl (by decide) rfl (fun ls hl => ?_)
                refine lv_iinc (v := kI (((k + 1 : Nat) : Int))) (lv' := [(3, .int (kI ((k + 1 : Nat) : Int))), (2, .int (kI (kb ((Bool.xor b false))))), (5, .int (kI (0))), (4, .int (kI ((k + 1 : Nat) : Int))), (0, .ref a), (1, .int (kI (x)))]) hx hb dX4_isRound_121 hl (k := 5) rfl (kI_incN _ _) (by decide) rfl (fun ls hl => ?_)
                refine lv_goto (tgt := 4) hx hb dX4_isRound_124 (by decide) ?_
                exact ih_4  (k + 1) ((Bool.xor b false)) (by first | assumption | omega | (simp_all; done) | grind) (by rw [ln_rayTo, ← hbb]; congr 1; unfold ln_ray ln_up; first | (simp [*]; done) | (simp [*]; omega) | grind) _ hS_27 (by omega) ls (lv_sub hl [4, 5, 1, 0] rfl)
              · -- not taken at 94
                exfalso; omega
            · -- not taken at 81
              refine kx_iconst hx hb dX4_isRound_84 ?_
              refine lv_goto (tgt := 89) hx hb dX4_isRound_85 (by decide) ?_
              refine lv_istore (lv' := [(5, .int (kI (1))), (4, .int (kI ((k + 1 : Nat) : Int))), (0, .ref a), (1, .int (kI (x))), (2, .int (kI (kb (b)))), (3, .int (kI ((k : Nat) : Int)))]) hx hb dX4_isRound_89 hl (by decide) rfl (fun ls hl => ?_)
              refine lv_iload_n hx hb dX4_isRound_91 rfl (lv_at hl 4 rfl) ?_
              refine lv_iload hx hb dX4_isRound_92 (lv_at hl 0 rfl) ?_
              refine kx_if_eq (x := 1) (tgt := 118) hx hb dX4_isRound_94 (by decide) (by omega) (by omega) (fun c_94_32 => ?_) (fun c_94_32 => ?_)
              · -- taken at 94
                exfalso; omega
              · -- not taken at 94
                refine lv_aload_n hx hb dX4_isRound_97 rfl (lv_at hl 2 rfl) ?_
                refine kx_get (v := .ref pa) (C := RX4) (T := TX4) (N := 6) hx hb hts in_X4 hown hK hO_a rfl 1 (by decide) q336 (fun _ h9 => h9) rfl dX4_isRound_98 ?_
                refine lv_iload hx hb dX4_isRound_101 (lv_at hl 1 rfl) ?_
                refine kx_iald (i := ((k + 1 : Nat) : Int)) hx hb hK hA_pa (k + 1) (rfl) (by omega) (by omega) dX4_isRound_103 ?_
                refine kx_eqi (ln_pos L (k + 1)) (hM.1 _ (by omega)) ?_
                refine kx_ci0 (va_runSN (As := [.int (kI (ln_pos L (k + 1)))]) (rest := [.int (kI (kb (b)))]) ⟨hx, hb, hml, hown, hts⟩ (m_X1_column l D s.heap (ln_pos L (k + 1))  (by first | assumption | omega)) ⟨va_cnB 1 hts (lw_meth q1154) rfl rfl rfl (hK.w q1152 rfl) (hts _ q79) (by decide +kernel) ⟨Nat.le_of_ble_eq_true rfl, Nat.le_of_ble_eq_true rfl⟩, hts _ q1153, trivial⟩ (kx_ps hK hS_27 hB) rfl rfl hl.1 rfl (lv_room (Nat.le_of_ble_eq_true rfl)) dX4_isRound_104 ⟨by first | exact Nat.le_of_ble_eq_true rfl | omega | (show _ ≤ _; omega) | (dsimp only [headSpec]; omega), by first | exact Nat.le_of_ble_eq_true rfl | omega | (show _ ≤ _; omega) | (dsimp only [headSpec]; omega)⟩) hS_27 (fun z_36 locs_33 hz_35 hS_34 => ?_)
                subst z_36
                refine lv_iload_n hx hb dX4_isRound_107 rfl (lv_at hl 3 rfl) ?_
                refine kx_ci0 (va_runSN (As := [.int (kI (x))]) (rest := [.int (kI ((ln_pos L (k + 1)) % 24)), .int (kI (kb (b)))]) ⟨hx, hb, hml, hown, hts⟩ (m_X1_column l D s.heap x  (by first | assumption | omega)) ⟨va_cnB 1 hts (lw_meth q1154) rfl rfl rfl (hK.w q1152 rfl) (hts _ q79) (by decide +kernel) ⟨Nat.le_of_ble_eq_true rfl, Nat.le_of_ble_eq_true rfl⟩, hts _ q1153, trivial⟩ (kx_ps hK hS_34 hB) rfl rfl hl.1 rfl (lv_room (Nat.le_of_ble_eq_true rfl)) dX4_isRound_108 ⟨by first | exact Nat.le_of_ble_eq_true rfl | omega | (show _ ≤ _; omega) | (dsimp only [headSpec]; omega), by first | exact Nat.le_of_ble_eq_true rfl | omega | (show _ ≤ _; omega) | (dsimp only [headSpec]; omega)⟩) hS_34 (fun z_40 locs_37 hz_39 hS_38 => ?_)
                subst z_40
                refine kx_icmp_le (x := (ln_pos L (k + 1)) % 24) (y := x % 24) (tgt := 118) hx hb dX4_isRound_111 (by decide) (by omega) (by omega) (by omega) (by omega) (fun c_111_41 => ?_) (fun c_111_41 => ?_)
                · -- taken at 111
                  refine kx_iconst hx hb dX4_isRound_118 ?_
                  refine kx_ixorb (x := b) (y := false) hx hb dX4_isRound_119 ?_
                  refine lv_istore_n (lv' := [(2, .int (kI (kb ((Bool.xor b false))))), (5, .int (kI (1))), (4, .int (kI ((k + 1 : Nat) : Int))), (0, .ref a), (1, .int (kI (x))), (3, .int (kI ((k : Nat) : Int)))]) hx hb dX4_isRound_120 rfl hl (by decide) rfl (fun ls hl => ?_)
                  refine lv_iinc (v := kI (((k + 1 : Nat) : Int))) (lv' := [(3, .int (kI ((k + 1 : Nat) : Int))), (2, .int (kI (kb ((Bool.xor b false))))), (5, .int (kI (1))), (4, .int (kI ((k + 1 : Nat) : Int))), (0, .ref a), (1, .int (kI (x)))]) hx hb dX4_isRound_121 hl (k := 5) rfl (kI_incN _ _) (by decide) rfl (fun ls hl => ?_)
                  refine lv_goto (tgt := 4) hx hb dX4_isRound_124 (by decide) ?_
                  exact ih_4  (k + 1) ((Bool.xor b false)) (by first | assumption | omega | (simp_all; done) | grind) (by rw [ln_rayTo, ← hbb]; congr 1; unfold ln_ray ln_up; first | (simp [*]; done) | (simp [*]; omega) | grind) _ hS_38 (by omega) ls (lv_sub hl [4, 5, 1, 0] rfl)
                · -- not taken at 111
                  refine kx_iconst hx hb dX4_isRound_114 ?_
                  refine lv_goto (tgt := 119) hx hb dX4_isRound_115 (by decide) ?_
                  refine kx_ixorb (x := b) (y := true) hx hb dX4_isRound_119 ?_
                  refine lv_istore_n (lv' := [(2, .int (kI (kb ((Bool.xor b true))))), (5, .int (kI (1))), (4, .int (kI ((k + 1 : Nat) : Int))), (0, .ref a), (1, .int (kI (x))), (3, .int (kI ((k : Nat) : Int)))]) hx hb dX4_isRound_120 rfl hl (by decide) rfl (fun ls hl => ?_)
                  refine lv_iinc (v := kI (((k + 1 : Nat) : Int))) (lv' := [(3, .int (kI ((k + 1 : Nat) : Int))), (2, .int (kI (kb ((Bool.xor b true))))), (5, .int (kI (1))), (4, .int (kI ((k + 1 : Nat) : Int))), (0, .ref a), (1, .int (kI (x)))]) hx hb dX4_isRound_121 hl (k := 5) rfl (kI_incN _ _) (by decide) rfl (fun ls hl => ?_)
                  refine lv_goto (tgt := 4) hx hb dX4_isRound_124 (by decide) ?_
                  exact ih_4  (k + 1) ((Bool.xor b true)) (by first | assumption | omega | (simp_all; done) | grind) (by rw [ln_rayTo, ← hbb]; congr 1; unfold ln_ray ln_up; first | (simp [*]; done) | (simp [*]; omega) | grind) _ hS_38 (by omega) ls (lv_sub hl [4, 5, 1, 0] rfl)
        · -- not taken at 32
          refine lv_iload_n hx hb dX4_isRound_35 rfl (lv_at hl 3 rfl) ?_
          refine lv_goto (tgt := 42) hx hb dX4_isRound_36 (by decide) ?_
          refine lv_istore (lv' := [(4, .int (kI ((k : Nat) : Int))), (0, .ref a), (1, .int (kI (x))), (2, .int (kI (kb (b)))), (3, .int (kI ((k : Nat) : Int)))]) hx hb dX4_isRound_42 hl (by decide) rfl (fun ls hl => ?_)
          refine lv_aload_n hx hb dX4_isRound_44 rfl (lv_at hl 1 rfl) ?_
          refine kx_get (v := .ref pa) (C := RX4) (T := TX4) (N := 6) hx hb hts in_X4 hown hK hO_a rfl 1 (by decide) q336 (fun _ h9 => h9) rfl dX4_isRound_45 ?_
          refine lv_iload_n hx hb dX4_isRound_48 rfl (lv_at hl 4 rfl) ?_
          refine kx_iald (i := ((k : Nat) : Int)) hx hb hK hA_pa k (rfl) (by omega) (by omega) dX4_isRound_49 ?_
          refine kx_eqi (ln_pos L k) (hM.1 k (by omega)) ?_
          refine kx_ci0 (va_runSN (As := [.int (kI (ln_pos L k))]) (rest := []) ⟨hx, hb, hml, hown, hts⟩ (m_X1_row l D s.heap (ln_pos L k)  (by first | assumption | omega)) ⟨va_cnB 1 hts (lw_meth q1144) rfl rfl rfl (hK.w q1142 rfl) (hts _ q79) (by decide +kernel) ⟨Nat.le_of_ble_eq_true rfl, Nat.le_of_ble_eq_true rfl⟩, hts _ q1143, trivial⟩ (kx_ps hK hS_8 hB) rfl rfl hl.1 rfl (lv_room (Nat.le_of_ble_eq_true rfl)) dX4_isRound_50 ⟨by first | exact Nat.le_of_ble_eq_true rfl | omega | (show _ ≤ _; omega) | (dsimp only [headSpec]; omega), by first | exact Nat.le_of_ble_eq_true rfl | omega | (show _ ≤ _; omega) | (dsimp only [headSpec]; omega)⟩) hS_8 (fun z_45 locs_42 hz_44 hS_43 => ?_)
          subst z_45
          refine lv_aload_n hx hb dX4_isRound_53 rfl (lv_at hl 1 rfl) ?_
          refine kx_get (v := .ref pa) (C := RX4) (T := TX4) (N := 6) hx hb hts in_X4 hown hK hO_a rfl 1 (by decide) q336 (fun _ h9 => h9) rfl dX4_isRound_54 ?_
          refine lv_iload_n hx hb dX4_isRound_57 rfl (lv_at hl 4 rfl) ?_
          refine kx_iconst hx hb dX4_isRound_58 ?_
          refine kx_iadd hx hb dX4_isRound_59 ?_
          refine kx_eqi (((k + 1 : Nat) : Int)) (by omega) ?_
          refine kx_iald (i := ((k + 1 : Nat) : Int)) hx hb hK hA_pa (k + 1) (rfl) (by omega) (by omega) dX4_isRound_60 ?_
          refine kx_eqi (ln_pos L (k + 1)) (hM.1 _ (by omega)) ?_
          refine kx_ci0 (va_runSN (As := [.int (kI (ln_pos L (k + 1)))]) (rest := [.int (kI ((ln_pos L k) / 24))]) ⟨hx, hb, hml, hown, hts⟩ (m_X1_row l D s.heap (ln_pos L (k + 1))  (by first | assumption | omega)) ⟨va_cnB 1 hts (lw_meth q1144) rfl rfl rfl (hK.w q1142 rfl) (hts _ q79) (by decide +kernel) ⟨Nat.le_of_ble_eq_true rfl, Nat.le_of_ble_eq_true rfl⟩, hts _ q1143, trivial⟩ (kx_ps hK hS_43 hB) rfl rfl hl.1 rfl (lv_room (Nat.le_of_ble_eq_true rfl)) dX4_isRound_61 ⟨by first | exact Nat.le_of_ble_eq_true rfl | omega | (show _ ≤ _; omega) | (dsimp only [headSpec]; omega), by first | exact Nat.le_of_ble_eq_true rfl | omega | (show _ ≤ _; omega) | (dsimp only [headSpec]; omega)⟩) hS_43 (fun z_49 locs_46 hz_48 hS_47 => ?_)
          subst z_49
          refine kx_icmp_eq (x := (ln_pos L k) / 24) (y := (ln_pos L (k + 1)) / 24) (tgt := 88) hx hb dX4_isRound_64 (by decide) (by omega) (by omega) (by omega) (by omega) (fun c_64_50 => ?_) (fun c_64_50 => ?_)
          · -- taken at 64
            refine kx_iconst hx hb dX4_isRound_88 ?_
            refine lv_istore (lv' := [(5, .int (kI (0))), (4, .int (kI ((k : Nat) : Int))), (0, .ref a), (1, .int (kI (x))), (2, .int (kI (kb (b)))), (3, .int (kI ((k : Nat) : Int)))]) hx hb dX4_isRound_89 hl (by decide) rfl (fun ls hl => ?_)
            refine lv_iload_n hx hb dX4_isRound_91 rfl (lv_at hl 4 rfl) ?_
            refine lv_iload hx hb dX4_isRound_92 (lv_at hl 0 rfl) ?_
            refine kx_if_eq (x := 0) (tgt := 118) hx hb dX4_isRound_94 (by decide) (by omega) (by omega) (fun c_94_51 => ?_) (fun c_94_51 => ?_)
            · -- taken at 94
              refine kx_iconst hx hb dX4_isRound_118 ?_
              refine kx_ixorb (x := b) (y := false) hx hb dX4_isRound_119 ?_
              refine lv_istore_n (lv' := [(2, .int (kI (kb ((Bool.xor b false))))), (5, .int (kI (0))), (4, .int (kI ((k : Nat) : Int))), (0, .ref a), (1, .int (kI (x))), (3, .int (kI ((k : Nat) : Int)))]) hx hb dX4_isRound_120 rfl hl (by decide) rfl (fun ls hl => ?_)
              refine lv_iinc (v := kI (((k + 1 : Nat) : Int))) (lv' := [(3, .int (kI ((k + 1 : Nat) : Int))), (2, .int (kI (kb ((Bool.xor b false))))), (5, .int (kI (0))), (4, .int (kI ((k : Nat) : Int))), (0, .ref a), (1, .int (kI (x)))]) hx hb dX4_isRound_121 hl (k := 5) rfl (kI_incN _ _) (by decide) rfl (fun ls hl => ?_)
              refine lv_goto (tgt := 4) hx hb dX4_isRound_124 (by decide) ?_
              exact ih_4  (k + 1) ((Bool.xor b false)) (by first | assumption | omega | (simp_all; done) | grind) (by rw [ln_rayTo, ← hbb]; congr 1; unfold ln_ray ln_up; first | (simp [*]; done) | (simp [*]; omega) | grind) _ hS_47 (by omega) ls (lv_sub hl [4, 5, 1, 0] rfl)
            · -- not taken at 94
              exfalso; omega
          · -- not taken at 64
            refine lv_aload_n hx hb dX4_isRound_67 rfl (lv_at hl 1 rfl) ?_
            refine kx_get (v := .ref pa) (C := RX4) (T := TX4) (N := 6) hx hb hts in_X4 hown hK hO_a rfl 1 (by decide) q336 (fun _ h9 => h9) rfl dX4_isRound_68 ?_
            refine lv_iload hx hb dX4_isRound_71 (lv_at hl 0 rfl) ?_
            refine kx_iald (i := ((k : Nat) : Int)) hx hb hK hA_pa k (rfl) (by omega) (by omega) dX4_isRound_73 ?_
            refine kx_eqi (ln_pos L k) (hM.1 _ (by omega)) ?_
            refine kx_ci0 (va_runSN (As := [.int (kI (ln_pos L k))]) (rest := []) ⟨hx, hb, hml, hown, hts⟩ (m_X1_row l D s.heap (ln_pos L k)  (by first | assumption | omega)) ⟨va_cnB 1 hts (lw_meth q1144) rfl rfl rfl (hK.w q1142 rfl) (hts _ q79) (by decide +kernel) ⟨Nat.le_of_ble_eq_true rfl, Nat.le_of_ble_eq_true rfl⟩, hts _ q1143, trivial⟩ (kx_ps hK hS_47 hB) rfl rfl hl.1 rfl (lv_room (Nat.le_of_ble_eq_true rfl)) dX4_isRound_74 ⟨by first | exact Nat.le_of_ble_eq_true rfl | omega | (show _ ≤ _; omega) | (dsimp only [headSpec]; omega), by first | exact Nat.le_of_ble_eq_true rfl | omega | (show _ ≤ _; omega) | (dsimp only [headSpec]; omega)⟩) hS_47 (fun z_55 locs_52 hz_54 hS_53 => ?_)
            subst z_55
            refine lv_iload_n hx hb dX4_isRound_77 rfl (lv_at hl 2 rfl) ?_
            refine kx_ci0 (va_runSN (As := [.int (kI (x))]) (rest := [.int (kI ((ln_pos L k) / 24))]) ⟨hx, hb, hml, hown, hts⟩ (m_X1_row l D s.heap x  (by first | assumption | omega)) ⟨va_cnB 1 hts (lw_meth q1144) rfl rfl rfl (hK.w q1142 rfl) (hts _ q79) (by decide +kernel) ⟨Nat.le_of_ble_eq_true rfl, Nat.le_of_ble_eq_true rfl⟩, hts _ q1143, trivial⟩ (kx_ps hK hS_53 hB) rfl rfl hl.1 rfl (lv_room (Nat.le_of_ble_eq_true rfl)) dX4_isRound_78 ⟨by first | exact Nat.le_of_ble_eq_true rfl | omega | (show _ ≤ _; omega) | (dsimp only [headSpec]; omega), by first | exact Nat.le_of_ble_eq_true rfl | omega | (show _ ≤ _; omega) | (dsimp only [headSpec]; omega)⟩) hS_53 (fun z_59 locs_56 hz_58 hS_57 => ?_)
            subst z_59
            refine kx_icmp_ne (x := (ln_pos L k) / 24) (y := x / 24) (tgt := 88) hx hb dX4_isRound_81 (by decide) (by omega) (by omega) (by omega) (by omega) (fun c_81_60 => ?_) (fun c_81_60 => ?_)
            · -- taken at 81
              refine kx_iconst hx hb dX4_isRound_88 ?_
              refine lv_istore (lv' := [(5, .int (kI (0))), (4, .int (kI ((k : Nat) : Int))), (0, .ref a), (1, .int (kI (x))), (2, .int (kI (kb (b)))), (3, .int (kI ((k : Nat) : Int)))]) hx hb dX4_isRound_89 hl (by decide) rfl (fun ls hl => ?_)
              refine lv_iload_n hx hb dX4_isRound_91 rfl (lv_at hl 4 rfl) ?_
              refine lv_iload hx hb dX4_isRound_92 (lv_at hl 0 rfl) ?_
              refine kx_if_eq (x := 0) (tgt := 118) hx hb dX4_isRound_94 (by decide) (by omega) (by omega) (fun c_94_61 => ?_) (fun c_94_61 => ?_)
              · -- taken at 94
                refine kx_iconst hx hb dX4_isRound_118 ?_
                refine kx_ixorb (x := b) (y := false) hx hb dX4_isRound_119 ?_
                refine lv_istore_n (lv' := [(2, .int (kI (kb ((Bool.xor b false))))), (5, .int (kI (0))), (4, .int (kI ((k : Nat) : Int))), (0, .ref a), (1, .int (kI (x))), (3, .int (kI ((k : Nat) : Int)))]) hx hb dX4_isRound_120 rfl hl (by decide) rfl (fun ls hl => ?_)
                refine lv_iinc (v := kI (((k + 1 : Nat) : Int))) (lv' := [(3, .int (kI ((k + 1 : Nat) : Int))), (2, .int (kI (kb ((Bool.xor b false))))), (5, .int (kI (0))), (4, .int (kI ((k : Nat) : Int))), (0, .ref a), (1, .int (kI (x)))]) hx hb dX4_isRound_121 hl (k := 5) rfl (kI_incN _ _) (by decide) rfl (fun ls hl => ?_)
                refine lv_goto (tgt := 4) hx hb dX4_isRound_124 (by decide) ?_
                exact ih_4  (k + 1) ((Bool.xor b false)) (by first | assumption | omega | (simp_all; done) | grind) (by rw [ln_rayTo, ← hbb]; congr 1; unfold ln_ray ln_up; first | (simp [*]; done) | (simp [*]; omega) | grind) _ hS_57 (by omega) ls (lv_sub hl [4, 5, 1, 0] rfl)
              · -- not taken at 94
                exfalso; omega
            · -- not taken at 81
              refine kx_iconst hx hb dX4_isRound_84 ?_
              refine lv_goto (tgt := 89) hx hb dX4_isRound_85 (by decide) ?_
              refine lv_istore (lv' := [(5, .int (kI (1))), (4, .int (kI ((k : Nat) : Int))), (0, .ref a), (1, .int (kI (x))), (2, .int (kI (kb (b)))), (3, .int (kI ((k : Nat) : Int)))]) hx hb dX4_isRound_89 hl (by decide) rfl (fun ls hl => ?_)
              refine lv_iload_n hx hb dX4_isRound_91 rfl (lv_at hl 4 rfl) ?_
              refine lv_iload hx hb dX4_isRound_92 (lv_at hl 0 rfl) ?_
              refine kx_if_eq (x := 1) (tgt := 118) hx hb dX4_isRound_94 (by decide) (by omega) (by omega) (fun c_94_62 => ?_) (fun c_94_62 => ?_)
              · -- taken at 94
                exfalso; omega
              · -- not taken at 94
                refine lv_aload_n hx hb dX4_isRound_97 rfl (lv_at hl 2 rfl) ?_
                refine kx_get (v := .ref pa) (C := RX4) (T := TX4) (N := 6) hx hb hts in_X4 hown hK hO_a rfl 1 (by decide) q336 (fun _ h9 => h9) rfl dX4_isRound_98 ?_
                refine lv_iload hx hb dX4_isRound_101 (lv_at hl 1 rfl) ?_
                refine kx_iald (i := ((k : Nat) : Int)) hx hb hK hA_pa k (rfl) (by omega) (by omega) dX4_isRound_103 ?_
                refine kx_eqi (ln_pos L k) (hM.1 _ (by omega)) ?_
                refine kx_ci0 (va_runSN (As := [.int (kI (ln_pos L k))]) (rest := [.int (kI (kb (b)))]) ⟨hx, hb, hml, hown, hts⟩ (m_X1_column l D s.heap (ln_pos L k)  (by first | assumption | omega)) ⟨va_cnB 1 hts (lw_meth q1154) rfl rfl rfl (hK.w q1152 rfl) (hts _ q79) (by decide +kernel) ⟨Nat.le_of_ble_eq_true rfl, Nat.le_of_ble_eq_true rfl⟩, hts _ q1153, trivial⟩ (kx_ps hK hS_57 hB) rfl rfl hl.1 rfl (lv_room (Nat.le_of_ble_eq_true rfl)) dX4_isRound_104 ⟨by first | exact Nat.le_of_ble_eq_true rfl | omega | (show _ ≤ _; omega) | (dsimp only [headSpec]; omega), by first | exact Nat.le_of_ble_eq_true rfl | omega | (show _ ≤ _; omega) | (dsimp only [headSpec]; omega)⟩) hS_57 (fun z_66 locs_63 hz_65 hS_64 => ?_)
                subst z_66
                refine lv_iload_n hx hb dX4_isRound_107 rfl (lv_at hl 3 rfl) ?_
                refine kx_ci0 (va_runSN (As := [.int (kI (x))]) (rest := [.int (kI ((ln_pos L k) % 24)), .int (kI (kb (b)))]) ⟨hx, hb, hml, hown, hts⟩ (m_X1_column l D s.heap x  (by first | assumption | omega)) ⟨va_cnB 1 hts (lw_meth q1154) rfl rfl rfl (hK.w q1152 rfl) (hts _ q79) (by decide +kernel) ⟨Nat.le_of_ble_eq_true rfl, Nat.le_of_ble_eq_true rfl⟩, hts _ q1153, trivial⟩ (kx_ps hK hS_64 hB) rfl rfl hl.1 rfl (lv_room (Nat.le_of_ble_eq_true rfl)) dX4_isRound_108 ⟨by first | exact Nat.le_of_ble_eq_true rfl | omega | (show _ ≤ _; omega) | (dsimp only [headSpec]; omega), by first | exact Nat.le_of_ble_eq_true rfl | omega | (show _ ≤ _; omega) | (dsimp only [headSpec]; omega)⟩) hS_64 (fun z_70 locs_67 hz_69 hS_68 => ?_)
                subst z_70
                refine kx_icmp_le (x := (ln_pos L k) % 24) (y := x % 24) (tgt := 118) hx hb dX4_isRound_111 (by decide) (by omega) (by omega) (by omega) (by omega) (fun c_111_71 => ?_) (fun c_111_71 => ?_)
                · -- taken at 111
                  refine kx_iconst hx hb dX4_isRound_118 ?_
                  refine kx_ixorb (x := b) (y := false) hx hb dX4_isRound_119 ?_
                  refine lv_istore_n (lv' := [(2, .int (kI (kb ((Bool.xor b false))))), (5, .int (kI (1))), (4, .int (kI ((k : Nat) : Int))), (0, .ref a), (1, .int (kI (x))), (3, .int (kI ((k : Nat) : Int)))]) hx hb dX4_isRound_120 rfl hl (by decide) rfl (fun ls hl => ?_)
                  refine lv_iinc (v := kI (((k + 1 : Nat) : Int))) (lv' := [(3, .int (kI ((k + 1 : Nat) : Int))), (2, .int (kI (kb ((Bool.xor b false))))), (5, .int (kI (1))), (4, .int (kI ((k : Nat) : Int))), (0, .ref a), (1, .int (kI (x)))]) hx hb dX4_isRound_121 hl (k := 5) rfl (kI_incN _ _) (by decide) rfl (fun ls hl => ?_)
                  refine lv_goto (tgt := 4) hx hb dX4_isRound_124 (by decide) ?_
                  exact ih_4  (k + 1) ((Bool.xor b false)) (by first | assumption | omega | (simp_all; done) | grind) (by rw [ln_rayTo, ← hbb]; congr 1; unfold ln_ray ln_up; first | (simp [*]; done) | (simp [*]; omega) | grind) _ hS_68 (by omega) ls (lv_sub hl [4, 5, 1, 0] rfl)
                · -- not taken at 111
                  refine kx_iconst hx hb dX4_isRound_114 ?_
                  refine lv_goto (tgt := 119) hx hb dX4_isRound_115 (by decide) ?_
                  refine kx_ixorb (x := b) (y := true) hx hb dX4_isRound_119 ?_
                  refine lv_istore_n (lv' := [(2, .int (kI (kb ((Bool.xor b true))))), (5, .int (kI (1))), (4, .int (kI ((k : Nat) : Int))), (0, .ref a), (1, .int (kI (x))), (3, .int (kI ((k : Nat) : Int)))]) hx hb dX4_isRound_120 rfl hl (by decide) rfl (fun ls hl => ?_)
                  refine lv_iinc (v := kI (((k + 1 : Nat) : Int))) (lv' := [(3, .int (kI ((k + 1 : Nat) : Int))), (2, .int (kI (kb ((Bool.xor b true))))), (5, .int (kI (1))), (4, .int (kI ((k : Nat) : Int))), (0, .ref a), (1, .int (kI (x)))]) hx hb dX4_isRound_121 hl (k := 5) rfl (kI_incN _ _) (by decide) rfl (fun ls hl => ?_)
                  refine lv_goto (tgt := 4) hx hb dX4_isRound_124 (by decide) ?_
                  exact ih_4  (k + 1) ((Bool.xor b true)) (by first | assumption | omega | (simp_all; done) | grind) (by rw [ln_rayTo, ← hbb]; congr 1; unfold ln_ray ln_up; first | (simp [*]; done) | (simp [*]; omega) | grind) _ hS_68 (by omega) ls (lv_sub hl [4, 5, 1, 0] rfl)
  exact lp_4_x_1 (ln_n L - 0 + 1) 0 false (by first | assumption | omega | (simp_all; done) | grind) (rfl) _ hS (Nat.lt_succ_self _) ls (lv_sub hl [2, 3, 1, 0] rfl)

