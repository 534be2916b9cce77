/-! MATH 2: small facts for the walks -/
theorem firstIdx_rng (P : Nat → Bool) : ∀ (f i : Nat), -1 ≤ firstIdx P f i ∧ firstIdx P f i < (i + f : Nat) := by
  intro f
  induction f with
  | zero => intro i; simp only [firstIdx]; omega
  | succ f ih =>
    intro i
    simp only [firstIdx]
    split
    · omega
    · have := ih (i + 1); omega
theorem st_owner_rng (S : Ls) (q : Int) : -1 ≤ st_owner S q ∧ st_owner S q < S.length := by
  have := firstIdx_rng (fun k => ln_has (st_ln S k) q) S.length 0
  unfold st_owner
  omega
theorem ln_cl_pos {L : Ln} (h : ln_cl L = true) : 0 < ln_n L := by
  unfold ln_cl at h
  simp only [Bool.and_eq_true, decide_eq_true_eq] at h
  exact h.1
set_option maxHeartbeats 4000000 in
set_option maxRecDepth 100000 in
theorem m_X3_owner (l : Launch) (D : kG) (H : Heap) (a : Nat) (fs : List Value) (ra : Nat) (g : Nat → Int) (S : Ls) (gap : Int) (q : Int) (hO_a : kO D H a 2 fs) (hf_a_0 : fs[0]? = some (.ref ra)) (hA_ra : kAi D H ra 514 g) (hM : MRow g S gap) (hok : LsOK S gap) (hr_q : -2147483648 ≤ q ∧ q ≤ 2147483647) : Met l yX3_owner (ws_ yX3_owner cX3_owner 6 (some .int)) ({ frames := 2, cells := 0, slots := 0, locals := 42 } : Room) (kPre D H [.ref a, .int (kI (q))]) (kQi (fun (r : Int) H' => H' = H ∧ r = st_owner S q) kNO) (0) (0) (kNO) := by
  refine Met.ofW (cc := cX3_owner) (maxL := 6) (ret := (some .int)) (by decide) rfl ?_
  intro p e s m args below meth c s₁ B hml hv
  obtain ⟨rfl, hH, hK⟩ := hv
  subst hH
  have hx := B.exec
  have hb := B.bytes
  have hr := B.returns
  have hts := atoms_spec (ws := ws_ yX3_owner cX3_owner 6 (some .int)) B.pre
  have hts : ∀ w ∈ lw_all, w.before _ s = true := fun w h => hts w (List.mem_cons_of_mem _ h)
  have hown : s.vm.findClass RX3 = some m.cls := findClass_of_methodNamed B.named
  have hlk := B.notSynchronized
  have hS : va_S kNO s.heap s.heap [] := va_S.rf
  have hB : ∀ q, kNO q → kBase D ≤ q := fun _ h => h.elim
  have hl := lv_entry ([.ref a, .int (kI (q))]) (n := 6) (Nat.le_of_ble_eq_true rfl)
  rw [lg_entry_eq]
  generalize (lg_sl ([.ref a, .int (kI (q))]) ++ List.replicate (6 - (lg_sl ([.ref a, .int (kI (q))])).length) Slot.unset).toArray = ls at hl ⊢
  have hl : lv_has ls 6 [(0, .ref a), (1, .int (kI (q)))] := hl
  have hL8 := hok.1
  have hlen := hM.len
  refine kx_iconst hx hb dX3_owner_0 ?_
  refine lv_istore_n (lv' := [(2, .int (kI (0))), (0, .ref a), (1, .int (kI (q)))]) hx hb dX3_owner_1 rfl hl (by decide) rfl (fun ls hl => ?_)
  have lp_2_x_1 : ∀ (n_2 : Nat) (i : Nat) (hi : i ≤ S.length) (hO : st_owner S q = firstIdx (fun k => ln_has (st_ln S k) q) (S.length - i) i) (locs : List Loc) (hS : va_S kNO s.heap s.heap locs) (hm_2 : S.length - i < n_2) (ls : Array Slot), lv_has ls 6 [(0, .ref a), (1, .int (kI (q))), (2, .int (kI ((i : Nat) : Int)))] → W p l e (headSpec (ws_ yX3_owner cX3_owner 6 (some .int)) ({ frames := 2, cells := 0, slots := 0, locals := 42 } : Room)).room s m ([.ref a, .int (kI (q))] : List Value).toArray below meth c s.heap locs (0) (0) (MQ below (kQi (fun (r : Int) H' => H' = s.heap ∧ r = st_owner S q) kNO) ([.ref a, .int (kI (q))] : List Value).toArray s (0) (0) (kNO)) (F0 m 2 ls []) := by
    intro n_2
    induction n_2 with
    | zero => intro i hi hO locs hS hm_2; exact absurd hm_2 (Nat.not_lt_zero _)
    | succ n_2 ih_2 =>
      intro i hi hO locs hS hm_2 ls hl
      refine lv_iload_n hx hb dX3_owner_2 rfl (lv_at hl 2 rfl) ?_
      refine lv_aload_n hx hb dX3_owner_3 rfl (lv_at hl 0 rfl) ?_
      refine kx_get (v := .ref ra) (C := RX3) (T := TX3) (N := 13) hx hb hts in_X3 hown hK hO_a rfl 0 (by decide) q2238 (fun _ h9 => h9) hf_a_0 dX3_owner_4 ?_
      refine kx_iconst hx hb dX3_owner_7 ?_
      refine kx_iald (i := 0) hx hb hK hA_ra 0 (rfl) (by omega) (by omega) dX3_owner_8 ?_
      refine kx_icmp_ge (x := ((i : Nat) : Int)) (y := (g 0)) (tgt := 112) hx hb dX3_owner_9 (by decide) (by omega) (by omega) (by omega) (by omega) (fun c_9_2 => ?_) (fun c_9_2 => ?_)
      · -- taken at 9
        refine kx_iconst hx hb dX3_owner_112 ?_
        exact kx_iret (z := (-1)) hx hb hr hlk (⟨rfl, by rw [hO, show S.length - i = 0 by omega]; rfl⟩) hS dX3_owner_113
      · -- not taken at 9
        have hi2 : i < S.length := by omega
        have hL := hok.ln hi2
        have hL60 := hL.n
        have hbg := hL.bg
        refine lv_aload_n hx hb dX3_owner_12 rfl (lv_at hl 0 rfl) ?_
        refine lv_iload_n hx hb dX3_owner_13 rfl (lv_at hl 2 rfl) ?_
        refine kx_iconst hx hb dX3_owner_14 ?_
        refine kx_ci0 (va_runV (As := [.int (kI ((i : Nat) : Int)), .int (kI (1))]) (rest := []) ⟨hx, hb, hml, hown, hts⟩ (of_bg l D s.heap a fs ra g S gap i hO_a hf_a_0 hA_ra (by first | assumption | omega) (by first | assumption | omega) (by first | assumption | omega)) (cwV 2 hts (lw_V q2304 q2306 qs40 q89 q2307) rfl rfl rfl (by decide +kernel) ⟨Nat.le_of_ble_eq_true rfl, Nat.le_of_ble_eq_true rfl⟩) (kx_pv hK hS hB (kx_rc hK hO_a (C := RX3) (T := TX3) (N := 13) rfl)) rfl rfl hl.1 rfl (lv_room (Nat.le_of_ble_eq_true rfl)) dX3_owner_15 ⟨by first | exact Nat.le_of_ble_eq_true rfl | omega | (show _ ≤ _; omega) | (dsimp only [headSpec]; omega), by first | exact Nat.le_of_ble_eq_true rfl | omega | (show _ ≤ _; omega) | (dsimp only [headSpec]; omega)⟩) hS (fun z_6 locs_3 hz_5 hS_4 => ?_)
        subst z_6
        refine kx_eqi (ln_pos (st_ln S i) 0) (rfl) ?_
        have hp0 := hL.pos (k := 0) (Nat.zero_le _)
        refine lv_istore_n (lv' := [(3, .int (kI (ln_pos (st_ln S i) 0))), (0, .ref a), (1, .int (kI (q))), (2, .int (kI ((i : Nat) : Int)))]) hx hb dX3_owner_18 rfl hl (by decide) rfl (fun ls hl => ?_)
        refine lv_iload_n hx hb dX3_owner_19 rfl (lv_at hl 0 rfl) ?_
        refine lv_iload_n hx hb dX3_owner_20 rfl (lv_at hl 2 rfl) ?_
        refine kx_icmp_ne (x := ln_pos (st_ln S i) 0) (y := q) (tgt := 28) hx hb dX3_owner_21 (by decide) (by omega) (by omega) (by omega) (by omega) (fun c_21_7 => ?_) (fun c_21_7 => ?_)
        · -- taken at 21
          refine kx_iconst hx hb dX3_owner_28 ?_
          refine lv_istore (lv' := [(4, .int (kI (0))), (3, .int (kI (ln_pos (st_ln S i) 0))), (0, .ref a), (1, .int (kI (q))), (2, .int (kI ((i : Nat) : Int)))]) hx hb dX3_owner_29 hl (by decide) rfl (fun ls hl => ?_)
          refine kx_iconst hx hb dX3_owner_31 ?_
          refine lv_istore (lv' := [(5, .int (kI (0))), (4, .int (kI (0))), (3, .int (kI (ln_pos (st_ln S i) 0))), (0, .ref a), (1, .int (kI (q))), (2, .int (kI ((i : Nat) : Int)))]) hx hb dX3_owner_32 hl (by decide) rfl (fun ls hl => ?_)
          have lp_34_x_8 : ∀ (n_34 : Nat) (k : Nat) (bb : Bool) (hk : k ≤ ln_n (st_ln S i)) (hbb : bb = ln_hasTo (st_ln S i) q (k + 1)) (locs : List Loc) (hS : va_S kNO s.heap s.heap locs) (hm_34 : ln_n (st_ln S i) - k < n_34) (ls : Array Slot), lv_has ls 6 [(0, .ref a), (1, .int (kI (q))), (2, .int (kI ((i : Nat) : Int))), (3, .int (kI (ln_pos (st_ln S i) k))), (4, .int (kI (kb (bb)))), (5, .int (kI ((k : Nat) : Int)))] → W p l e (headSpec (ws_ yX3_owner cX3_owner 6 (some .int)) ({ frames := 2, cells := 0, slots := 0, locals := 42 } : Room)).room s m ([.ref a, .int (kI (q))] : List Value).toArray below meth c s.heap locs (0) (0) (MQ below (kQi (fun (r : Int) H' => H' = s.heap ∧ r = st_owner S q) kNO) ([.ref a, .int (kI (q))] : List Value).toArray s (0) (0) (kNO)) (F0 m 34 ls []) := by
            intro n_34
            induction n_34 with
            | zero => intro k bb hk hbb locs hS hm_34; exact absurd hm_34 (Nat.not_lt_zero _)
            | succ n_34 ih_34 =>
              intro k bb hk hbb locs hS hm_34 ls hl
              refine lv_iload hx hb dX3_owner_34 (lv_at hl 5 rfl) ?_
              refine lv_aload_n hx hb dX3_owner_36 rfl (lv_at hl 0 rfl) ?_
              refine lv_iload_n hx hb dX3_owner_37 rfl (lv_at hl 2 rfl) ?_
              refine kx_iconst hx hb dX3_owner_38 ?_
              refine kx_ci0 (va_runV (As := [.int (kI ((i : Nat) : Int)), .int (kI (2))]) (rest := [.int (kI ((k : Nat) : Int))]) ⟨hx, hb, hml, hown, hts⟩ (of_n l D s.heap a fs ra g S gap i hO_a hf_a_0 hA_ra (by first | assumption | omega) (by first | assumption | omega) (by first | assumption | omega)) (cwV 2 hts (lw_V q2304 q2306 qs40 q89 q2307) rfl rfl rfl (by decide +kernel) ⟨Nat.le_of_ble_eq_true rfl, Nat.le_of_ble_eq_true rfl⟩) (kx_pv hK hS hB (kx_rc hK hO_a (C := RX3) (T := TX3) (N := 13) rfl)) rfl rfl hl.1 rfl (lv_room (Nat.le_of_ble_eq_true rfl)) dX3_owner_39 ⟨by first | exact Nat.le_of_ble_eq_true rfl | omega | (show _ ≤ _; omega) | (dsimp only [headSpec]; omega), by first | exact Nat.le_of_ble_eq_true rfl | omega | (show _ ≤ _; omega) | (dsimp only [headSpec]; omega)⟩) hS (fun z_12 locs_9 hz_11 hS_10 => ?_)
              subst z_12
              refine kx_icmp_ge (x := ((k : Nat) : Int)) (y := ((ln_n (st_ln S i) : Nat) : Int)) (tgt := 99) hx hb dX3_owner_42 (by decide) (by omega) (by omega) (by omega) (by omega) (fun c_42_13 => ?_) (fun c_42_13 => ?_)
              · -- taken at 42
                refine lv_iload hx hb dX3_owner_99 (lv_at hl 4 rfl) ?_
                refine kx_ifz (tgt := 106) hx hb dX3_owner_101 (by decide) (fun c_101_14 => ?_) (fun c_101_14 => ?_)
                · -- taken at 101
                  refine lv_iinc (v := kI (((i + 1 : Nat) : Int))) (lv' := [(2, .int (kI ((i + 1 : Nat) : Int))), (0, .ref a), (1, .int (kI (q))), (3, .int (kI (ln_pos (st_ln S i) k))), (4, .int (kI (kb (bb)))), (5, .int (kI ((k : Nat) : Int)))]) hx hb dX3_owner_106 hl (k := 2) rfl (kI_incN _ _) (by decide) rfl (fun ls hl => ?_)
                  refine lv_goto (tgt := 2) hx hb dX3_owner_109 (by decide) ?_
                  exact ih_2  (i + 1) (by first | assumption | omega | (simp_all; done) | grind) (by rw [hO, show S.length - i = (S.length - (i + 1)) + 1 by omega, firstIdx_miss (by unfold ln_has; rw [← show k = ln_n (st_ln S i) by omega, ← hbb]; assumption)]) _ hS_10 (by omega) ls (lv_sub hl [1, 2, 0] rfl)
                · -- not taken at 101
                  refine lv_iload_n hx hb dX3_owner_104 rfl (lv_at hl 2 rfl) ?_
                  exact kx_iret (z := ((i : Nat) : Int)) hx hb hr hlk (⟨rfl, by rw [hO, show S.length - i = (S.length - (i + 1)) + 1 by omega, firstIdx_hit (by unfold ln_has; rw [← show k = ln_n (st_ln S i) by omega, ← hbb]; assumption)]⟩) hS_10 dX3_owner_105
              · -- not taken at 42
                have hd := hL.d (k := k) (by omega)
                have hpp := hL.pos (k := k) (by omega)
                have hpp2 := hL.pos (k := k + 1) (by omega)
                refine lv_iload_n hx hb dX3_owner_45 rfl (lv_at hl 3 rfl) ?_
                refine kx_bipush hx hb (by decide) dX3_owner_46 ?_
                refine lv_aload_n hx hb dX3_owner_48 rfl (lv_at hl 0 rfl) ?_
                refine lv_iload_n hx hb dX3_owner_49 rfl (lv_at hl 2 rfl) ?_
                refine kx_iconst hx hb dX3_owner_50 ?_
                refine lv_iload hx hb dX3_owner_51 (lv_at hl 5 rfl) ?_
                refine kx_iadd hx hb dX3_owner_53 ?_
                refine kx_ci0 (va_runV (As := [.int (kI ((i : Nat) : Int)), .int (kI ((4 + ((k : Nat) : Int))))]) (rest := [.int (kI (24)), .int (kI (ln_pos (st_ln S i) k))]) ⟨hx, hb, hml, hown, hts⟩ (of_d l D s.heap a fs ra g S gap i ((4 + ((k : Nat) : Int))) k hO_a hf_a_0 hA_ra (by first | assumption | omega) (by first | assumption | omega) (by first | assumption | omega) (by first | assumption | omega) (by first | assumption | omega)) (cwV 2 hts (lw_V q2304 q2306 qs40 q89 q2307) rfl rfl rfl (by decide +kernel) ⟨Nat.le_of_ble_eq_true rfl, Nat.le_of_ble_eq_true rfl⟩) (kx_pv hK hS_10 hB (kx_rc hK hO_a (C := RX3) (T := TX3) (N := 13) rfl)) rfl rfl hl.1 rfl (lv_room (Nat.le_of_ble_eq_true rfl)) dX3_owner_54 ⟨by first | exact Nat.le_of_ble_eq_true rfl | omega | (show _ ≤ _; omega) | (dsimp only [headSpec]; omega), by first | exact Nat.le_of_ble_eq_true rfl | omega | (show _ ≤ _; omega) | (dsimp only [headSpec]; omega)⟩) hS_10 (fun z_18 locs_15 hz_17 hS_16 => ?_)
                subst z_18
                refine kx_ci0 (va_runS (As := [.int (kI (ln_d (st_ln S i) k))]) (rest := [.int (kI (24)), .int (kI (ln_pos (st_ln S i) k))]) ⟨hx, hb, hml, hown, hts⟩ (m_X3_down l D s.heap (ln_d (st_ln S i) k)  (by first | assumption | omega)) (va_cwS 1 hts (lw_S q2308 q2309 q89 q2310) rfl rfl rfl (by decide +kernel) ⟨Nat.le_of_ble_eq_true rfl, Nat.le_of_ble_eq_true rfl⟩) (kx_ps hK hS_16 hB) rfl rfl hl.1 rfl (lv_room (Nat.le_of_ble_eq_true rfl)) dX3_owner_57 ⟨by first | exact Nat.le_of_ble_eq_true rfl | omega | (show _ ≤ _; omega) | (dsimp only [headSpec]; omega), by first | exact Nat.le_of_ble_eq_true rfl | omega | (show _ ≤ _; omega) | (dsimp only [headSpec]; omega)⟩) hS_16 (fun z_22 locs_19 hz_21 hS_20 => ?_)
                subst z_22
                refine kx_imul hx hb dX3_owner_60 ?_
                refine lv_aload_n hx hb dX3_owner_61 rfl (lv_at hl 0 rfl) ?_
                refine lv_iload_n hx hb dX3_owner_62 rfl (lv_at hl 2 rfl) ?_
                refine kx_iconst hx hb dX3_owner_63 ?_
                refine lv_iload hx hb dX3_owner_64 (lv_at hl 5 rfl) ?_
                refine kx_iadd hx hb dX3_owner_66 ?_
                refine kx_ci0 (va_runV (As := [.int (kI ((i : Nat) : Int)), .int (kI ((4 + ((k : Nat) : Int))))]) (rest := [.int (kI ((24 * dn (ln_d (st_ln S i) k)))), .int (kI (ln_pos (st_ln S i) k))]) ⟨hx, hb, hml, hown, hts⟩ (of_d l D s.heap a fs ra g S gap i ((4 + ((k : Nat) : Int))) k hO_a hf_a_0 hA_ra (by first | assumption | omega) (by first | assumption | omega) (by first | assumption | omega) (by first | assumption | omega) (by first | assumption | omega)) (cwV 2 hts (lw_V q2304 q2306 qs40 q89 q2307) rfl rfl rfl (by decide +kernel) ⟨Nat.le_of_ble_eq_true rfl, Nat.le_of_ble_eq_true rfl⟩) (kx_pv hK hS_20 hB (kx_rc hK hO_a (C := RX3) (T := TX3) (N := 13) rfl)) rfl rfl hl.1 rfl (lv_room (Nat.le_of_ble_eq_true rfl)) dX3_owner_67 ⟨by first | exact Nat.le_of_ble_eq_true rfl | omega | (show _ ≤ _; omega) | (dsimp only [headSpec]; omega), by first | exact Nat.le_of_ble_eq_true rfl | omega | (show _ ≤ _; omega) | (dsimp only [headSpec]; omega)⟩) hS_20 (fun z_26 locs_23 hz_25 hS_24 => ?_)
                subst z_26
                refine kx_ci0 (va_runS (As := [.int (kI (ln_d (st_ln S i) k))]) (rest := [.int (kI ((24 * dn (ln_d (st_ln S i) k)))), .int (kI (ln_pos (st_ln S i) k))]) ⟨hx, hb, hml, hown, hts⟩ (m_X3_across l D s.heap (ln_d (st_ln S i) k)  (by first | assumption | omega)) (va_cwS 1 hts (lw_S q2311 q2312 q89 q2313) rfl rfl rfl (by decide +kernel) ⟨Nat.le_of_ble_eq_true rfl, Nat.le_of_ble_eq_true rfl⟩) (kx_ps hK hS_24 hB) rfl rfl hl.1 rfl (lv_room (Nat.le_of_ble_eq_true rfl)) dX3_owner_70 ⟨by first | exact Nat.le_of_ble_eq_true rfl | omega | (show _ ≤ _; omega) | (dsimp only [headSpec]; omega), by first | exact Nat.le_of_ble_eq_true rfl | omega | (show _ ≤ _; omega) | (dsimp only [headSpec]; omega)⟩) hS_24 (fun z_30 locs_27 hz_29 hS_28 => ?_)
                subst z_30
                refine kx_iadd hx hb dX3_owner_73 ?_
                refine kx_iadd hx hb dX3_owner_74 ?_
                refine kx_eqi (ln_pos (st_ln S i) (k + 1)) (rfl) ?_
                refine lv_istore_n (lv' := [(3, .int (kI (ln_pos (st_ln S i) (k + 1)))), (0, .ref a), (1, .int (kI (q))), (2, .int (kI ((i : Nat) : Int))), (4, .int (kI (kb (bb)))), (5, .int (kI ((k : Nat) : Int)))]) hx hb dX3_owner_75 rfl hl (by decide) rfl (fun ls hl => ?_)
                refine lv_iload hx hb dX3_owner_76 (lv_at hl 4 rfl) ?_
                refine kx_ifnz (tgt := 86) hx hb dX3_owner_78 (by decide) (fun c_78_31 => ?_) (fun c_78_31 => ?_)
                · -- taken at 78
                  refine kx_iconst hx hb dX3_owner_86 ?_
                  refine lv_goto (tgt := 91) hx hb dX3_owner_87 (by decide) ?_
                  refine lv_istore (lv' := [(4, .int (kI (1))), (3, .int (kI (ln_pos (st_ln S i) (k + 1)))), (0, .ref a), (1, .int (kI (q))), (2, .int (kI ((i : Nat) : Int))), (5, .int (kI ((k : Nat) : Int)))]) hx hb dX3_owner_91 hl (by decide) rfl (fun ls hl => ?_)
                  refine lv_iinc (v := kI (((k + 1 : Nat) : Int))) (lv' := [(5, .int (kI ((k + 1 : Nat) : Int))), (4, .int (kI (1))), (3, .int (kI (ln_pos (st_ln S i) (k + 1)))), (0, .ref a), (1, .int (kI (q))), (2, .int (kI ((i : Nat) : Int)))]) hx hb dX3_owner_93 hl (k := 5) rfl (kI_incN _ _) (by decide) rfl (fun ls hl => ?_)
                  refine lv_goto (tgt := 34) hx hb dX3_owner_96 (by decide) ?_
                  exact ih_34  (k + 1) true (by first | assumption | omega | (simp_all; done) | grind) (by grind [ln_hasTo]) _ hS_28 (by omega) ls (lv_sub hl [3, 4, 5, 2, 1, 0] rfl)
                · -- not taken at 78
                  refine lv_iload_n hx hb dX3_owner_81 rfl (lv_at hl 0 rfl) ?_
                  refine lv_iload_n hx hb dX3_owner_82 rfl (lv_at hl 2 rfl) ?_
                  refine kx_icmp_ne (x := ln_pos (st_ln S i) (k + 1)) (y := q) (tgt := 90) hx hb dX3_owner_83 (by decide) (by omega) (by omega) (by omega) (by omega) (fun c_83_32 => ?_) (fun c_83_32 => ?_)
                  · -- taken at 83
                    refine kx_iconst hx hb dX3_owner_90 ?_
                    refine lv_istore (lv' := [(4, .int (kI (0))), (3, .int (kI (ln_pos (st_ln S i) (k + 1)))), (0, .ref a), (1, .int (kI (q))), (2, .int (kI ((i : Nat) : Int))), (5, .int (kI ((k : Nat) : Int)))]) hx hb dX3_owner_91 hl (by decide) rfl (fun ls hl => ?_)
                    refine lv_iinc (v := kI (((k + 1 : Nat) : Int))) (lv' := [(5, .int (kI ((k + 1 : Nat) : Int))), (4, .int (kI (0))), (3, .int (kI (ln_pos (st_ln S i) (k + 1)))), (0, .ref a), (1, .int (kI (q))), (2, .int (kI ((i : Nat) : Int)))]) hx hb dX3_owner_93 hl (k := 5) rfl (kI_incN _ _) (by decide) rfl (fun ls hl => ?_)
                    refine lv_goto (tgt := 34) hx hb dX3_owner_96 (by decide) ?_
                    exact ih_34  (k + 1) false (by first | assumption | omega | (simp_all; done) | grind) (by grind [ln_hasTo]) _ hS_28 (by omega) ls (lv_sub hl [3, 4, 5, 2, 1, 0] rfl)
                  · -- not taken at 83
                    refine kx_iconst hx hb dX3_owner_86 ?_
                    refine lv_goto (tgt := 91) hx hb dX3_owner_87 (by decide) ?_
                    refine lv_istore (lv' := [(4, .int (kI (1))), (3, .int (kI (ln_pos (st_ln S i) (k + 1)))), (0, .ref a), (1, .int (kI (q))), (2, .int (kI ((i : Nat) : Int))), (5, .int (kI ((k : Nat) : Int)))]) hx hb dX3_owner_91 hl (by decide) rfl (fun ls hl => ?_)
                    refine lv_iinc (v := kI (((k + 1 : Nat) : Int))) (lv' := [(5, .int (kI ((k + 1 : Nat) : Int))), (4, .int (kI (1))), (3, .int (kI (ln_pos (st_ln S i) (k + 1)))), (0, .ref a), (1, .int (kI (q))), (2, .int (kI ((i : Nat) : Int)))]) hx hb dX3_owner_93 hl (k := 5) rfl (kI_incN _ _) (by decide) rfl (fun ls hl => ?_)
                    refine lv_goto (tgt := 34) hx hb dX3_owner_96 (by decide) ?_
                    exact ih_34  (k + 1) true (by first | assumption | omega | (simp_all; done) | grind) (by grind [ln_hasTo]) _ hS_28 (by omega) ls (lv_sub hl [3, 4, 5, 2, 1, 0] rfl)
          exact lp_34_x_8 (ln_n (st_ln S i) - 0 + 1) 0 false (by first | assumption | omega | (simp_all; done) | grind) (by grind [ln_hasTo]) _ hS_4 (Nat.lt_succ_self _) ls (lv_sub hl [3, 4, 5, 2, 1, 0] rfl)
        · -- not taken at 21
          refine kx_iconst hx hb dX3_owner_24 ?_
          refine lv_goto (tgt := 29) hx hb dX3_owner_25 (by decide) ?_
          refine lv_istore (lv' := [(4, .int (kI (1))), (3, .int (kI (ln_pos (st_ln S i) 0))), (0, .ref a), (1, .int (kI (q))), (2, .int (kI ((i : Nat) : Int)))]) hx hb dX3_owner_29 hl (by decide) rfl (fun ls hl => ?_)
          refine kx_iconst hx hb dX3_owner_31 ?_
          refine lv_istore (lv' := [(5, .int (kI (0))), (4, .int (kI (1))), (3, .int (kI (ln_pos (st_ln S i) 0))), (0, .ref a), (1, .int (kI (q))), (2, .int (kI ((i : Nat) : Int)))]) hx hb dX3_owner_32 hl (by decide) rfl (fun ls hl => ?_)
          have lp_34_x_33 : ∀ (n_34 : Nat) (k : Nat) (bb : Bool) (hk : k ≤ ln_n (st_ln S i)) (hbb : bb = ln_hasTo (st_ln S i) q (k + 1)) (locs : List Loc) (hS : va_S kNO s.heap s.heap locs) (hm_34 : ln_n (st_ln S i) - k < n_34) (ls : Array Slot), lv_has ls 6 [(0, .ref a), (1, .int (kI (q))), (2, .int (kI ((i : Nat) : Int))), (3, .int (kI (ln_pos (st_ln S i) k))), (4, .int (kI (kb (bb)))), (5, .int (kI ((k : Nat) : Int)))] → W p l e (headSpec (ws_ yX3_owner cX3_owner 6 (some .int)) ({ frames := 2, cells := 0, slots := 0, locals := 42 } : Room)).room s m ([.ref a, .int (kI (q))] : List Value).toArray below meth c s.heap locs (0) (0) (MQ below (kQi (fun (r : Int) H' => H' = s.heap ∧ r = st_owner S q) kNO) ([.ref a, .int (kI (q))] : List Value).toArray s (0) (0) (kNO)) (F0 m 34 ls []) := by
            intro n_34
            induction n_34 with
            | zero => intro k bb hk hbb locs hS hm_34; exact absurd hm_34 (Nat.not_lt_zero _)
            | succ n_34 ih_34 =>
              intro k bb hk hbb locs hS hm_34 ls hl
              refine lv_iload hx hb dX3_owner_34 (lv_at hl 5 rfl) ?_
              refine lv_aload_n hx hb dX3_owner_36 rfl (lv_at hl 0 rfl) ?_
              refine lv_iload_n hx hb dX3_owner_37 rfl (lv_at hl 2 rfl) ?_
              refine kx_iconst hx hb dX3_owner_38 ?_
              refine kx_ci0 (va_runV (As := [.int (kI ((i : Nat) : Int)), .int (kI (2))]) (rest := [.int (kI ((k : Nat) : Int))]) ⟨hx, hb, hml, hown, hts⟩ (of_n l D s.heap a fs ra g S gap i hO_a hf_a_0 hA_ra (by first | assumption | omega) (by first | assumption | omega) (by first | assumption | omega)) (cwV 2 hts (lw_V q2304 q2306 qs40 q89 q2307) rfl rfl rfl (by decide +kernel) ⟨Nat.le_of_ble_eq_true rfl, Nat.le_of_ble_eq_true rfl⟩) (kx_pv hK hS hB (kx_rc hK hO_a (C := RX3) (T := TX3) (N := 13) rfl)) rfl rfl hl.1 rfl (lv_room (Nat.le_of_ble_eq_true rfl)) dX3_owner_39 ⟨by first | exact Nat.le_of_ble_eq_true rfl | omega | (show _ ≤ _; omega) | (dsimp only [headSpec]; omega), by first | exact Nat.le_of_ble_eq_true rfl | omega | (show _ ≤ _; omega) | (dsimp only [headSpec]; omega)⟩) hS (fun z_37 locs_34 hz_36 hS_35 => ?_)
              subst z_37
              refine kx_icmp_ge (x := ((k : Nat) : Int)) (y := ((ln_n (st_ln S i) : Nat) : Int)) (tgt := 99) hx hb dX3_owner_42 (by decide) (by omega) (by omega) (by omega) (by omega) (fun c_42_38 => ?_) (fun c_42_38 => ?_)
              · -- taken at 42
                refine lv_iload hx hb dX3_owner_99 (lv_at hl 4 rfl) ?_
                refine kx_ifz (tgt := 106) hx hb dX3_owner_101 (by decide) (fun c_101_39 => ?_) (fun c_101_39 => ?_)
                · -- taken at 101
                  refine lv_iinc (v := kI (((i + 1 : Nat) : Int))) (lv' := [(2, .int (kI ((i + 1 : Nat) : Int))), (0, .ref a), (1, .int (kI (q))), (3, .int (kI (ln_pos (st_ln S i) k))), (4, .int (kI (kb (bb)))), (5, .int (kI ((k : Nat) : Int)))]) hx hb dX3_owner_106 hl (k := 2) rfl (kI_incN _ _) (by decide) rfl (fun ls hl => ?_)
                  refine lv_goto (tgt := 2) hx hb dX3_owner_109 (by decide) ?_
                  exact ih_2  (i + 1) (by first | assumption | omega | (simp_all; done) | grind) (by rw [hO, show S.length - i = (S.length - (i + 1)) + 1 by omega, firstIdx_miss (by unfold ln_has; rw [← show k = ln_n (st_ln S i) by omega, ← hbb]; assumption)]) _ hS_35 (by omega) ls (lv_sub hl [1, 2, 0] rfl)
                · -- not taken at 101
                  refine lv_iload_n hx hb dX3_owner_104 rfl (lv_at hl 2 rfl) ?_
                  exact kx_iret (z := ((i : Nat) : Int)) hx hb hr hlk (⟨rfl, by rw [hO, show S.length - i = (S.length - (i + 1)) + 1 by omega, firstIdx_hit (by unfold ln_has; rw [← show k = ln_n (st_ln S i) by omega, ← hbb]; assumption)]⟩) hS_35 dX3_owner_105
              · -- not taken at 42
                have hd := hL.d (k := k) (by omega)
                have hpp := hL.pos (k := k) (by omega)
                have hpp2 := hL.pos (k := k + 1) (by omega)
                refine lv_iload_n hx hb dX3_owner_45 rfl (lv_at hl 3 rfl) ?_
                refine kx_bipush hx hb (by decide) dX3_owner_46 ?_
                refine lv_aload_n hx hb dX3_owner_48 rfl (lv_at hl 0 rfl) ?_
                refine lv_iload_n hx hb dX3_owner_49 rfl (lv_at hl 2 rfl) ?_
                refine kx_iconst hx hb dX3_owner_50 ?_
                refine lv_iload hx hb dX3_owner_51 (lv_at hl 5 rfl) ?_
                refine kx_iadd hx hb dX3_owner_53 ?_
                refine kx_ci0 (va_runV (As := [.int (kI ((i : Nat) : Int)), .int (kI ((4 + ((k : Nat) : Int))))]) (rest := [.int (kI (24)), .int (kI (ln_pos (st_ln S i) k))]) ⟨hx, hb, hml, hown, hts⟩ (of_d l D s.heap a fs ra g S gap i ((4 + ((k : Nat) : Int))) k hO_a hf_a_0 hA_ra (by first | assumption | omega) (by first | assumption | omega) (by first | assumption | omega) (by first | assumption | omega) (by first | assumption | omega)) (cwV 2 hts (lw_V q2304 q2306 qs40 q89 q2307) rfl rfl rfl (by decide +kernel) ⟨Nat.le_of_ble_eq_true rfl, Nat.le_of_ble_eq_true rfl⟩) (kx_pv hK hS_35 hB (kx_rc hK hO_a (C := RX3) (T := TX3) (N := 13) rfl)) rfl rfl hl.1 rfl (lv_room (Nat.le_of_ble_eq_true rfl)) dX3_owner_54 ⟨by first | exact Nat.le_of_ble_eq_true rfl | omega | (show _ ≤ _; omega) | (dsimp only [headSpec]; omega), by first | exact Nat.le_of_ble_eq_true rfl | omega | (show _ ≤ _; omega) | (dsimp only [headSpec]; omega)⟩) hS_35 (fun z_43 locs_40 hz_42 hS_41 => ?_)
                subst z_43
                refine kx_ci0 (va_runS (As := [.int (kI (ln_d (st_ln S i) k))]) (rest := [.int (kI (24)), .int (kI (ln_pos (st_ln S i) k))]) ⟨hx, hb, hml, hown, hts⟩ (m_X3_down l D s.heap (ln_d (st_ln S i) k)  (by first | assumption | omega)) (va_cwS 1 hts (lw_S q2308 q2309 q89 q2310) rfl rfl rfl (by decide +kernel) ⟨Nat.le_of_ble_eq_true rfl, Nat.le_of_ble_eq_true rfl⟩) (kx_ps hK hS_41 hB) rfl rfl hl.1 rfl (lv_room (Nat.le_of_ble_eq_true rfl)) dX3_owner_57 ⟨by first | exact Nat.le_of_ble_eq_true rfl | omega | (show _ ≤ _; omega) | (dsimp only [headSpec]; omega), by first | exact Nat.le_of_ble_eq_true rfl | omega | (show _ ≤ _; omega) | (dsimp only [headSpec]; omega)⟩) hS_41 (fun z_47 locs_44 hz_46 hS_45 => ?_)
                subst z_47
                refine kx_imul hx hb dX3_owner_60 ?_
                refine lv_aload_n hx hb dX3_owner_61 rfl (lv_at hl 0 rfl) ?_
                refine lv_iload_n hx hb dX3_owner_62 rfl (lv_at hl 2 rfl) ?_
                refine kx_iconst hx hb dX3_owner_63 ?_
                refine lv_iload hx hb dX3_owner_64 (lv_at hl 5 rfl) ?_
                refine kx_iadd hx hb dX3_owner_66 ?_
                refine kx_ci0 (va_runV (As := [.int (kI ((i : Nat) : Int)), .int (kI ((4 + ((k : Nat) : Int))))]) (rest := [.int (kI ((24 * dn (ln_d (st_ln S i) k)))), .int (kI (ln_pos (st_ln S i) k))]) ⟨hx, hb, hml, hown, hts⟩ (of_d l D s.heap a fs ra g S gap i ((4 + ((k : Nat) : Int))) k hO_a hf_a_0 hA_ra (by first | assumption | omega) (by first | assumption | omega) (by first | assumption | omega) (by first | assumption | omega) (by first | assumption | omega)) (cwV 2 hts (lw_V q2304 q2306 qs40 q89 q2307) rfl rfl rfl (by decide +kernel) ⟨Nat.le_of_ble_eq_true rfl, Nat.le_of_ble_eq_true rfl⟩) (kx_pv hK hS_45 hB (kx_rc hK hO_a (C := RX3) (T := TX3) (N := 13) rfl)) rfl rfl hl.1 rfl (lv_room (Nat.le_of_ble_eq_true rfl)) dX3_owner_67 ⟨by first | exact Nat.le_of_ble_eq_true rfl | omega | (show _ ≤ _; omega) | (dsimp only [headSpec]; omega), by first | exact Nat.le_of_ble_eq_true rfl | omega | (show _ ≤ _; omega) | (dsimp only [headSpec]; omega)⟩) hS_45 (fun z_51 locs_48 hz_50 hS_49 => ?_)
                subst z_51
                refine kx_ci0 (va_runS (As := [.int (kI (ln_d (st_ln S i) k))]) (rest := [.int (kI ((24 * dn (ln_d (st_ln S i) k)))), .int (kI (ln_pos (st_ln S i) k))]) ⟨hx, hb, hml, hown, hts⟩ (m_X3_across l D s.heap (ln_d (st_ln S i) k)  (by first | assumption | omega)) (va_cwS 1 hts (lw_S q2311 q2312 q89 q2313) rfl rfl rfl (by decide +kernel) ⟨Nat.le_of_ble_eq_true rfl, Nat.le_of_ble_eq_true rfl⟩) (kx_ps hK hS_49 hB) rfl rfl hl.1 rfl (lv_room (Nat.le_of_ble_eq_true rfl)) dX3_owner_70 ⟨by first | exact Nat.le_of_ble_eq_true rfl | omega | (show _ ≤ _; omega) | (dsimp only [headSpec]; omega), by first | exact Nat.le_of_ble_eq_true rfl | omega | (show _ ≤ _; omega) | (dsimp only [headSpec]; omega)⟩) hS_49 (fun z_55 locs_52 hz_54 hS_53 => ?_)
                subst z_55
                refine kx_iadd hx hb dX3_owner_73 ?_
                refine kx_iadd hx hb dX3_owner_74 ?_
                refine kx_eqi (ln_pos (st_ln S i) (k + 1)) (rfl) ?_
                refine lv_istore_n (lv' := [(3, .int (kI (ln_pos (st_ln S i) (k + 1)))), (0, .ref a), (1, .int (kI (q))), (2, .int (kI ((i : Nat) : Int))), (4, .int (kI (kb (bb)))), (5, .int (kI ((k : Nat) : Int)))]) hx hb dX3_owner_75 rfl hl (by decide) rfl (fun ls hl => ?_)
                refine lv_iload hx hb dX3_owner_76 (lv_at hl 4 rfl) ?_
                refine kx_ifnz (tgt := 86) hx hb dX3_owner_78 (by decide) (fun c_78_56 => ?_) (fun c_78_56 => ?_)
                · -- taken at 78
                  refine kx_iconst hx hb dX3_owner_86 ?_
                  refine lv_goto (tgt := 91) hx hb dX3_owner_87 (by decide) ?_
                  refine lv_istore (lv' := [(4, .int (kI (1))), (3, .int (kI (ln_pos (st_ln S i) (k + 1)))), (0, .ref a), (1, .int (kI (q))), (2, .int (kI ((i : Nat) : Int))), (5, .int (kI ((k : Nat) : Int)))]) hx hb dX3_owner_91 hl (by decide) rfl (fun ls hl => ?_)
                  refine lv_iinc (v := kI (((k + 1 : Nat) : Int))) (lv' := [(5, .int (kI ((k + 1 : Nat) : Int))), (4, .int (kI (1))), (3, .int (kI (ln_pos (st_ln S i) (k + 1)))), (0, .ref a), (1, .int (kI (q))), (2, .int (kI ((i : Nat) : Int)))]) hx hb dX3_owner_93 hl (k := 5) rfl (kI_incN _ _) (by decide) rfl (fun ls hl => ?_)
                  refine lv_goto (tgt := 34) hx hb dX3_owner_96 (by decide) ?_
                  exact ih_34  (k + 1) true (by first | assumption | omega | (simp_all; done) | grind) (by grind [ln_hasTo]) _ hS_53 (by omega) ls (lv_sub hl [3, 4, 5, 2, 1, 0] rfl)
                · -- not taken at 78
                  refine lv_iload_n hx hb dX3_owner_81 rfl (lv_at hl 0 rfl) ?_
                  refine lv_iload_n hx hb dX3_owner_82 rfl (lv_at hl 2 rfl) ?_
                  refine kx_icmp_ne (x := ln_pos (st_ln S i) (k + 1)) (y := q) (tgt := 90) hx hb dX3_owner_83 (by decide) (by omega) (by omega) (by omega) (by omega) (fun c_83_57 => ?_) (fun c_83_57 => ?_)
                  · -- taken at 83
                    refine kx_iconst hx hb dX3_owner_90 ?_
                    refine lv_istore (lv' := [(4, .int (kI (0))), (3, .int (kI (ln_pos (st_ln S i) (k + 1)))), (0, .ref a), (1, .int (kI (q))), (2, .int (kI ((i : Nat) : Int))), (5, .int (kI ((k : Nat) : Int)))]) hx hb dX3_owner_91 hl (by decide) rfl (fun ls hl => ?_)
                    refine lv_iinc (v := kI (((k + 1 : Nat) : Int))) (lv' := [(5, .int (kI ((k + 1 : Nat) : Int))), (4, .int (kI (0))), (3, .int (kI (ln_pos (st_ln S i) (k + 1)))), (0, .ref a), (1, .int (kI (q))), (2, .int (kI ((i : Nat) : Int)))]) hx hb dX3_owner_93 hl (k := 5) rfl (kI_incN _ _) (by decide) rfl (fun ls hl => ?_)
                    refine lv_goto (tgt := 34) hx hb dX3_owner_96 (by decide) ?_
                    exact ih_34  (k + 1) false (by first | assumption | omega | (simp_all; done) | grind) (by grind [ln_hasTo]) _ hS_53 (by omega) ls (lv_sub hl [3, 4, 5, 2, 1, 0] rfl)
                  · -- not taken at 83
                    refine kx_iconst hx hb dX3_owner_86 ?_
                    refine lv_goto (tgt := 91) hx hb dX3_owner_87 (by decide) ?_
                    refine lv_istore (lv' := [(4, .int (kI (1))), (3, .int (kI (ln_pos (st_ln S i) (k + 1)))), (0, .ref a), (1, .int (kI (q))), (2, .int (kI ((i : Nat) : Int))), (5, .int (kI ((k : Nat) : Int)))]) hx hb dX3_owner_91 hl (by decide) rfl (fun ls hl => ?_)
                    refine lv_iinc (v := kI (((k + 1 : Nat) : Int))) (lv' := [(5, .int (kI ((k + 1 : Nat) : Int))), (4, .int (kI (1))), (3, .int (kI (ln_pos (st_ln S i) (k + 1)))), (0, .ref a), (1, .int (kI (q))), (2, .int (kI ((i : Nat) : Int)))]) hx hb dX3_owner_93 hl (k := 5) rfl (kI_incN _ _) (by decide) rfl (fun ls hl => ?_)
                    refine lv_goto (tgt := 34) hx hb dX3_owner_96 (by decide) ?_
                    exact ih_34  (k + 1) true (by first | assumption | omega | (simp_all; done) | grind) (by grind [ln_hasTo]) _ hS_53 (by omega) ls (lv_sub hl [3, 4, 5, 2, 1, 0] rfl)
          exact lp_34_x_33 (ln_n (st_ln S i) - 0 + 1) 0 true (by first | assumption | omega | (simp_all; done) | grind) (by grind [ln_hasTo]) _ hS_4 (Nat.lt_succ_self _) ls (lv_sub hl [3, 4, 5, 2, 1, 0] rfl)
  exact lp_2_x_1 (S.length - 0 + 1) 0 (by first | assumption | omega | (simp_all; done) | grind) (rfl) _ hS (Nat.lt_succ_self _) ls (lv_sub hl [1, 2, 0] rfl)

set_option maxHeartbeats 4000000 in
set_option maxRecDepth 100000 in
theorem m_X3_isStep (l : Launch) (D : kG) (H : Heap) (a : Nat) (fs : List Value) (ra : Nat) (g : Nat → Int) (S : Ls) (gap : Int) (x : Int) (y : Int) (hO_a : kO D H a 2 fs) (hf_a_0 : fs[0]? = some (.ref ra)) (hA_ra : kAi D H ra 514 g) (hM : MRow g S gap) (hok : LsOK S gap) (hr_x : -2147483648 ≤ x ∧ x ≤ 2147483647) (hr_y : -2147483648 ≤ y ∧ y ≤ 2147483647) : Met l yX3_isStep (ws_ yX3_isStep cX3_isStep 8 (some .boolean)) ({ frames := 2, cells := 0, slots := 0, locals := 42 } : Room) (kPre D H [.ref a, .int (kI (x)), .int (kI (y))]) (kQb (fun (r : Bool) H' => H' = H ∧ r = st_step S x y) kNO) (0) (0) (kNO) := by
  refine Met.ofW (cc := cX3_isStep) (maxL := 8) (ret := (some .boolean)) (by decide) rfl ?_
  intro p e s m args below meth c s₁ B hml hv
  obtain ⟨rfl, hH, hK⟩ := hv
  subst hH
  have hx := B.exec
  have hb := B.bytes
  have hr := B.returns
  have hts := atoms_spec (ws := ws_ yX3_isStep cX3_isStep 8 (some .boolean)) B.pre
  have hts : ∀ w ∈ lw_all, w.before _ s = true := fun w h => hts w (List.mem_cons_of_mem _ h)
  have hown : s.vm.findClass RX3 = some m.cls := findClass_of_methodNamed B.named
  have hlk := B.notSynchronized
  have hS : va_S kNO s.heap s.heap [] := va_S.rf
  have hB : ∀ q, kNO q → kBase D ≤ q := fun _ h => h.elim
  have hl := lv_entry ([.ref a, .int (kI (x)), .int (kI (y))]) (n := 8) (Nat.le_of_ble_eq_true rfl)
  rw [lg_entry_eq]
  generalize (lg_sl ([.ref a, .int (kI (x)), .int (kI (y))]) ++ List.replicate (8 - (lg_sl ([.ref a, .int (kI (x)), .int (kI (y))])).length) Slot.unset).toArray = ls at hl ⊢
  have hl : lv_has ls 8 [(0, .ref a), (1, .int (kI (x))), (2, .int (kI (y)))] := hl
  have hL8 := hok.1
  have hlen := hM.len
  refine kx_iconst hx hb dX3_isStep_0 ?_
  refine lv_istore_n (lv' := [(3, .int (kI (0))), (0, .ref a), (1, .int (kI (x))), (2, .int (kI (y)))]) hx hb dX3_isStep_1 rfl hl (by decide) rfl (fun ls hl => ?_)
  refine kx_iconst hx hb dX3_isStep_2 ?_
  refine lv_istore (lv' := [(4, .int (kI (0))), (3, .int (kI (0))), (0, .ref a), (1, .int (kI (x))), (2, .int (kI (y)))]) hx hb dX3_isStep_3 hl (by decide) rfl (fun ls hl => ?_)
  have lp_5_x_1 : ∀ (n_5 : Nat) (i : Nat) (b0 : Bool) (hi : i ≤ S.length) (hb0 : b0 = st_stepTo S x y i) (locs : List Loc) (hS : va_S kNO s.heap s.heap locs) (hm_5 : S.length - i < n_5) (ls : Array Slot), lv_has ls 8 [(0, .ref a), (1, .int (kI (x))), (2, .int (kI (y))), (3, .int (kI (kb (b0)))), (4, .int (kI ((i : Nat) : Int)))] → W p l e (headSpec (ws_ yX3_isStep cX3_isStep 8 (some .boolean)) ({ frames := 2, cells := 0, slots := 0, locals := 42 } : Room)).room s m ([.ref a, .int (kI (x)), .int (kI (y))] : List Value).toArray below meth c s.heap locs (0) (0) (MQ below (kQb (fun (r : Bool) H' => H' = s.heap ∧ r = st_step S x y) kNO) ([.ref a, .int (kI (x)), .int (kI (y))] : List Value).toArray s (0) (0) (kNO)) (F0 m 5 ls []) := by
    intro n_5
    induction n_5 with
    | zero => intro i b0 hi hb0 locs hS hm_5; exact absurd hm_5 (Nat.not_lt_zero _)
    | succ n_5 ih_5 =>
      intro i b0 hi hb0 locs hS hm_5 ls hl
      refine lv_iload hx hb dX3_isStep_5 (lv_at hl 4 rfl) ?_
      refine lv_aload_n hx hb dX3_isStep_7 rfl (lv_at hl 0 rfl) ?_
      refine kx_get (v := .ref ra) (C := RX3) (T := TX3) (N := 13) hx hb hts in_X3 hown hK hO_a rfl 0 (by decide) q2238 (fun _ h9 => h9) hf_a_0 dX3_isStep_8 ?_
      refine kx_iconst hx hb dX3_isStep_11 ?_
      refine kx_iald (i := 0) hx hb hK hA_ra 0 (rfl) (by omega) (by omega) dX3_isStep_12 ?_
      refine kx_icmp_ge (x := ((i : Nat) : Int)) (y := (g 0)) (tgt := 125) hx hb dX3_isStep_13 (by decide) (by omega) (by omega) (by omega) (by omega) (fun c_13_2 => ?_) (fun c_13_2 => ?_)
      · -- taken at 13
        refine lv_iload_n hx hb dX3_isStep_125 rfl (lv_at hl 3 rfl) ?_
        exact kx_zret (z := b0) hx hb hr hlk (⟨rfl, by rw [hb0, st_step, show i = S.length by omega]⟩) hS dX3_isStep_126
      · -- not taken at 13
        have hi2 : i < S.length := by omega
        have hL := hok.ln hi2
        have hL60 := hL.n
        have hbg := hL.bg
        refine lv_aload_n hx hb dX3_isStep_16 rfl (lv_at hl 0 rfl) ?_
        refine lv_iload hx hb dX3_isStep_17 (lv_at hl 4 rfl) ?_
        refine kx_iconst hx hb dX3_isStep_19 ?_
        refine kx_ci0 (va_runV (As := [.int (kI ((i : Nat) : Int)), .int (kI (1))]) (rest := []) ⟨hx, hb, hml, hown, hts⟩ (of_bg l D s.heap a fs ra g S gap i hO_a hf_a_0 hA_ra (by first | assumption | omega) (by first | assumption | omega) (by first | assumption | omega)) (cwV 2 hts (lw_V q2304 q2306 qs40 q89 q2307) rfl rfl rfl (by decide +kernel) ⟨Nat.le_of_ble_eq_true rfl, Nat.le_of_ble_eq_true rfl⟩) (kx_pv hK hS hB (kx_rc hK hO_a (C := RX3) (T := TX3) (N := 13) rfl)) rfl rfl hl.1 rfl (lv_room (Nat.le_of_ble_eq_true rfl)) dX3_isStep_20 ⟨by first | exact Nat.le_of_ble_eq_true rfl | omega | (show _ ≤ _; omega) | (dsimp only [headSpec]; omega), by first | exact Nat.le_of_ble_eq_true rfl | omega | (show _ ≤ _; omega) | (dsimp only [headSpec]; omega)⟩) hS (fun z_6 locs_3 hz_5 hS_4 => ?_)
        subst z_6
        refine kx_eqi (ln_pos (st_ln S i) 0) (rfl) ?_
        refine lv_istore (lv' := [(5, .int (kI (ln_pos (st_ln S i) 0))), (0, .ref a), (1, .int (kI (x))), (2, .int (kI (y))), (3, .int (kI (kb (b0)))), (4, .int (kI ((i : Nat) : Int)))]) hx hb dX3_isStep_23 hl (by decide) rfl (fun ls hl => ?_)
        refine kx_iconst hx hb dX3_isStep_25 ?_
        refine lv_istore (lv' := [(6, .int (kI (0))), (5, .int (kI (ln_pos (st_ln S i) 0))), (0, .ref a), (1, .int (kI (x))), (2, .int (kI (y))), (3, .int (kI (kb (b0)))), (4, .int (kI ((i : Nat) : Int)))]) hx hb dX3_isStep_26 hl (by decide) rfl (fun ls hl => ?_)
        have lp_28_x_7 : ∀ (n_28 : Nat) (k : Nat) (bb : Bool) (hk : k ≤ ln_n (st_ln S i)) (hbb : bb = (b0 || ln_stepTo (st_ln S i) x y k)) (locs : List Loc) (hS : va_S kNO s.heap s.heap locs) (hm_28 : ln_n (st_ln S i) - k < n_28) (ls : Array Slot), lv_has ls 8 [(0, .ref a), (1, .int (kI (x))), (2, .int (kI (y))), (3, .int (kI (kb (bb)))), (4, .int (kI ((i : Nat) : Int))), (5, .int (kI (ln_pos (st_ln S i) k))), (6, .int (kI ((k : Nat) : Int)))] → W p l e (headSpec (ws_ yX3_isStep cX3_isStep 8 (some .boolean)) ({ frames := 2, cells := 0, slots := 0, locals := 42 } : Room)).room s m ([.ref a, .int (kI (x)), .int (kI (y))] : List Value).toArray below meth c s.heap locs (0) (0) (MQ below (kQb (fun (r : Bool) H' => H' = s.heap ∧ r = st_step S x y) kNO) ([.ref a, .int (kI (x)), .int (kI (y))] : List Value).toArray s (0) (0) (kNO)) (F0 m 28 ls []) := by
          intro n_28
          induction n_28 with
          | zero => intro k bb hk hbb locs hS hm_28; exact absurd hm_28 (Nat.not_lt_zero _)
          | succ n_28 ih_28 =>
            intro k bb hk hbb locs hS hm_28 ls hl
            refine lv_iload hx hb dX3_isStep_28 (lv_at hl 6 rfl) ?_
            refine lv_aload_n hx hb dX3_isStep_30 rfl (lv_at hl 0 rfl) ?_
            refine lv_iload hx hb dX3_isStep_31 (lv_at hl 4 rfl) ?_
            refine kx_iconst hx hb dX3_isStep_33 ?_
            refine kx_ci0 (va_runV (As := [.int (kI ((i : Nat) : Int)), .int (kI (2))]) (rest := [.int (kI ((k : Nat) : Int))]) ⟨hx, hb, hml, hown, hts⟩ (of_n l D s.heap a fs ra g S gap i hO_a hf_a_0 hA_ra (by first | assumption | omega) (by first | assumption | omega) (by first | assumption | omega)) (cwV 2 hts (lw_V q2304 q2306 qs40 q89 q2307) rfl rfl rfl (by decide +kernel) ⟨Nat.le_of_ble_eq_true rfl, Nat.le_of_ble_eq_true rfl⟩) (kx_pv hK hS hB (kx_rc hK hO_a (C := RX3) (T := TX3) (N := 13) rfl)) rfl rfl hl.1 rfl (lv_room (Nat.le_of_ble_eq_true rfl)) dX3_isStep_34 ⟨by first | exact Nat.le_of_ble_eq_true rfl | omega | (show _ ≤ _; omega) | (dsimp only [headSpec]; omega), by first | exact Nat.le_of_ble_eq_true rfl | omega | (show _ ≤ _; omega) | (dsimp only [headSpec]; omega)⟩) hS (fun z_11 locs_8 hz_10 hS_9 => ?_)
            subst z_11
            refine kx_icmp_ge (x := ((k : Nat) : Int)) (y := ((ln_n (st_ln S i) : Nat) : Int)) (tgt := 119) hx hb dX3_isStep_37 (by decide) (by omega) (by omega) (by omega) (by omega) (fun c_37_12 => ?_) (fun c_37_12 => ?_)
            · -- taken at 37
              refine lv_iinc (v := kI (((i + 1 : Nat) : Int))) (lv' := [(4, .int (kI ((i + 1 : Nat) : Int))), (0, .ref a), (1, .int (kI (x))), (2, .int (kI (y))), (3, .int (kI (kb (bb)))), (5, .int (kI (ln_pos (st_ln S i) k))), (6, .int (kI ((k : Nat) : Int)))]) hx hb dX3_isStep_119 hl (k := 4) rfl (kI_incN _ _) (by decide) rfl (fun ls hl => ?_)
              refine lv_goto (tgt := 5) hx hb dX3_isStep_122 (by decide) ?_
              exact ih_5  (i + 1) bb (by first | assumption | omega | (simp_all; done) | grind) (by rw [st_stepTo, ← hb0, hbb, ln_step, show k = ln_n (st_ln S i) by omega]) _ hS_9 (by omega) ls (lv_sub hl [1, 2, 3, 4, 0] rfl)
            · -- not taken at 37
              have hd := hL.d (k := k) (by omega)
              have hpp := hL.pos (k := k) (by omega)
              have hpp2 := hL.pos (k := k + 1) (by omega)
              refine lv_iload hx hb dX3_isStep_40 (lv_at hl 5 rfl) ?_
              refine kx_bipush hx hb (by decide) dX3_isStep_42 ?_
              refine lv_aload_n hx hb dX3_isStep_44 rfl (lv_at hl 0 rfl) ?_
              refine lv_iload hx hb dX3_isStep_45 (lv_at hl 4 rfl) ?_
              refine kx_iconst hx hb dX3_isStep_47 ?_
              refine lv_iload hx hb dX3_isStep_48 (lv_at hl 6 rfl) ?_
              refine kx_iadd hx hb dX3_isStep_50 ?_
              refine kx_ci0 (va_runV (As := [.int (kI ((i : Nat) : Int)), .int (kI ((4 + ((k : Nat) : Int))))]) (rest := [.int (kI (24)), .int (kI (ln_pos (st_ln S i) k))]) ⟨hx, hb, hml, hown, hts⟩ (of_d l D s.heap a fs ra g S gap i ((4 + ((k : Nat) : Int))) k hO_a hf_a_0 hA_ra (by first | assumption | omega) (by first | assumption | omega) (by first | assumption | omega) (by first | assumption | omega) (by first | assumption | omega)) (cwV 2 hts (lw_V q2304 q2306 qs40 q89 q2307) rfl rfl rfl (by decide +kernel) ⟨Nat.le_of_ble_eq_true rfl, Nat.le_of_ble_eq_true rfl⟩) (kx_pv hK hS_9 hB (kx_rc hK hO_a (C := RX3) (T := TX3) (N := 13) rfl)) rfl rfl hl.1 rfl (lv_room (Nat.le_of_ble_eq_true rfl)) dX3_isStep_51 ⟨by first | exact Nat.le_of_ble_eq_true rfl | omega | (show _ ≤ _; omega) | (dsimp only [headSpec]; omega), by first | exact Nat.le_of_ble_eq_true rfl | omega | (show _ ≤ _; omega) | (dsimp only [headSpec]; omega)⟩) hS_9 (fun z_16 locs_13 hz_15 hS_14 => ?_)
              subst z_16
              refine kx_ci0 (va_runS (As := [.int (kI (ln_d (st_ln S i) k))]) (rest := [.int (kI (24)), .int (kI (ln_pos (st_ln S i) k))]) ⟨hx, hb, hml, hown, hts⟩ (m_X3_down l D s.heap (ln_d (st_ln S i) k)  (by first | assumption | omega)) (va_cwS 1 hts (lw_S q2308 q2309 q89 q2310) rfl rfl rfl (by decide +kernel) ⟨Nat.le_of_ble_eq_true rfl, Nat.le_of_ble_eq_true rfl⟩) (kx_ps hK hS_14 hB) rfl rfl hl.1 rfl (lv_room (Nat.le_of_ble_eq_true rfl)) dX3_isStep_54 ⟨by first | exact Nat.le_of_ble_eq_true rfl | omega | (show _ ≤ _; omega) | (dsimp only [headSpec]; omega), by first | exact Nat.le_of_ble_eq_true rfl | omega | (show _ ≤ _; omega) | (dsimp only [headSpec]; omega)⟩) hS_14 (fun z_20 locs_17 hz_19 hS_18 => ?_)
              subst z_20
              refine kx_imul hx hb dX3_isStep_57 ?_
              refine kx_iadd hx hb dX3_isStep_58 ?_
              refine lv_aload_n hx hb dX3_isStep_59 rfl (lv_at hl 0 rfl) ?_
              refine lv_iload hx hb dX3_isStep_60 (lv_at hl 4 rfl) ?_
              refine kx_iconst hx hb dX3_isStep_62 ?_
              refine lv_iload hx hb dX3_isStep_63 (lv_at hl 6 rfl) ?_
              refine kx_iadd hx hb dX3_isStep_65 ?_
              refine kx_ci0 (va_runV (As := [.int (kI ((i : Nat) : Int)), .int (kI ((4 + ((k : Nat) : Int))))]) (rest := [.int (kI ((ln_pos (st_ln S i) k + (24 * dn (ln_d (st_ln S i) k)))))]) ⟨hx, hb, hml, hown, hts⟩ (of_d l D s.heap a fs ra g S gap i ((4 + ((k : Nat) : Int))) k hO_a hf_a_0 hA_ra (by first | assumption | omega) (by first | assumption | omega) (by first | assumption | omega) (by first | assumption | omega) (by first | assumption | omega)) (cwV 2 hts (lw_V q2304 q2306 qs40 q89 q2307) rfl rfl rfl (by decide +kernel) ⟨Nat.le_of_ble_eq_true rfl, Nat.le_of_ble_eq_true rfl⟩) (kx_pv hK hS_18 hB (kx_rc hK hO_a (C := RX3) (T := TX3) (N := 13) rfl)) rfl rfl hl.1 rfl (lv_room (Nat.le_of_ble_eq_true rfl)) dX3_isStep_66 ⟨by first | exact Nat.le_of_ble_eq_true rfl | omega | (show _ ≤ _; omega) | (dsimp only [headSpec]; omega), by first | exact Nat.le_of_ble_eq_true rfl | omega | (show _ ≤ _; omega) | (dsimp only [headSpec]; omega)⟩) hS_18 (fun z_24 locs_21 hz_23 hS_22 => ?_)
              subst z_24
              refine kx_ci0 (va_runS (As := [.int (kI (ln_d (st_ln S i) k))]) (rest := [.int (kI ((ln_pos (st_ln S i) k + (24 * dn (ln_d (st_ln S i) k)))))]) ⟨hx, hb, hml, hown, hts⟩ (m_X3_across l D s.heap (ln_d (st_ln S i) k)  (by first | assumption | omega)) (va_cwS 1 hts (lw_S q2311 q2312 q89 q2313) rfl rfl rfl (by decide +kernel) ⟨Nat.le_of_ble_eq_true rfl, Nat.le_of_ble_eq_true rfl⟩) (kx_ps hK hS_22 hB) rfl rfl hl.1 rfl (lv_room (Nat.le_of_ble_eq_true rfl)) dX3_isStep_69 ⟨by first | exact Nat.le_of_ble_eq_true rfl | omega | (show _ ≤ _; omega) | (dsimp only [headSpec]; omega), by first | exact Nat.le_of_ble_eq_true rfl | omega | (show _ ≤ _; omega) | (dsimp only [headSpec]; omega)⟩) hS_22 (fun z_28 locs_25 hz_27 hS_26 => ?_)
              subst z_28
              refine kx_iadd hx hb dX3_isStep_72 ?_
              refine kx_eqi (ln_pos (st_ln S i) (k + 1)) (by rw [ln_pos]; omega) ?_
              refine lv_istore (lv' := [(7, .int (kI (ln_pos (st_ln S i) (k + 1)))), (0, .ref a), (1, .int (kI (x))), (2, .int (kI (y))), (3, .int (kI (kb (bb)))), (4, .int (kI ((i : Nat) : Int))), (5, .int (kI (ln_pos (st_ln S i) k))), (6, .int (kI ((k : Nat) : Int)))]) hx hb dX3_isStep_73 hl (by decide) rfl (fun ls hl => ?_)
              refine lv_iload_n hx hb dX3_isStep_75 rfl (lv_at hl 4 rfl) ?_
              refine kx_ifnz (tgt := 103) hx hb dX3_isStep_76 (by decide) (fun c_76_29 => ?_) (fun c_76_29 => ?_)
              · -- taken at 76
                refine kx_iconst hx hb dX3_isStep_103 ?_
                refine lv_goto (tgt := 108) hx hb dX3_isStep_104 (by decide) ?_
                refine lv_istore_n (lv' := [(3, .int (kI (1))), (7, .int (kI (ln_pos (st_ln S i) (k + 1)))), (0, .ref a), (1, .int (kI (x))), (2, .int (kI (y))), (4, .int (kI ((i : Nat) : Int))), (5, .int (kI (ln_pos (st_ln S i) k))), (6, .int (kI ((k : Nat) : Int)))]) hx hb dX3_isStep_108 rfl hl (by decide) rfl (fun ls hl => ?_)
                refine lv_iload hx hb dX3_isStep_109 (lv_at hl 1 rfl) ?_
                refine lv_istore (lv' := [(5, .int (kI (ln_pos (st_ln S i) (k + 1)))), (3, .int (kI (1))), (7, .int (kI (ln_pos (st_ln S i) (k + 1)))), (0, .ref a), (1, .int (kI (x))), (2, .int (kI (y))), (4, .int (kI ((i : Nat) : Int))), (6, .int (kI ((k : Nat) : Int)))]) hx hb dX3_isStep_111 hl (by decide) rfl (fun ls hl => ?_)
                refine lv_iinc (v := kI (((k + 1 : Nat) : Int))) (lv' := [(6, .int (kI ((k + 1 : Nat) : Int))), (5, .int (kI (ln_pos (st_ln S i) (k + 1)))), (3, .int (kI (1))), (7, .int (kI (ln_pos (st_ln S i) (k + 1)))), (0, .ref a), (1, .int (kI (x))), (2, .int (kI (y))), (4, .int (kI ((i : Nat) : Int)))]) hx hb dX3_isStep_113 hl (k := 7) rfl (kI_incN _ _) (by decide) rfl (fun ls hl => ?_)
                refine lv_goto (tgt := 28) hx hb dX3_isStep_116 (by decide) ?_
                exact ih_28  (k + 1) true (by first | assumption | omega | (simp_all; done) | grind) (by grind [ln_stepTo]) _ hS_26 (by omega) ls (lv_sub hl [4, 5, 6, 2, 7, 1, 0] rfl)
              · -- not taken at 76
                refine lv_iload hx hb dX3_isStep_79 (lv_at hl 6 rfl) ?_
                refine lv_iload_n hx hb dX3_isStep_81 rfl (lv_at hl 2 rfl) ?_
                refine kx_icmp_ne (x := ln_pos (st_ln S i) k) (y := x) (tgt := 91) hx hb dX3_isStep_82 (by decide) (by omega) (by omega) (by omega) (by omega) (fun c_82_30 => ?_) (fun c_82_30 => ?_)
                · -- taken at 82
                  refine lv_iload hx hb dX3_isStep_91 (lv_at hl 6 rfl) ?_
                  refine lv_iload_n hx hb dX3_isStep_93 rfl (lv_at hl 3 rfl) ?_
                  refine kx_icmp_ne (x := ln_pos (st_ln S i) k) (y := y) (tgt := 107) hx hb dX3_isStep_94 (by decide) (by omega) (by omega) (by omega) (by omega) (fun c_94_31 => ?_) (fun c_94_31 => ?_)
                  · -- taken at 94
                    refine kx_iconst hx hb dX3_isStep_107 ?_
                    refine lv_istore_n (lv' := [(3, .int (kI (0))), (7, .int (kI (ln_pos (st_ln S i) (k + 1)))), (0, .ref a), (1, .int (kI (x))), (2, .int (kI (y))), (4, .int (kI ((i : Nat) : Int))), (5, .int (kI (ln_pos (st_ln S i) k))), (6, .int (kI ((k : Nat) : Int)))]) hx hb dX3_isStep_108 rfl hl (by decide) rfl (fun ls hl => ?_)
                    refine lv_iload hx hb dX3_isStep_109 (lv_at hl 1 rfl) ?_
                    refine lv_istore (lv' := [(5, .int (kI (ln_pos (st_ln S i) (k + 1)))), (3, .int (kI (0))), (7, .int (kI (ln_pos (st_ln S i) (k + 1)))), (0, .ref a), (1, .int (kI (x))), (2, .int (kI (y))), (4, .int (kI ((i : Nat) : Int))), (6, .int (kI ((k : Nat) : Int)))]) hx hb dX3_isStep_111 hl (by decide) rfl (fun ls hl => ?_)
                    refine lv_iinc (v := kI (((k + 1 : Nat) : Int))) (lv' := [(6, .int (kI ((k + 1 : Nat) : Int))), (5, .int (kI (ln_pos (st_ln S i) (k + 1)))), (3, .int (kI (0))), (7, .int (kI (ln_pos (st_ln S i) (k + 1)))), (0, .ref a), (1, .int (kI (x))), (2, .int (kI (y))), (4, .int (kI ((i : Nat) : Int)))]) hx hb dX3_isStep_113 hl (k := 7) rfl (kI_incN _ _) (by decide) rfl (fun ls hl => ?_)
                    refine lv_goto (tgt := 28) hx hb dX3_isStep_116 (by decide) ?_
                    exact ih_28  (k + 1) false (by first | assumption | omega | (simp_all; done) | grind) (by grind [ln_stepTo]) _ hS_26 (by omega) ls (lv_sub hl [4, 5, 6, 2, 7, 1, 0] rfl)
                  · -- not taken at 94
                    refine lv_iload hx hb dX3_isStep_97 (lv_at hl 0 rfl) ?_
                    refine lv_iload_n hx hb dX3_isStep_99 rfl (lv_at hl 2 rfl) ?_
                    refine kx_icmp_ne (x := ln_pos (st_ln S i) (k + 1)) (y := x) (tgt := 107) hx hb dX3_isStep_100 (by decide) (by omega) (by omega) (by omega) (by omega) (fun c_100_32 => ?_) (fun c_100_32 => ?_)
                    · -- taken at 100
                      refine kx_iconst hx hb dX3_isStep_107 ?_
                      refine lv_istore_n (lv' := [(3, .int (kI (0))), (7, .int (kI (ln_pos (st_ln S i) (k + 1)))), (0, .ref a), (1, .int (kI (x))), (2, .int (kI (y))), (4, .int (kI ((i : Nat) : Int))), (5, .int (kI (ln_pos (st_ln S i) k))), (6, .int (kI ((k : Nat) : Int)))]) hx hb dX3_isStep_108 rfl hl (by decide) rfl (fun ls hl => ?_)
                      refine lv_iload hx hb dX3_isStep_109 (lv_at hl 1 rfl) ?_
                      refine lv_istore (lv' := [(5, .int (kI (ln_pos (st_ln S i) (k + 1)))), (3, .int (kI (0))), (7, .int (kI (ln_pos (st_ln S i) (k + 1)))), (0, .ref a), (1, .int (kI (x))), (2, .int (kI (y))), (4, .int (kI ((i : Nat) : Int))), (6, .int (kI ((k : Nat) : Int)))]) hx hb dX3_isStep_111 hl (by decide) rfl (fun ls hl => ?_)
                      refine lv_iinc (v := kI (((k + 1 : Nat) : Int))) (lv' := [(6, .int (kI ((k + 1 : Nat) : Int))), (5, .int (kI (ln_pos (st_ln S i) (k + 1)))), (3, .int (kI (0))), (7, .int (kI (ln_pos (st_ln S i) (k + 1)))), (0, .ref a), (1, .int (kI (x))), (2, .int (kI (y))), (4, .int (kI ((i : Nat) : Int)))]) hx hb dX3_isStep_113 hl (k := 7) rfl (kI_incN _ _) (by decide) rfl (fun ls hl => ?_)
                      refine lv_goto (tgt := 28) hx hb dX3_isStep_116 (by decide) ?_
                      exact ih_28  (k + 1) false (by first | assumption | omega | (simp_all; done) | grind) (by grind [ln_stepTo]) _ hS_26 (by omega) ls (lv_sub hl [4, 5, 6, 2, 7, 1, 0] rfl)
                    · -- not taken at 100
                      refine kx_iconst hx hb dX3_isStep_103 ?_
                      refine lv_goto (tgt := 108) hx hb dX3_isStep_104 (by decide) ?_
                      refine lv_istore_n (lv' := [(3, .int (kI (1))), (7, .int (kI (ln_pos (st_ln S i) (k + 1)))), (0, .ref a), (1, .int (kI (x))), (2, .int (kI (y))), (4, .int (kI ((i : Nat) : Int))), (5, .int (kI (ln_pos (st_ln S i) k))), (6, .int (kI ((k : Nat) : Int)))]) hx hb dX3_isStep_108 rfl hl (by decide) rfl (fun ls hl => ?_)
                      refine lv_iload hx hb dX3_isStep_109 (lv_at hl 1 rfl) ?_
                      refine lv_istore (lv' := [(5, .int (kI (ln_pos (st_ln S i) (k + 1)))), (3, .int (kI (1))), (7, .int (kI (ln_pos (st_ln S i) (k + 1)))), (0, .ref a), (1, .int (kI (x))), (2, .int (kI (y))), (4, .int (kI ((i : Nat) : Int))), (6, .int (kI ((k : Nat) : Int)))]) hx hb dX3_isStep_111 hl (by decide) rfl (fun ls hl => ?_)
                      refine lv_iinc (v := kI (((k + 1 : Nat) : Int))) (lv' := [(6, .int (kI ((k + 1 : Nat) : Int))), (5, .int (kI (ln_pos (st_ln S i) (k + 1)))), (3, .int (kI (1))), (7, .int (kI (ln_pos (st_ln S i) (k + 1)))), (0, .ref a), (1, .int (kI (x))), (2, .int (kI (y))), (4, .int (kI ((i : Nat) : Int)))]) hx hb dX3_isStep_113 hl (k := 7) rfl (kI_incN _ _) (by decide) rfl (fun ls hl => ?_)
                      refine lv_goto (tgt := 28) hx hb dX3_isStep_116 (by decide) ?_
                      exact ih_28  (k + 1) true (by first | assumption | omega | (simp_all; done) | grind) (by grind [ln_stepTo]) _ hS_26 (by omega) ls (lv_sub hl [4, 5, 6, 2, 7, 1, 0] rfl)
                · -- not taken at 82
                  refine lv_iload hx hb dX3_isStep_85 (lv_at hl 0 rfl) ?_
                  refine lv_iload_n hx hb dX3_isStep_87 rfl (lv_at hl 3 rfl) ?_
                  refine kx_icmp_eq (x := ln_pos (st_ln S i) (k + 1)) (y := y) (tgt := 103) hx hb dX3_isStep_88 (by decide) (by omega) (by omega) (by omega) (by omega) (fun c_88_33 => ?_) (fun c_88_33 => ?_)
                  · -- taken at 88
                    refine kx_iconst hx hb dX3_isStep_103 ?_
                    refine lv_goto (tgt := 108) hx hb dX3_isStep_104 (by decide) ?_
                    refine lv_istore_n (lv' := [(3, .int (kI (1))), (7, .int (kI (ln_pos (st_ln S i) (k + 1)))), (0, .ref a), (1, .int (kI (x))), (2, .int (kI (y))), (4, .int (kI ((i : Nat) : Int))), (5, .int (kI (ln_pos (st_ln S i) k))), (6, .int (kI ((k : Nat) : Int)))]) hx hb dX3_isStep_108 rfl hl (by decide) rfl (fun ls hl => ?_)
                    refine lv_iload hx hb dX3_isStep_109 (lv_at hl 1 rfl) ?_
                    refine lv_istore (lv' := [(5, .int (kI (ln_pos (st_ln S i) (k + 1)))), (3, .int (kI (1))), (7, .int (kI (ln_pos (st_ln S i) (k + 1)))), (0, .ref a), (1, .int (kI (x))), (2, .int (kI (y))), (4, .int (kI ((i : Nat) : Int))), (6, .int (kI ((k : Nat) : Int)))]) hx hb dX3_isStep_111 hl (by decide) rfl (fun ls hl => ?_)
                    refine lv_iinc (v := kI (((k + 1 : Nat) : Int))) (lv' := [(6, .int (kI ((k + 1 : Nat) : Int))), (5, .int (kI (ln_pos (st_ln S i) (k + 1)))), (3, .int (kI (1))), (7, .int (kI (ln_pos (st_ln S i) (k + 1)))), (0, .ref a), (1, .int (kI (x))), (2, .int (kI (y))), (4, .int (kI ((i : Nat) : Int)))]) hx hb dX3_isStep_113 hl (k := 7) rfl (kI_incN _ _) (by decide) rfl (fun ls hl => ?_)
                    refine lv_goto (tgt := 28) hx hb dX3_isStep_116 (by decide) ?_
                    exact ih_28  (k + 1) true (by first | assumption | omega | (simp_all; done) | grind) (by grind [ln_stepTo]) _ hS_26 (by omega) ls (lv_sub hl [4, 5, 6, 2, 7, 1, 0] rfl)
                  · -- not taken at 88
                    refine lv_iload hx hb dX3_isStep_91 (lv_at hl 6 rfl) ?_
                    refine lv_iload_n hx hb dX3_isStep_93 rfl (lv_at hl 3 rfl) ?_
                    refine kx_icmp_ne (x := ln_pos (st_ln S i) k) (y := y) (tgt := 107) hx hb dX3_isStep_94 (by decide) (by omega) (by omega) (by omega) (by omega) (fun c_94_34 => ?_) (fun c_94_34 => ?_)
                    · -- taken at 94
                      refine kx_iconst hx hb dX3_isStep_107 ?_
                      refine lv_istore_n (lv' := [(3, .int (kI (0))), (7, .int (kI (ln_pos (st_ln S i) (k + 1)))), (0, .ref a), (1, .int (kI (x))), (2, .int (kI (y))), (4, .int (kI ((i : Nat) : Int))), (5, .int (kI (ln_pos (st_ln S i) k))), (6, .int (kI ((k : Nat) : Int)))]) hx hb dX3_isStep_108 rfl hl (by decide) rfl (fun ls hl => ?_)
                      refine lv_iload hx hb dX3_isStep_109 (lv_at hl 1 rfl) ?_
                      refine lv_istore (lv' := [(5, .int (kI (ln_pos (st_ln S i) (k + 1)))), (3, .int (kI (0))), (7, .int (kI (ln_pos (st_ln S i) (k + 1)))), (0, .ref a), (1, .int (kI (x))), (2, .int (kI (y))), (4, .int (kI ((i : Nat) : Int))), (6, .int (kI ((k : Nat) : Int)))]) hx hb dX3_isStep_111 hl (by decide) rfl (fun ls hl => ?_)
                      refine lv_iinc (v := kI (((k + 1 : Nat) : Int))) (lv' := [(6, .int (kI ((k + 1 : Nat) : Int))), (5, .int (kI (ln_pos (st_ln S i) (k + 1)))), (3, .int (kI (0))), (7, .int (kI (ln_pos (st_ln S i) (k + 1)))), (0, .ref a), (1, .int (kI (x))), (2, .int (kI (y))), (4, .int (kI ((i : Nat) : Int)))]) hx hb dX3_isStep_113 hl (k := 7) rfl (kI_incN _ _) (by decide) rfl (fun ls hl => ?_)
                      refine lv_goto (tgt := 28) hx hb dX3_isStep_116 (by decide) ?_
                      exact ih_28  (k + 1) false (by first | assumption | omega | (simp_all; done) | grind) (by grind [ln_stepTo]) _ hS_26 (by omega) ls (lv_sub hl [4, 5, 6, 2, 7, 1, 0] rfl)
                    · -- not taken at 94
                      refine lv_iload hx hb dX3_isStep_97 (lv_at hl 0 rfl) ?_
                      refine lv_iload_n hx hb dX3_isStep_99 rfl (lv_at hl 2 rfl) ?_
                      refine kx_icmp_ne (x := ln_pos (st_ln S i) (k + 1)) (y := x) (tgt := 107) hx hb dX3_isStep_100 (by decide) (by omega) (by omega) (by omega) (by omega) (fun c_100_35 => ?_) (fun c_100_35 => ?_)
                      · -- taken at 100
                        refine kx_iconst hx hb dX3_isStep_107 ?_
                        refine lv_istore_n (lv' := [(3, .int (kI (0))), (7, .int (kI (ln_pos (st_ln S i) (k + 1)))), (0, .ref a), (1, .int (kI (x))), (2, .int (kI (y))), (4, .int (kI ((i : Nat) : Int))), (5, .int (kI (ln_pos (st_ln S i) k))), (6, .int (kI ((k : Nat) : Int)))]) hx hb dX3_isStep_108 rfl hl (by decide) rfl (fun ls hl => ?_)
                        refine lv_iload hx hb dX3_isStep_109 (lv_at hl 1 rfl) ?_
                        refine lv_istore (lv' := [(5, .int (kI (ln_pos (st_ln S i) (k + 1)))), (3, .int (kI (0))), (7, .int (kI (ln_pos (st_ln S i) (k + 1)))), (0, .ref a), (1, .int (kI (x))), (2, .int (kI (y))), (4, .int (kI ((i : Nat) : Int))), (6, .int (kI ((k : Nat) : Int)))]) hx hb dX3_isStep_111 hl (by decide) rfl (fun ls hl => ?_)
                        refine lv_iinc (v := kI (((k + 1 : Nat) : Int))) (lv' := [(6, .int (kI ((k + 1 : Nat) : Int))), (5, .int (kI (ln_pos (st_ln S i) (k + 1)))), (3, .int (kI (0))), (7, .int (kI (ln_pos (st_ln S i) (k + 1)))), (0, .ref a), (1, .int (kI (x))), (2, .int (kI (y))), (4, .int (kI ((i : Nat) : Int)))]) hx hb dX3_isStep_113 hl (k := 7) rfl (kI_incN _ _) (by decide) rfl (fun ls hl => ?_)
                        refine lv_goto (tgt := 28) hx hb dX3_isStep_116 (by decide) ?_
                        exact ih_28  (k + 1) false (by first | assumption | omega | (simp_all; done) | grind) (by grind [ln_stepTo]) _ hS_26 (by omega) ls (lv_sub hl [4, 5, 6, 2, 7, 1, 0] rfl)
                      · -- not taken at 100
                        refine kx_iconst hx hb dX3_isStep_103 ?_
                        refine lv_goto (tgt := 108) hx hb dX3_isStep_104 (by decide) ?_
                        refine lv_istore_n (lv' := [(3, .int (kI (1))), (7, .int (kI (ln_pos (st_ln S i) (k + 1)))), (0, .ref a), (1, .int (kI (x))), (2, .int (kI (y))), (4, .int (kI ((i : Nat) : Int))), (5, .int (kI (ln_pos (st_ln S i) k))), (6, .int (kI ((k : Nat) : Int)))]) hx hb dX3_isStep_108 rfl hl (by decide) rfl (fun ls hl => ?_)
                        refine lv_iload hx hb dX3_isStep_109 (lv_at hl 1 rfl) ?_
                        refine lv_istore (lv' := [(5, .int (kI (ln_pos (st_ln S i) (k + 1)))), (3, .int (kI (1))), (7, .int (kI (ln_pos (st_ln S i) (k + 1)))), (0, .ref a), (1, .int (kI (x))), (2, .int (kI (y))), (4, .int (kI ((i : Nat) : Int))), (6, .int (kI ((k : Nat) : Int)))]) hx hb dX3_isStep_111 hl (by decide) rfl (fun ls hl => ?_)
                        refine lv_iinc (v := kI (((k + 1 : Nat) : Int))) (lv' := [(6, .int (kI ((k + 1 : Nat) : Int))), (5, .int (kI (ln_pos (st_ln S i) (k + 1)))), (3, .int (kI (1))), (7, .int (kI (ln_pos (st_ln S i) (k + 1)))), (0, .ref a), (1, .int (kI (x))), (2, .int (kI (y))), (4, .int (kI ((i : Nat) : Int)))]) hx hb dX3_isStep_113 hl (k := 7) rfl (kI_incN _ _) (by decide) rfl (fun ls hl => ?_)
                        refine lv_goto (tgt := 28) hx hb dX3_isStep_116 (by decide) ?_
                        exact ih_28  (k + 1) true (by first | assumption | omega | (simp_all; done) | grind) (by grind [ln_stepTo]) _ hS_26 (by omega) ls (lv_sub hl [4, 5, 6, 2, 7, 1, 0] rfl)
        exact lp_28_x_7 (ln_n (st_ln S i) - 0 + 1) 0 b0 (by first | assumption | omega | (simp_all; done) | grind) (by simp [ln_stepTo]) _ hS_4 (Nat.lt_succ_self _) ls (lv_sub hl [2, 3, 4, 5, 6, 1, 0] rfl)
  exact lp_5_x_1 (S.length - 0 + 1) 0 false (by first | assumption | omega | (simp_all; done) | grind) (rfl) _ hS (Nat.lt_succ_self _) ls (lv_sub hl [2, 3, 4, 1, 0] rfl)

set_option maxHeartbeats 4000000 in
set_option maxRecDepth 100000 in
theorem m_X3_whyNot (l : Launch) (D : kG) (H : Heap) (a : Nat) (fs : List Value) (ra : Nat) (g : Nat → Int) (S : Ls) (gap : Int) (ln : Nat) (d : Int) (hO_a : kO D H a 2 fs) (hf_a_0 : fs[0]? = some (.ref ra)) (hA_ra : kAi D H ra 514 g) (hM : MRow g S gap) (hok : LsOK S gap) (hln : ln < S.length) (hd : 0 ≤ d ∧ d ≤ 7) : Met l yX3_whyNot (ws_ yX3_whyNot cX3_whyNot 6 (some .int)) ({ frames := 5, cells := 0, slots := 0, locals := 108 } : Room) (kPre D H [.ref a, .int (kI ((ln : Nat) : Int)), .int (kI (d))]) (kQi (fun (r : Int) H' => H' = H ∧ r = st_whyNot S ln d) kNO) (0) (0) (kNO) := by
  refine Met.ofW (cc := cX3_whyNot) (maxL := 6) (ret := (some .int)) (by decide) rfl ?_
  intro p e s m args below meth c s₁ B hml hv
  obtain ⟨rfl, hH, hK⟩ := hv
  subst hH
  have hx := B.exec
  have hb := B.bytes
  have hr := B.returns
  have hts := atoms_spec (ws := ws_ yX3_whyNot cX3_whyNot 6 (some .int)) B.pre
  have hts : ∀ w ∈ lw_all, w.before _ s = true := fun w h => hts w (List.mem_cons_of_mem _ h)
  have hown : s.vm.findClass RX3 = some m.cls := findClass_of_methodNamed B.named
  have hlk := B.notSynchronized
  have hS : va_S kNO s.heap s.heap [] := va_S.rf
  have hB : ∀ q, kNO q → kBase D ≤ q := fun _ h => h.elim
  have hl := lv_entry ([.ref a, .int (kI ((ln : Nat) : Int)), .int (kI (d))]) (n := 6) (Nat.le_of_ble_eq_true rfl)
  rw [lg_entry_eq]
  generalize (lg_sl ([.ref a, .int (kI ((ln : Nat) : Int)), .int (kI (d))]) ++ List.replicate (6 - (lg_sl ([.ref a, .int (kI ((ln : Nat) : Int)), .int (kI (d))])).length) Slot.unset).toArray = ls at hl ⊢
  have hl : lv_has ls 6 [(0, .ref a), (1, .int (kI ((ln : Nat) : Int))), (2, .int (kI (d)))] := hl
  have hL := hok.ln hln
  have hL60 := hL.n
  have hL8 := hok.1
  have he : 0 ≤ ln_end (st_ln S ln) ∧ ln_end (st_ln S ln) ≤ 383 := hL.pos (Nat.le_refl _)
  have hbg := hL.bg
  have hnx : -1 ≤ nx (ln_end (st_ln S ln)) d ∧ nx (ln_end (st_ln S ln)) d ≤ 383 := by unfold nx; split <;> omega
  have how := st_owner_rng S (nx (ln_end (st_ln S ln)) d)
  have hac := ac_rng d
  have hdn := dn_rng d
  refine lv_aload_n hx hb dX3_whyNot_0 rfl (lv_at hl 0 rfl) ?_
  refine lv_iload_n hx hb dX3_whyNot_1 rfl (lv_at hl 1 rfl) ?_
  refine kx_cb0 (va_runV (As := [.int (kI ((ln : Nat) : Int))]) (rest := []) ⟨hx, hb, hml, hown, hts⟩ (m_X3_closes l D s.heap a fs ra g S gap ln hO_a hf_a_0 hA_ra (by first | assumption | omega) (by first | assumption | omega) (by first | assumption | omega)) (cwV 1 hts (lw_V q2322 q2324 qs43 q89 q2325) rfl rfl rfl (by decide +kernel) ⟨Nat.le_of_ble_eq_true rfl, Nat.le_of_ble_eq_true rfl⟩) (kx_pv hK hS hB (kx_rc hK hO_a (C := RX3) (T := TX3) (N := 13) rfl)) rfl rfl hl.1 rfl (lv_room (Nat.le_of_ble_eq_true rfl)) dX3_whyNot_2 ⟨by first | exact Nat.le_of_ble_eq_true rfl | omega | (show _ ≤ _; omega) | (dsimp only [headSpec]; omega), by first | exact Nat.le_of_ble_eq_true rfl | omega | (show _ ≤ _; omega) | (dsimp only [headSpec]; omega)⟩) hS (fun z_4 locs_1 hz_3 hS_2 => ?_)
  subst z_4
  refine kx_ifz (tgt := 10) hx hb dX3_whyNot_5 (by decide) (fun c_5_5 => ?_) (fun c_5_5 => ?_)
  · -- taken at 5
    refine lv_aload_n hx hb dX3_whyNot_10 rfl (lv_at hl 0 rfl) ?_
    refine lv_iload_n hx hb dX3_whyNot_11 rfl (lv_at hl 1 rfl) ?_
    refine kx_iconst hx hb dX3_whyNot_12 ?_
    refine kx_ci0 (va_runV (As := [.int (kI ((ln : Nat) : Int)), .int (kI (2))]) (rest := []) ⟨hx, hb, hml, hown, hts⟩ (of_n l D s.heap a fs ra g S gap ln hO_a hf_a_0 hA_ra (by first | assumption | omega) (by first | assumption | omega) (by first | assumption | omega)) (cwV 2 hts (lw_V q2304 q2306 qs40 q89 q2307) rfl rfl rfl (by decide +kernel) ⟨Nat.le_of_ble_eq_true rfl, Nat.le_of_ble_eq_true rfl⟩) (kx_pv hK hS_2 hB (kx_rc hK hO_a (C := RX3) (T := TX3) (N := 13) rfl)) rfl rfl hl.1 rfl (lv_room (Nat.le_of_ble_eq_true rfl)) dX3_whyNot_13 ⟨by first | exact Nat.le_of_ble_eq_true rfl | omega | (show _ ≤ _; omega) | (dsimp only [headSpec]; omega), by first | exact Nat.le_of_ble_eq_true rfl | omega | (show _ ≤ _; omega) | (dsimp only [headSpec]; omega)⟩) hS_2 (fun z_9 locs_6 hz_8 hS_7 => ?_)
    subst z_9
    refine kx_bipush hx hb (by decide) dX3_whyNot_16 ?_
    refine kx_icmp_ne (x := ((ln_n (st_ln S ln) : Nat) : Int)) (y := 60) (tgt := 23) hx hb dX3_whyNot_18 (by decide) (by omega) (by omega) (by omega) (by omega) (fun c_18_10 => ?_) (fun c_18_10 => ?_)
    · -- taken at 18
      refine lv_aload_n hx hb dX3_whyNot_23 rfl (lv_at hl 0 rfl) ?_
      refine lv_iload_n hx hb dX3_whyNot_24 rfl (lv_at hl 1 rfl) ?_
      refine kx_ci0 (va_runV (As := [.int (kI ((ln : Nat) : Int))]) (rest := []) ⟨hx, hb, hml, hown, hts⟩ (m_X3_last l D s.heap a fs ra g S gap ln hO_a hf_a_0 hA_ra (by first | assumption | omega) (by first | assumption | omega) (by first | assumption | omega)) (cwV 1 hts (lw_V q2326 q2328 qs44 q89 q2329) rfl rfl rfl (by decide +kernel) ⟨Nat.le_of_ble_eq_true rfl, Nat.le_of_ble_eq_true rfl⟩) (kx_pv hK hS_7 hB (kx_rc hK hO_a (C := RX3) (T := TX3) (N := 13) rfl)) rfl rfl hl.1 rfl (lv_room (Nat.le_of_ble_eq_true rfl)) dX3_whyNot_25 ⟨by first | exact Nat.le_of_ble_eq_true rfl | omega | (show _ ≤ _; omega) | (dsimp only [headSpec]; omega), by first | exact Nat.le_of_ble_eq_true rfl | omega | (show _ ≤ _; omega) | (dsimp only [headSpec]; omega)⟩) hS_7 (fun z_14 locs_11 hz_13 hS_12 => ?_)
      subst z_14
      refine lv_istore_n (lv' := [(3, .int (kI (ln_end (st_ln S ln)))), (0, .ref a), (1, .int (kI ((ln : Nat) : Int))), (2, .int (kI (d)))]) hx hb dX3_whyNot_28 rfl hl (by decide) rfl (fun ls hl => ?_)
      refine lv_iload_n hx hb dX3_whyNot_29 rfl (lv_at hl 0 rfl) ?_
      refine lv_iload_n hx hb dX3_whyNot_30 rfl (lv_at hl 3 rfl) ?_
      refine kx_ci0 (va_runS (As := [.int (kI (ln_end (st_ln S ln))), .int (kI (d))]) (rest := []) ⟨hx, hb, hml, hown, hts⟩ (m_X3_next l D s.heap (ln_end (st_ln S ln)) d  (by first | assumption | omega) (by first | assumption | omega)) (va_cwS 2 hts (lw_S q2334 q2335 q89 q2336) rfl rfl rfl (by decide +kernel) ⟨Nat.le_of_ble_eq_true rfl, Nat.le_of_ble_eq_true rfl⟩) (kx_ps hK hS_12 hB) rfl rfl hl.1 rfl (lv_room (Nat.le_of_ble_eq_true rfl)) dX3_whyNot_31 ⟨by first | exact Nat.le_of_ble_eq_true rfl | omega | (show _ ≤ _; omega) | (dsimp only [headSpec]; omega), by first | exact Nat.le_of_ble_eq_true rfl | omega | (show _ ≤ _; omega) | (dsimp only [headSpec]; omega)⟩) hS_12 (fun z_18 locs_15 hz_17 hS_16 => ?_)
      subst z_18
      refine lv_istore (lv' := [(4, .int (kI (nx (ln_end (st_ln S ln)) d))), (3, .int (kI (ln_end (st_ln S ln)))), (0, .ref a), (1, .int (kI ((ln : Nat) : Int))), (2, .int (kI (d)))]) hx hb dX3_whyNot_34 hl (by decide) rfl (fun ls hl => ?_)
      refine lv_iload hx hb dX3_whyNot_36 (lv_at hl 0 rfl) ?_
      refine kx_iconst hx hb dX3_whyNot_38 ?_
      refine kx_icmp_ne (x := nx (ln_end (st_ln S ln)) d) (y := (-1)) (tgt := 44) hx hb dX3_whyNot_39 (by decide) (by omega) (by omega) (by omega) (by omega) (fun c_39_19 => ?_) (fun c_39_19 => ?_)
      · -- taken at 39
        refine lv_iload hx hb dX3_whyNot_44 (lv_at hl 0 rfl) ?_
        refine lv_aload_n hx hb dX3_whyNot_46 rfl (lv_at hl 2 rfl) ?_
        refine lv_iload_n hx hb dX3_whyNot_47 rfl (lv_at hl 3 rfl) ?_
        refine kx_iconst hx hb dX3_whyNot_48 ?_
        refine kx_ci0 (va_runV (As := [.int (kI ((ln : Nat) : Int)), .int (kI (1))]) (rest := [.int (kI (nx (ln_end (st_ln S ln)) d))]) ⟨hx, hb, hml, hown, hts⟩ (of_bg l D s.heap a fs ra g S gap ln hO_a hf_a_0 hA_ra (by first | assumption | omega) (by first | assumption | omega) (by first | assumption | omega)) (cwV 2 hts (lw_V q2304 q2306 qs40 q89 q2307) rfl rfl rfl (by decide +kernel) ⟨Nat.le_of_ble_eq_true rfl, Nat.le_of_ble_eq_true rfl⟩) (kx_pv hK hS_16 hB (kx_rc hK hO_a (C := RX3) (T := TX3) (N := 13) rfl)) rfl rfl hl.1 rfl (lv_room (Nat.le_of_ble_eq_true rfl)) dX3_whyNot_49 ⟨by first | exact Nat.le_of_ble_eq_true rfl | omega | (show _ ≤ _; omega) | (dsimp only [headSpec]; omega), by first | exact Nat.le_of_ble_eq_true rfl | omega | (show _ ≤ _; omega) | (dsimp only [headSpec]; omega)⟩) hS_16 (fun z_23 locs_20 hz_22 hS_21 => ?_)
        subst z_23
        refine kx_icmp_ne (x := nx (ln_end (st_ln S ln)) d) (y := ln_bg (st_ln S ln)) (tgt := 69) hx hb dX3_whyNot_52 (by decide) (by omega) (by omega) (by omega) (by omega) (fun c_52_24 => ?_) (fun c_52_24 => ?_)
        · -- taken at 52
          refine kx_iconst hx hb dX3_whyNot_69 ?_
          refine lv_istore (lv' := [(5, .int (kI (0))), (4, .int (kI (nx (ln_end (st_ln S ln)) d))), (3, .int (kI (ln_end (st_ln S ln)))), (0, .ref a), (1, .int (kI ((ln : Nat) : Int))), (2, .int (kI (d)))]) hx hb dX3_whyNot_70 hl (by decide) rfl (fun ls hl => ?_)
          refine lv_aload_n hx hb dX3_whyNot_72 rfl (lv_at hl 3 rfl) ?_
          refine lv_iload hx hb dX3_whyNot_73 (lv_at hl 1 rfl) ?_
          refine kx_ci0 (va_runV (As := [.int (kI (nx (ln_end (st_ln S ln)) d))]) (rest := []) ⟨hx, hb, hml, hown, hts⟩ (m_X3_owner l D s.heap a fs ra g S gap (nx (ln_end (st_ln S ln)) d) hO_a hf_a_0 hA_ra (by first | assumption | omega) (by first | assumption | omega) (by first | assumption | omega)) (cwV 1 hts (lw_V q2300 q2302 qs39 q89 q2303) rfl rfl rfl (by decide +kernel) ⟨Nat.le_of_ble_eq_true rfl, Nat.le_of_ble_eq_true rfl⟩) (kx_pv hK hS_21 hB (kx_rc hK hO_a (C := RX3) (T := TX3) (N := 13) rfl)) rfl rfl hl.1 rfl (lv_room (Nat.le_of_ble_eq_true rfl)) dX3_whyNot_75 ⟨by first | exact Nat.le_of_ble_eq_true rfl | omega | (show _ ≤ _; omega) | (dsimp only [headSpec]; omega), by first | exact Nat.le_of_ble_eq_true rfl | omega | (show _ ≤ _; omega) | (dsimp only [headSpec]; omega)⟩) hS_21 (fun z_28 locs_25 hz_27 hS_26 => ?_)
          subst z_28
          refine kx_iconst hx hb dX3_whyNot_78 ?_
          refine kx_icmp_eq (x := st_owner S (nx (ln_end (st_ln S ln)) d)) (y := (-1)) (tgt := 89) hx hb dX3_whyNot_79 (by decide) (by omega) (by omega) (by omega) (by omega) (fun c_79_29 => ?_) (fun c_79_29 => ?_)
          · -- taken at 79
            refine lv_iload_n hx hb dX3_whyNot_89 rfl (lv_at hl 5 rfl) ?_
            refine kx_iconst hx hb dX3_whyNot_90 ?_
            refine kx_irem (x := d) (y := 2) hx hb (by omega) (by omega) (by omega) (by omega) dX3_whyNot_91 ?_
            refine kx_iconst hx hb dX3_whyNot_92 ?_
            refine kx_icmp_ne (x := (d % 2)) (y := 1) (tgt := 122) hx hb dX3_whyNot_93 (by decide) (by omega) (by omega) (by omega) (by omega) (fun c_93_30 => ?_) (fun c_93_30 => ?_)
            · -- taken at 93
              refine kx_iconst hx hb dX3_whyNot_122 ?_
              exact kx_iret (z := 0) hx hb hr hlk (⟨rfl, by unfold st_whyNot; grind⟩) hS_26 dX3_whyNot_123
            · -- not taken at 93
              refine lv_aload_n hx hb dX3_whyNot_96 rfl (lv_at hl 3 rfl) ?_
              refine lv_iload_n hx hb dX3_whyNot_97 rfl (lv_at hl 2 rfl) ?_
              refine lv_iload_n hx hb dX3_whyNot_98 rfl (lv_at hl 5 rfl) ?_
              refine kx_ci0 (va_runS (As := [.int (kI (d))]) (rest := [.int (kI (ln_end (st_ln S ln))), .ref a]) ⟨hx, hb, hml, hown, hts⟩ (m_X3_across l D s.heap d  (by first | assumption | omega)) (va_cwS 1 hts (lw_S q2311 q2312 q89 q2313) rfl rfl rfl (by decide +kernel) ⟨Nat.le_of_ble_eq_true rfl, Nat.le_of_ble_eq_true rfl⟩) (kx_ps hK hS_26 hB) rfl rfl hl.1 rfl (lv_room (Nat.le_of_ble_eq_true rfl)) dX3_whyNot_99 ⟨by first | exact Nat.le_of_ble_eq_true rfl | omega | (show _ ≤ _; omega) | (dsimp only [headSpec]; omega), by first | exact Nat.le_of_ble_eq_true rfl | omega | (show _ ≤ _; omega) | (dsimp only [headSpec]; omega)⟩) hS_26 (fun z_34 locs_31 hz_33 hS_32 => ?_)
              subst z_34
              refine kx_iadd hx hb dX3_whyNot_102 ?_
              refine lv_iload_n hx hb dX3_whyNot_103 rfl (lv_at hl 2 rfl) ?_
              refine kx_bipush hx hb (by decide) dX3_whyNot_104 ?_
              refine lv_iload_n hx hb dX3_whyNot_106 rfl (lv_at hl 5 rfl) ?_
              refine kx_ci0 (va_runS (As := [.int (kI (d))]) (rest := [.int (kI (24)), .int (kI (ln_end (st_ln S ln))), .int (kI ((ln_end (st_ln S ln) + ac d))), .ref a]) ⟨hx, hb, hml, hown, hts⟩ (m_X3_down l D s.heap d  (by first | assumption | omega)) (va_cwS 1 hts (lw_S q2308 q2309 q89 q2310) rfl rfl rfl (by decide +kernel) ⟨Nat.le_of_ble_eq_true rfl, Nat.le_of_ble_eq_true rfl⟩) (kx_ps hK hS_32 hB) rfl rfl hl.1 rfl (lv_room (Nat.le_of_ble_eq_true rfl)) dX3_whyNot_107 ⟨by first | exact Nat.le_of_ble_eq_true rfl | omega | (show _ ≤ _; omega) | (dsimp only [headSpec]; omega), by first | exact Nat.le_of_ble_eq_true rfl | omega | (show _ ≤ _; omega) | (dsimp only [headSpec]; omega)⟩) hS_32 (fun z_38 locs_35 hz_37 hS_36 => ?_)
              subst z_38
              refine kx_imul hx hb dX3_whyNot_110 ?_
              refine kx_iadd hx hb dX3_whyNot_111 ?_
              refine kx_eqi (ln_end (st_ln S ln) + 24 * dn d) (rfl) ?_
              refine kx_cb0 (va_runV (As := [.int (kI ((ln_end (st_ln S ln) + ac d))), .int (kI (ln_end (st_ln S ln) + 24 * dn d))]) (rest := []) ⟨hx, hb, hml, hown, hts⟩ (m_X3_isStep l D s.heap a fs ra g S gap ((ln_end (st_ln S ln) + ac d)) (ln_end (st_ln S ln) + 24 * dn d) hO_a hf_a_0 hA_ra (by first | assumption | omega) (by first | assumption | omega) (by first | assumption | omega) (by first | assumption | omega)) (cwV 2 hts (lw_V q2337 q2339 qs46 q89 q2340) rfl rfl rfl (by decide +kernel) ⟨Nat.le_of_ble_eq_true rfl, Nat.le_of_ble_eq_true rfl⟩) (kx_pv hK hS_36 hB (kx_rc hK hO_a (C := RX3) (T := TX3) (N := 13) rfl)) rfl rfl hl.1 rfl (lv_room (Nat.le_of_ble_eq_true rfl)) dX3_whyNot_112 ⟨by first | exact Nat.le_of_ble_eq_true rfl | omega | (show _ ≤ _; omega) | (dsimp only [headSpec]; omega), by first | exact Nat.le_of_ble_eq_true rfl | omega | (show _ ≤ _; omega) | (dsimp only [headSpec]; omega)⟩) hS_36 (fun z_42 locs_39 hz_41 hS_40 => ?_)
              subst z_42
              refine kx_ifz (tgt := 122) hx hb dX3_whyNot_115 (by decide) (fun c_115_43 => ?_) (fun c_115_43 => ?_)
              · -- taken at 115
                refine kx_iconst hx hb dX3_whyNot_122 ?_
                exact kx_iret (z := 0) hx hb hr hlk (⟨rfl, by unfold st_whyNot; grind⟩) hS_40 dX3_whyNot_123
              · -- not taken at 115
                refine kx_iconst hx hb dX3_whyNot_118 ?_
                refine lv_goto (tgt := 123) hx hb dX3_whyNot_119 (by decide) ?_
                exact kx_iret (z := 5) hx hb hr hlk (⟨rfl, by unfold st_whyNot; grind⟩) hS_40 dX3_whyNot_123
          · -- not taken at 79
            refine lv_iload hx hb dX3_whyNot_82 (lv_at hl 0 rfl) ?_
            refine kx_if_ne (x := 0) (tgt := 89) hx hb dX3_whyNot_84 (by decide) (by omega) (by omega) (fun c_84_44 => ?_) (fun c_84_44 => ?_)
            · -- taken at 84
              exfalso; omega
            · -- not taken at 84
              refine kx_iconst hx hb dX3_whyNot_87 ?_
              exact kx_iret (z := 4) hx hb hr hlk (⟨rfl, by unfold st_whyNot; grind⟩) hS_26 dX3_whyNot_88
        · -- not taken at 52
          refine lv_aload_n hx hb dX3_whyNot_55 rfl (lv_at hl 2 rfl) ?_
          refine lv_iload_n hx hb dX3_whyNot_56 rfl (lv_at hl 3 rfl) ?_
          refine kx_iconst hx hb dX3_whyNot_57 ?_
          refine kx_ci0 (va_runV (As := [.int (kI ((ln : Nat) : Int)), .int (kI (2))]) (rest := []) ⟨hx, hb, hml, hown, hts⟩ (of_n l D s.heap a fs ra g S gap ln hO_a hf_a_0 hA_ra (by first | assumption | omega) (by first | assumption | omega) (by first | assumption | omega)) (cwV 2 hts (lw_V q2304 q2306 qs40 q89 q2307) rfl rfl rfl (by decide +kernel) ⟨Nat.le_of_ble_eq_true rfl, Nat.le_of_ble_eq_true rfl⟩) (kx_pv hK hS_21 hB (kx_rc hK hO_a (C := RX3) (T := TX3) (N := 13) rfl)) rfl rfl hl.1 rfl (lv_room (Nat.le_of_ble_eq_true rfl)) dX3_whyNot_58 ⟨by first | exact Nat.le_of_ble_eq_true rfl | omega | (show _ ≤ _; omega) | (dsimp only [headSpec]; omega), by first | exact Nat.le_of_ble_eq_true rfl | omega | (show _ ≤ _; omega) | (dsimp only [headSpec]; omega)⟩) hS_21 (fun z_48 locs_45 hz_47 hS_46 => ?_)
          subst z_48
          refine kx_iconst hx hb dX3_whyNot_61 ?_
          refine kx_icmp_lt (x := ((ln_n (st_ln S ln) : Nat) : Int)) (y := 3) (tgt := 69) hx hb dX3_whyNot_62 (by decide) (by omega) (by omega) (by omega) (by omega) (fun c_62_49 => ?_) (fun c_62_49 => ?_)
          · -- taken at 62
            refine kx_iconst hx hb dX3_whyNot_69 ?_
            refine lv_istore (lv' := [(5, .int (kI (0))), (4, .int (kI (nx (ln_end (st_ln S ln)) d))), (3, .int (kI (ln_end (st_ln S ln)))), (0, .ref a), (1, .int (kI ((ln : Nat) : Int))), (2, .int (kI (d)))]) hx hb dX3_whyNot_70 hl (by decide) rfl (fun ls hl => ?_)
            refine lv_aload_n hx hb dX3_whyNot_72 rfl (lv_at hl 3 rfl) ?_
            refine lv_iload hx hb dX3_whyNot_73 (lv_at hl 1 rfl) ?_
            refine kx_ci0 (va_runV (As := [.int (kI (nx (ln_end (st_ln S ln)) d))]) (rest := []) ⟨hx, hb, hml, hown, hts⟩ (m_X3_owner l D s.heap a fs ra g S gap (nx (ln_end (st_ln S ln)) d) hO_a hf_a_0 hA_ra (by first | assumption | omega) (by first | assumption | omega) (by first | assumption | omega)) (cwV 1 hts (lw_V q2300 q2302 qs39 q89 q2303) rfl rfl rfl (by decide +kernel) ⟨Nat.le_of_ble_eq_true rfl, Nat.le_of_ble_eq_true rfl⟩) (kx_pv hK hS_46 hB (kx_rc hK hO_a (C := RX3) (T := TX3) (N := 13) rfl)) rfl rfl hl.1 rfl (lv_room (Nat.le_of_ble_eq_true rfl)) dX3_whyNot_75 ⟨by first | exact Nat.le_of_ble_eq_true rfl | omega | (show _ ≤ _; omega) | (dsimp only [headSpec]; omega), by first | exact Nat.le_of_ble_eq_true rfl | omega | (show _ ≤ _; omega) | (dsimp only [headSpec]; omega)⟩) hS_46 (fun z_53 locs_50 hz_52 hS_51 => ?_)
            subst z_53
            refine kx_iconst hx hb dX3_whyNot_78 ?_
            refine kx_icmp_eq (x := st_owner S (nx (ln_end (st_ln S ln)) d)) (y := (-1)) (tgt := 89) hx hb dX3_whyNot_79 (by decide) (by omega) (by omega) (by omega) (by omega) (fun c_79_54 => ?_) (fun c_79_54 => ?_)
            · -- taken at 79
              refine lv_iload_n hx hb dX3_whyNot_89 rfl (lv_at hl 5 rfl) ?_
              refine kx_iconst hx hb dX3_whyNot_90 ?_
              refine kx_irem (x := d) (y := 2) hx hb (by omega) (by omega) (by omega) (by omega) dX3_whyNot_91 ?_
              refine kx_iconst hx hb dX3_whyNot_92 ?_
              refine kx_icmp_ne (x := (d % 2)) (y := 1) (tgt := 122) hx hb dX3_whyNot_93 (by decide) (by omega) (by omega) (by omega) (by omega) (fun c_93_55 => ?_) (fun c_93_55 => ?_)
              · -- taken at 93
                refine kx_iconst hx hb dX3_whyNot_122 ?_
                exact kx_iret (z := 0) hx hb hr hlk (⟨rfl, by unfold st_whyNot; grind⟩) hS_51 dX3_whyNot_123
              · -- not taken at 93
                refine lv_aload_n hx hb dX3_whyNot_96 rfl (lv_at hl 3 rfl) ?_
                refine lv_iload_n hx hb dX3_whyNot_97 rfl (lv_at hl 2 rfl) ?_
                refine lv_iload_n hx hb dX3_whyNot_98 rfl (lv_at hl 5 rfl) ?_
                refine kx_ci0 (va_runS (As := [.int (kI (d))]) (rest := [.int (kI (ln_end (st_ln S ln))), .ref a]) ⟨hx, hb, hml, hown, hts⟩ (m_X3_across l D s.heap d  (by first | assumption | omega)) (va_cwS 1 hts (lw_S q2311 q2312 q89 q2313) rfl rfl rfl (by decide +kernel) ⟨Nat.le_of_ble_eq_true rfl, Nat.le_of_ble_eq_true rfl⟩) (kx_ps hK hS_51 hB) rfl rfl hl.1 rfl (lv_room (Nat.le_of_ble_eq_true rfl)) dX3_whyNot_99 ⟨by first | exact Nat.le_of_ble_eq_true rfl | omega | (show _ ≤ _; omega) | (dsimp only [headSpec]; omega), by first | exact Nat.le_of_ble_eq_true rfl | omega | (show _ ≤ _; omega) | (dsimp only [headSpec]; omega)⟩) hS_51 (fun z_59 locs_56 hz_58 hS_57 => ?_)
                subst z_59
                refine kx_iadd hx hb dX3_whyNot_102 ?_
                refine lv_iload_n hx hb dX3_whyNot_103 rfl (lv_at hl 2 rfl) ?_
                refine kx_bipush hx hb (by decide) dX3_whyNot_104 ?_
                refine lv_iload_n hx hb dX3_whyNot_106 rfl (lv_at hl 5 rfl) ?_
                refine kx_ci0 (va_runS (As := [.int (kI (d))]) (rest := [.int (kI (24)), .int (kI (ln_end (st_ln S ln))), .int (kI ((ln_end (st_ln S ln) + ac d))), .ref a]) ⟨hx, hb, hml, hown, hts⟩ (m_X3_down l D s.heap d  (by first | assumption | omega)) (va_cwS 1 hts (lw_S q2308 q2309 q89 q2310) rfl rfl rfl (by decide +kernel) ⟨Nat.le_of_ble_eq_true rfl, Nat.le_of_ble_eq_true rfl⟩) (kx_ps hK hS_57 hB) rfl rfl hl.1 rfl (lv_room (Nat.le_of_ble_eq_true rfl)) dX3_whyNot_107 ⟨by first | exact Nat.le_of_ble_eq_true rfl | omega | (show _ ≤ _; omega) | (dsimp only [headSpec]; omega), by first | exact Nat.le_of_ble_eq_true rfl | omega | (show _ ≤ _; omega) | (dsimp only [headSpec]; omega)⟩) hS_57 (fun z_63 locs_60 hz_62 hS_61 => ?_)
                subst z_63
                refine kx_imul hx hb dX3_whyNot_110 ?_
                refine kx_iadd hx hb dX3_whyNot_111 ?_
                refine kx_eqi (ln_end (st_ln S ln) + 24 * dn d) (rfl) ?_
                refine kx_cb0 (va_runV (As := [.int (kI ((ln_end (st_ln S ln) + ac d))), .int (kI (ln_end (st_ln S ln) + 24 * dn d))]) (rest := []) ⟨hx, hb, hml, hown, hts⟩ (m_X3_isStep l D s.heap a fs ra g S gap ((ln_end (st_ln S ln) + ac d)) (ln_end (st_ln S ln) + 24 * dn d) hO_a hf_a_0 hA_ra (by first | assumption | omega) (by first | assumption | omega) (by first | assumption | omega) (by first | assumption | omega)) (cwV 2 hts (lw_V q2337 q2339 qs46 q89 q2340) rfl rfl rfl (by decide +kernel) ⟨Nat.le_of_ble_eq_true rfl, Nat.le_of_ble_eq_true rfl⟩) (kx_pv hK hS_61 hB (kx_rc hK hO_a (C := RX3) (T := TX3) (N := 13) rfl)) rfl rfl hl.1 rfl (lv_room (Nat.le_of_ble_eq_true rfl)) dX3_whyNot_112 ⟨by first | exact Nat.le_of_ble_eq_true rfl | omega | (show _ ≤ _; omega) | (dsimp only [headSpec]; omega), by first | exact Nat.le_of_ble_eq_true rfl | omega | (show _ ≤ _; omega) | (dsimp only [headSpec]; omega)⟩) hS_61 (fun z_67 locs_64 hz_66 hS_65 => ?_)
                subst z_67
                refine kx_ifz (tgt := 122) hx hb dX3_whyNot_115 (by decide) (fun c_115_68 => ?_) (fun c_115_68 => ?_)
                · -- taken at 115
                  refine kx_iconst hx hb dX3_whyNot_122 ?_
                  exact kx_iret (z := 0) hx hb hr hlk (⟨rfl, by unfold st_whyNot; grind⟩) hS_65 dX3_whyNot_123
                · -- not taken at 115
                  refine kx_iconst hx hb dX3_whyNot_118 ?_
                  refine lv_goto (tgt := 123) hx hb dX3_whyNot_119 (by decide) ?_
                  exact kx_iret (z := 5) hx hb hr hlk (⟨rfl, by unfold st_whyNot; grind⟩) hS_65 dX3_whyNot_123
            · -- not taken at 79
              refine lv_iload hx hb dX3_whyNot_82 (lv_at hl 0 rfl) ?_
              refine kx_if_ne (x := 0) (tgt := 89) hx hb dX3_whyNot_84 (by decide) (by omega) (by omega) (fun c_84_69 => ?_) (fun c_84_69 => ?_)
              · -- taken at 84
                exfalso; omega
              · -- not taken at 84
                refine kx_iconst hx hb dX3_whyNot_87 ?_
                exact kx_iret (z := 4) hx hb hr hlk (⟨rfl, by unfold st_whyNot; grind⟩) hS_51 dX3_whyNot_88
          · -- not taken at 62
            refine kx_iconst hx hb dX3_whyNot_65 ?_
            refine lv_goto (tgt := 70) hx hb dX3_whyNot_66 (by decide) ?_
            refine lv_istore (lv' := [(5, .int (kI (1))), (4, .int (kI (nx (ln_end (st_ln S ln)) d))), (3, .int (kI (ln_end (st_ln S ln)))), (0, .ref a), (1, .int (kI ((ln : Nat) : Int))), (2, .int (kI (d)))]) hx hb dX3_whyNot_70 hl (by decide) rfl (fun ls hl => ?_)
            refine lv_aload_n hx hb dX3_whyNot_72 rfl (lv_at hl 3 rfl) ?_
            refine lv_iload hx hb dX3_whyNot_73 (lv_at hl 1 rfl) ?_
            refine kx_ci0 (va_runV (As := [.int (kI (nx (ln_end (st_ln S ln)) d))]) (rest := []) ⟨hx, hb, hml, hown, hts⟩ (m_X3_owner l D s.heap a fs ra g S gap (nx (ln_end (st_ln S ln)) d) hO_a hf_a_0 hA_ra (by first | assumption | omega) (by first | assumption | omega) (by first | assumption | omega)) (cwV 1 hts (lw_V q2300 q2302 qs39 q89 q2303) rfl rfl rfl (by decide +kernel) ⟨Nat.le_of_ble_eq_true rfl, Nat.le_of_ble_eq_true rfl⟩) (kx_pv hK hS_46 hB (kx_rc hK hO_a (C := RX3) (T := TX3) (N := 13) rfl)) rfl rfl hl.1 rfl (lv_room (Nat.le_of_ble_eq_true rfl)) dX3_whyNot_75 ⟨by first | exact Nat.le_of_ble_eq_true rfl | omega | (show _ ≤ _; omega) | (dsimp only [headSpec]; omega), by first | exact Nat.le_of_ble_eq_true rfl | omega | (show _ ≤ _; omega) | (dsimp only [headSpec]; omega)⟩) hS_46 (fun z_73 locs_70 hz_72 hS_71 => ?_)
            subst z_73
            refine kx_iconst hx hb dX3_whyNot_78 ?_
            refine kx_icmp_eq (x := st_owner S (nx (ln_end (st_ln S ln)) d)) (y := (-1)) (tgt := 89) hx hb dX3_whyNot_79 (by decide) (by omega) (by omega) (by omega) (by omega) (fun c_79_74 => ?_) (fun c_79_74 => ?_)
            · -- taken at 79
              refine lv_iload_n hx hb dX3_whyNot_89 rfl (lv_at hl 5 rfl) ?_
              refine kx_iconst hx hb dX3_whyNot_90 ?_
              refine kx_irem (x := d) (y := 2) hx hb (by omega) (by omega) (by omega) (by omega) dX3_whyNot_91 ?_
              refine kx_iconst hx hb dX3_whyNot_92 ?_
              refine kx_icmp_ne (x := (d % 2)) (y := 1) (tgt := 122) hx hb dX3_whyNot_93 (by decide) (by omega) (by omega) (by omega) (by omega) (fun c_93_75 => ?_) (fun c_93_75 => ?_)
              · -- taken at 93
                refine kx_iconst hx hb dX3_whyNot_122 ?_
                exact kx_iret (z := 0) hx hb hr hlk (⟨rfl, by unfold st_whyNot; grind⟩) hS_71 dX3_whyNot_123
              · -- not taken at 93
                refine lv_aload_n hx hb dX3_whyNot_96 rfl (lv_at hl 3 rfl) ?_
                refine lv_iload_n hx hb dX3_whyNot_97 rfl (lv_at hl 2 rfl) ?_
                refine lv_iload_n hx hb dX3_whyNot_98 rfl (lv_at hl 5 rfl) ?_
                refine kx_ci0 (va_runS (As := [.int (kI (d))]) (rest := [.int (kI (ln_end (st_ln S ln))), .ref a]) ⟨hx, hb, hml, hown, hts⟩ (m_X3_across l D s.heap d  (by first | assumption | omega)) (va_cwS 1 hts (lw_S q2311 q2312 q89 q2313) rfl rfl rfl (by decide +kernel) ⟨Nat.le_of_ble_eq_true rfl, Nat.le_of_ble_eq_true rfl⟩) (kx_ps hK hS_71 hB) rfl rfl hl.1 rfl (lv_room (Nat.le_of_ble_eq_true rfl)) dX3_whyNot_99 ⟨by first | exact Nat.le_of_ble_eq_true rfl | omega | (show _ ≤ _; omega) | (dsimp only [headSpec]; omega), by first | exact Nat.le_of_ble_eq_true rfl | omega | (show _ ≤ _; omega) | (dsimp only [headSpec]; omega)⟩) hS_71 (fun z_79 locs_76 hz_78 hS_77 => ?_)
                subst z_79
                refine kx_iadd hx hb dX3_whyNot_102 ?_
                refine lv_iload_n hx hb dX3_whyNot_103 rfl (lv_at hl 2 rfl) ?_
                refine kx_bipush hx hb (by decide) dX3_whyNot_104 ?_
                refine lv_iload_n hx hb dX3_whyNot_106 rfl (lv_at hl 5 rfl) ?_
                refine kx_ci0 (va_runS (As := [.int (kI (d))]) (rest := [.int (kI (24)), .int (kI (ln_end (st_ln S ln))), .int (kI ((ln_end (st_ln S ln) + ac d))), .ref a]) ⟨hx, hb, hml, hown, hts⟩ (m_X3_down l D s.heap d  (by first | assumption | omega)) (va_cwS 1 hts (lw_S q2308 q2309 q89 q2310) rfl rfl rfl (by decide +kernel) ⟨Nat.le_of_ble_eq_true rfl, Nat.le_of_ble_eq_true rfl⟩) (kx_ps hK hS_77 hB) rfl rfl hl.1 rfl (lv_room (Nat.le_of_ble_eq_true rfl)) dX3_whyNot_107 ⟨by first | exact Nat.le_of_ble_eq_true rfl | omega | (show _ ≤ _; omega) | (dsimp only [headSpec]; omega), by first | exact Nat.le_of_ble_eq_true rfl | omega | (show _ ≤ _; omega) | (dsimp only [headSpec]; omega)⟩) hS_77 (fun z_83 locs_80 hz_82 hS_81 => ?_)
                subst z_83
                refine kx_imul hx hb dX3_whyNot_110 ?_
                refine kx_iadd hx hb dX3_whyNot_111 ?_
                refine kx_eqi (ln_end (st_ln S ln) + 24 * dn d) (rfl) ?_
                refine kx_cb0 (va_runV (As := [.int (kI ((ln_end (st_ln S ln) + ac d))), .int (kI (ln_end (st_ln S ln) + 24 * dn d))]) (rest := []) ⟨hx, hb, hml, hown, hts⟩ (m_X3_isStep l D s.heap a fs ra g S gap ((ln_end (st_ln S ln) + ac d)) (ln_end (st_ln S ln) + 24 * dn d) hO_a hf_a_0 hA_ra (by first | assumption | omega) (by first | assumption | omega) (by first | assumption | omega) (by first | assumption | omega)) (cwV 2 hts (lw_V q2337 q2339 qs46 q89 q2340) rfl rfl rfl (by decide +kernel) ⟨Nat.le_of_ble_eq_true rfl, Nat.le_of_ble_eq_true rfl⟩) (kx_pv hK hS_81 hB (kx_rc hK hO_a (C := RX3) (T := TX3) (N := 13) rfl)) rfl rfl hl.1 rfl (lv_room (Nat.le_of_ble_eq_true rfl)) dX3_whyNot_112 ⟨by first | exact Nat.le_of_ble_eq_true rfl | omega | (show _ ≤ _; omega) | (dsimp only [headSpec]; omega), by first | exact Nat.le_of_ble_eq_true rfl | omega | (show _ ≤ _; omega) | (dsimp only [headSpec]; omega)⟩) hS_81 (fun z_87 locs_84 hz_86 hS_85 => ?_)
                subst z_87
                refine kx_ifz (tgt := 122) hx hb dX3_whyNot_115 (by decide) (fun c_115_88 => ?_) (fun c_115_88 => ?_)
                · -- taken at 115
                  refine kx_iconst hx hb dX3_whyNot_122 ?_
                  exact kx_iret (z := 0) hx hb hr hlk (⟨rfl, by unfold st_whyNot; grind⟩) hS_85 dX3_whyNot_123
                · -- not taken at 115
                  refine kx_iconst hx hb dX3_whyNot_118 ?_
                  refine lv_goto (tgt := 123) hx hb dX3_whyNot_119 (by decide) ?_
                  exact kx_iret (z := 5) hx hb hr hlk (⟨rfl, by unfold st_whyNot; grind⟩) hS_85 dX3_whyNot_123
            · -- not taken at 79
              refine lv_iload hx hb dX3_whyNot_82 (lv_at hl 0 rfl) ?_
              refine kx_if_ne (x := 1) (tgt := 89) hx hb dX3_whyNot_84 (by decide) (by omega) (by omega) (fun c_84_89 => ?_) (fun c_84_89 => ?_)
              · -- taken at 84
                refine lv_iload_n hx hb dX3_whyNot_89 rfl (lv_at hl 5 rfl) ?_
                refine kx_iconst hx hb dX3_whyNot_90 ?_
                refine kx_irem (x := d) (y := 2) hx hb (by omega) (by omega) (by omega) (by omega) dX3_whyNot_91 ?_
                refine kx_iconst hx hb dX3_whyNot_92 ?_
                refine kx_icmp_ne (x := (d % 2)) (y := 1) (tgt := 122) hx hb dX3_whyNot_93 (by decide) (by omega) (by omega) (by omega) (by omega) (fun c_93_90 => ?_) (fun c_93_90 => ?_)
                · -- taken at 93
                  refine kx_iconst hx hb dX3_whyNot_122 ?_
                  exact kx_iret (z := 0) hx hb hr hlk (⟨rfl, by unfold st_whyNot; grind⟩) hS_71 dX3_whyNot_123
                · -- not taken at 93
                  refine lv_aload_n hx hb dX3_whyNot_96 rfl (lv_at hl 3 rfl) ?_
                  refine lv_iload_n hx hb dX3_whyNot_97 rfl (lv_at hl 2 rfl) ?_
                  refine lv_iload_n hx hb dX3_whyNot_98 rfl (lv_at hl 5 rfl) ?_
                  refine kx_ci0 (va_runS (As := [.int (kI (d))]) (rest := [.int (kI (ln_end (st_ln S ln))), .ref a]) ⟨hx, hb, hml, hown, hts⟩ (m_X3_across l D s.heap d  (by first | assumption | omega)) (va_cwS 1 hts (lw_S q2311 q2312 q89 q2313) rfl rfl rfl (by decide +kernel) ⟨Nat.le_of_ble_eq_true rfl, Nat.le_of_ble_eq_true rfl⟩) (kx_ps hK hS_71 hB) rfl rfl hl.1 rfl (lv_room (Nat.le_of_ble_eq_true rfl)) dX3_whyNot_99 ⟨by first | exact Nat.le_of_ble_eq_true rfl | omega | (show _ ≤ _; omega) | (dsimp only [headSpec]; omega), by first | exact Nat.le_of_ble_eq_true rfl | omega | (show _ ≤ _; omega) | (dsimp only [headSpec]; omega)⟩) hS_71 (fun z_94 locs_91 hz_93 hS_92 => ?_)
                  subst z_94
                  refine kx_iadd hx hb dX3_whyNot_102 ?_
                  refine lv_iload_n hx hb dX3_whyNot_103 rfl (lv_at hl 2 rfl) ?_
                  refine kx_bipush hx hb (by decide) dX3_whyNot_104 ?_
                  refine lv_iload_n hx hb dX3_whyNot_106 rfl (lv_at hl 5 rfl) ?_
                  refine kx_ci0 (va_runS (As := [.int (kI (d))]) (rest := [.int (kI (24)), .int (kI (ln_end (st_ln S ln))), .int (kI ((ln_end (st_ln S ln) + ac d))), .ref a]) ⟨hx, hb, hml, hown, hts⟩ (m_X3_down l D s.heap d  (by first | assumption | omega)) (va_cwS 1 hts (lw_S q2308 q2309 q89 q2310) rfl rfl rfl (by decide +kernel) ⟨Nat.le_of_ble_eq_true rfl, Nat.le_of_ble_eq_true rfl⟩) (kx_ps hK hS_92 hB) rfl rfl hl.1 rfl (lv_room (Nat.le_of_ble_eq_true rfl)) dX3_whyNot_107 ⟨by first | exact Nat.le_of_ble_eq_true rfl | omega | (show _ ≤ _; omega) | (dsimp only [headSpec]; omega), by first | exact Nat.le_of_ble_eq_true rfl | omega | (show _ ≤ _; omega) | (dsimp only [headSpec]; omega)⟩) hS_92 (fun z_98 locs_95 hz_97 hS_96 => ?_)
                  subst z_98
                  refine kx_imul hx hb dX3_whyNot_110 ?_
                  refine kx_iadd hx hb dX3_whyNot_111 ?_
                  refine kx_eqi (ln_end (st_ln S ln) + 24 * dn d) (rfl) ?_
                  refine kx_cb0 (va_runV (As := [.int (kI ((ln_end (st_ln S ln) + ac d))), .int (kI (ln_end (st_ln S ln) + 24 * dn d))]) (rest := []) ⟨hx, hb, hml, hown, hts⟩ (m_X3_isStep l D s.heap a fs ra g S gap ((ln_end (st_ln S ln) + ac d)) (ln_end (st_ln S ln) + 24 * dn d) hO_a hf_a_0 hA_ra (by first | assumption | omega) (by first | assumption | omega) (by first | assumption | omega) (by first | assumption | omega)) (cwV 2 hts (lw_V q2337 q2339 qs46 q89 q2340) rfl rfl rfl (by decide +kernel) ⟨Nat.le_of_ble_eq_true rfl, Nat.le_of_ble_eq_true rfl⟩) (kx_pv hK hS_96 hB (kx_rc hK hO_a (C := RX3) (T := TX3) (N := 13) rfl)) rfl rfl hl.1 rfl (lv_room (Nat.le_of_ble_eq_true rfl)) dX3_whyNot_112 ⟨by first | exact Nat.le_of_ble_eq_true rfl | omega | (show _ ≤ _; omega) | (dsimp only [headSpec]; omega), by first | exact Nat.le_of_ble_eq_true rfl | omega | (show _ ≤ _; omega) | (dsimp only [headSpec]; omega)⟩) hS_96 (fun z_102 locs_99 hz_101 hS_100 => ?_)
                  subst z_102
                  refine kx_ifz (tgt := 122) hx hb dX3_whyNot_115 (by decide) (fun c_115_103 => ?_) (fun c_115_103 => ?_)
                  · -- taken at 115
                    refine kx_iconst hx hb dX3_whyNot_122 ?_
                    exact kx_iret (z := 0) hx hb hr hlk (⟨rfl, by unfold st_whyNot; grind⟩) hS_100 dX3_whyNot_123
                  · -- not taken at 115
                    refine kx_iconst hx hb dX3_whyNot_118 ?_
                    refine lv_goto (tgt := 123) hx hb dX3_whyNot_119 (by decide) ?_
                    exact kx_iret (z := 5) hx hb hr hlk (⟨rfl, by unfold st_whyNot; grind⟩) hS_100 dX3_whyNot_123
              · -- not taken at 84
                exfalso; omega
      · -- not taken at 39
        refine kx_iconst hx hb dX3_whyNot_42 ?_
        exact kx_iret (z := 3) hx hb hr hlk (⟨rfl, by unfold st_whyNot; grind⟩) hS_16 dX3_whyNot_43
    · -- not taken at 18
      refine kx_iconst hx hb dX3_whyNot_21 ?_
      exact kx_iret (z := 2) hx hb hr hlk (⟨rfl, by unfold st_whyNot; grind⟩) hS_7 dX3_whyNot_22
  · -- not taken at 5
    refine kx_iconst hx hb dX3_whyNot_8 ?_
    exact kx_iret (z := 1) hx hb hr hlk (⟨rfl, by unfold st_whyNot; grind⟩) hS_2 dX3_whyNot_9

set_option maxHeartbeats 4000000 in
set_option maxRecDepth 100000 in
theorem m_X3_turn (l : Launch) (D : kG) (H : Heap) (x : Int) (y : Int) (hx7 : 0 ≤ x ∧ x ≤ 7) (hy7 : 0 ≤ y ∧ y ≤ 7) : Met l yX3_turn (ws_ yX3_turn cX3_turn 3 (some .int)) ({ frames := 1, cells := 0, slots := 0, locals := 21 } : Room) (kPre D H [.int (kI (x)), .int (kI (y))]) (kQi (fun (r : Int) H' => H' = H ∧ r = turn x y) kNO) (0) (0) (kNO) := by
  refine Met.ofW (cc := cX3_turn) (maxL := 3) (ret := (some .int)) (by decide) rfl ?_
  intro p e s m args below meth c s₁ B hml hv
  obtain ⟨rfl, hH, hK⟩ := hv
  subst hH
  have hx := B.exec
  have hb := B.bytes
  have hr := B.returns
  have hts := atoms_spec (ws := ws_ yX3_turn cX3_turn 3 (some .int)) B.pre
  have hts : ∀ w ∈ lw_all, w.before _ s = true := fun w h => hts w (List.mem_cons_of_mem _ h)
  have hown : s.vm.findClass RX3 = some m.cls := findClass_of_methodNamed B.named
  have hlk := B.notSynchronized
  have hS : va_S kNO s.heap s.heap [] := va_S.rf
  have hB : ∀ q, kNO q → kBase D ≤ q := fun _ h => h.elim
  have hl := lv_entry ([.int (kI (x)), .int (kI (y))]) (n := 3) (Nat.le_of_ble_eq_true rfl)
  rw [lg_entry_eq]
  generalize (lg_sl ([.int (kI (x)), .int (kI (y))]) ++ List.replicate (3 - (lg_sl ([.int (kI (x)), .int (kI (y))])).length) Slot.unset).toArray = ls at hl ⊢
  have hl : lv_has ls 3 [(0, .int (kI (x))), (1, .int (kI (y)))] := hl
  have hap : 0 ≤ apart x y ∧ apart x y ≤ 7 := by unfold apart; split <;> omega
  refine lv_iload_n hx hb dX3_turn_0 rfl (lv_at hl 0 rfl) ?_
  refine lv_iload_n hx hb dX3_turn_1 rfl (lv_at hl 1 rfl) ?_
  refine kx_ci0 (va_runS (As := [.int (kI (x)), .int (kI (y))]) (rest := []) ⟨hx, hb, hml, hown, hts⟩ (m_X3_apart l D s.heap x y  (by first | assumption | omega) (by first | assumption | omega)) (va_cwS 2 hts (lw_S q2364 q2365 q89 q2366) rfl rfl rfl (by decide +kernel) ⟨Nat.le_of_ble_eq_true rfl, Nat.le_of_ble_eq_true rfl⟩) (kx_ps hK hS hB) rfl rfl hl.1 rfl (lv_room (Nat.le_of_ble_eq_true rfl)) dX3_turn_2 ⟨by first | exact Nat.le_of_ble_eq_true rfl | omega | (show _ ≤ _; omega) | (dsimp only [headSpec]; omega), by first | exact Nat.le_of_ble_eq_true rfl | omega | (show _ ≤ _; omega) | (dsimp only [headSpec]; omega)⟩) hS (fun z_4 locs_1 hz_3 hS_2 => ?_)
  subst z_4
  refine lv_istore_n (lv' := [(2, .int (kI (apart x y))), (0, .int (kI (x))), (1, .int (kI (y)))]) hx hb dX3_turn_5 rfl hl (by decide) rfl (fun ls hl => ?_)
  refine lv_iload_n hx hb dX3_turn_6 rfl (lv_at hl 0 rfl) ?_
  refine kx_bipush hx hb (by decide) dX3_turn_7 ?_
  refine lv_iload_n hx hb dX3_turn_9 rfl (lv_at hl 0 rfl) ?_
  refine kx_isub hx hb dX3_turn_10 ?_
  refine kx_icmp_ge (x := apart x y) (y := (8 - apart x y)) (tgt := 18) hx hb dX3_turn_11 (by decide) (by omega) (by omega) (by omega) (by omega) (fun c_11_5 => ?_) (fun c_11_5 => ?_)
  · -- taken at 11
    refine kx_bipush hx hb (by decide) dX3_turn_18 ?_
    refine lv_iload_n hx hb dX3_turn_20 rfl (lv_at hl 0 rfl) ?_
    refine kx_isub hx hb dX3_turn_21 ?_
    exact kx_iret (z := (8 - apart x y)) hx hb hr hlk (⟨rfl, by unfold turn; rw [show (if x < y then y - x else x - y) = apart x y from rfl]; split <;> omega⟩) hS_2 dX3_turn_22
  · -- not taken at 11
    refine lv_iload_n hx hb dX3_turn_14 rfl (lv_at hl 0 rfl) ?_
    refine lv_goto (tgt := 22) hx hb dX3_turn_15 (by decide) ?_
    exact kx_iret (z := apart x y) hx hb hr hlk (⟨rfl, by unfold turn; rw [show (if x < y then y - x else x - y) = apart x y from rfl]; split <;> omega⟩) hS_2 dX3_turn_22

set_option maxHeartbeats 4000000 in
set_option maxRecDepth 100000 in
theorem m_X3_bend (l : Launch) (D : kG) (H : Heap) (a : Nat) (fs : List Value) (ra : Nat) (g : Nat → Int) (S : Ls) (gap : Int) (ln : Nat) (k : Nat) (hO_a : kO D H a 2 fs) (hf_a_0 : fs[0]? = some (.ref ra)) (hA_ra : kAi D H ra 514 g) (hM : MRow g S gap) (hok : LsOK S gap) (hln : ln < S.length) (hk : k ≤ ln_n (st_ln S ln)) : Met l yX3_bend (ws_ yX3_bend cX3_bend 4 (some .int)) ({ frames := 5, cells := 0, slots := 0, locals := 108 } : Room) (kPre D H [.ref a, .int (kI ((ln : Nat) : Int)), .int (kI ((k : Nat) : Int))]) (kQi (fun (r : Int) H' => H' = H ∧ r = ln_bend (st_ln S ln) k) kNO) (0) (0) (kNO) := by
  refine Met.ofW (cc := cX3_bend) (maxL := 4) (ret := (some .int)) (by decide) rfl ?_
  intro p e s m args below meth c s₁ B hml hv
  obtain ⟨rfl, hH, hK⟩ := hv
  subst hH
  have hx := B.exec
  have hb := B.bytes
  have hr := B.returns
  have hts := atoms_spec (ws := ws_ yX3_bend cX3_bend 4 (some .int)) B.pre
  have hts : ∀ w ∈ lw_all, w.before _ s = true := fun w h => hts w (List.mem_cons_of_mem _ h)
  have hown : s.vm.findClass RX3 = some m.cls := findClass_of_methodNamed B.named
  have hlk := B.notSynchronized
  have hS : va_S kNO s.heap s.heap [] := va_S.rf
  have hB : ∀ q, kNO q → kBase D ≤ q := fun _ h => h.elim
  have hl := lv_entry ([.ref a, .int (kI ((ln : Nat) : Int)), .int (kI ((k : Nat) : Int))]) (n := 4) (Nat.le_of_ble_eq_true rfl)
  rw [lg_entry_eq]
  generalize (lg_sl ([.ref a, .int (kI ((ln : Nat) : Int)), .int (kI ((k : Nat) : Int))]) ++ List.replicate (4 - (lg_sl ([.ref a, .int (kI ((ln : Nat) : Int)), .int (kI ((k : Nat) : Int))])).length) Slot.unset).toArray = ls at hl ⊢
  have hl : lv_has ls 4 [(0, .ref a), (1, .int (kI ((ln : Nat) : Int))), (2, .int (kI ((k : Nat) : Int)))] := hl
  have hL := hok.ln hln
  have hL60 := hL.n
  have hL8 := hok.1
  refine lv_aload_n hx hb dX3_bend_0 rfl (lv_at hl 0 rfl) ?_
  refine lv_iload_n hx hb dX3_bend_1 rfl (lv_at hl 1 rfl) ?_
  refine kx_iconst hx hb dX3_bend_2 ?_
  refine kx_ci0 (va_runV (As := [.int (kI ((ln : Nat) : Int)), .int (kI (2))]) (rest := []) ⟨hx, hb, hml, hown, hts⟩ (of_n l D s.heap a fs ra g S gap ln hO_a hf_a_0 hA_ra (by first | assumption | omega) (by first | assumption | omega) (by first | assumption | omega)) (cwV 2 hts (lw_V q2304 q2306 qs40 q89 q2307) rfl rfl rfl (by decide +kernel) ⟨Nat.le_of_ble_eq_true rfl, Nat.le_of_ble_eq_true rfl⟩) (kx_pv hK hS hB (kx_rc hK hO_a (C := RX3) (T := TX3) (N := 13) rfl)) rfl rfl hl.1 rfl (lv_room (Nat.le_of_ble_eq_true rfl)) dX3_bend_3 ⟨by first | exact Nat.le_of_ble_eq_true rfl | omega | (show _ ≤ _; omega) | (dsimp only [headSpec]; omega), by first | exact Nat.le_of_ble_eq_true rfl | omega | (show _ ≤ _; omega) | (dsimp only [headSpec]; omega)⟩) hS (fun z_4 locs_1 hz_3 hS_2 => ?_)
  subst z_4
  refine lv_istore_n (lv' := [(3, .int (kI ((ln_n (st_ln S ln) : Nat) : Int))), (0, .ref a), (1, .int (kI ((ln : Nat) : Int))), (2, .int (kI ((k : Nat) : Int)))]) hx hb dX3_bend_6 rfl hl (by decide) rfl (fun ls hl => ?_)
  refine lv_iload_n hx hb dX3_bend_7 rfl (lv_at hl 3 rfl) ?_
  refine kx_if_le (x := ((k : Nat) : Int)) (tgt := 38) hx hb dX3_bend_8 (by decide) (by omega) (by omega) (fun c_8_5 => ?_) (fun c_8_5 => ?_)
  · -- taken at 8
    refine lv_aload_n hx hb dX3_bend_38 rfl (lv_at hl 1 rfl) ?_
    refine lv_iload_n hx hb dX3_bend_39 rfl (lv_at hl 2 rfl) ?_
    refine kx_cb0 (va_runV (As := [.int (kI ((ln : Nat) : Int))]) (rest := []) ⟨hx, hb, hml, hown, hts⟩ (m_X3_closes l D s.heap a fs ra g S gap ln hO_a hf_a_0 hA_ra (by first | assumption | omega) (by first | assumption | omega) (by first | assumption | omega)) (cwV 1 hts (lw_V q2322 q2324 qs43 q89 q2325) rfl rfl rfl (by decide +kernel) ⟨Nat.le_of_ble_eq_true rfl, Nat.le_of_ble_eq_true rfl⟩) (kx_pv hK hS_2 hB (kx_rc hK hO_a (C := RX3) (T := TX3) (N := 13) rfl)) rfl rfl hl.1 rfl (lv_room (Nat.le_of_ble_eq_true rfl)) dX3_bend_40 ⟨by first | exact Nat.le_of_ble_eq_true rfl | omega | (show _ ≤ _; omega) | (dsimp only [headSpec]; omega), by first | exact Nat.le_of_ble_eq_true rfl | omega | (show _ ≤ _; omega) | (dsimp only [headSpec]; omega)⟩) hS_2 (fun z_9 locs_6 hz_8 hS_7 => ?_)
    subst z_9
    refine kx_ifz (tgt := 68) hx hb dX3_bend_43 (by decide) (fun c_43_10 => ?_) (fun c_43_10 => ?_)
    · -- taken at 43
      refine kx_iconst hx hb dX3_bend_68 ?_
      exact kx_iret (z := 0) hx hb hr hlk (⟨rfl, by unfold ln_bend; first | rw [if_pos (by omega)] | (rw [if_neg (by omega)]; simp [*])⟩) hS_7 dX3_bend_69
    · -- not taken at 43
      have hn0 : 0 < ln_n (st_ln S ln) := ln_cl_pos c_43_10
      have hd1 := hL.d (k := 0) (by omega)
      have hd2 := hL.d (k := ln_n (st_ln S ln) - 1) (by omega)
      refine lv_aload_n hx hb dX3_bend_46 rfl (lv_at hl 1 rfl) ?_
      refine lv_iload_n hx hb dX3_bend_47 rfl (lv_at hl 2 rfl) ?_
      refine kx_iconst hx hb dX3_bend_48 ?_
      refine lv_iload_n hx hb dX3_bend_49 rfl (lv_at hl 0 rfl) ?_
      refine kx_iadd hx hb dX3_bend_50 ?_
      refine kx_iconst hx hb dX3_bend_51 ?_
      refine kx_isub hx hb dX3_bend_52 ?_
      refine kx_ci0 (va_runV (As := [.int (kI ((ln : Nat) : Int)), .int (kI (((4 + ((ln_n (st_ln S ln) : Nat) : Int)) - 1)))]) (rest := []) ⟨hx, hb, hml, hown, hts⟩ (of_d l D s.heap a fs ra g S gap ln (((4 + ((ln_n (st_ln S ln) : Nat) : Int)) - 1)) ((ln_n (st_ln S ln) - 1)) hO_a hf_a_0 hA_ra (by first | assumption | omega) (by first | assumption | omega) (by first | assumption | omega) (by first | assumption | omega) (by first | assumption | omega)) (cwV 2 hts (lw_V q2304 q2306 qs40 q89 q2307) rfl rfl rfl (by decide +kernel) ⟨Nat.le_of_ble_eq_true rfl, Nat.le_of_ble_eq_true rfl⟩) (kx_pv hK hS_7 hB (kx_rc hK hO_a (C := RX3) (T := TX3) (N := 13) rfl)) rfl rfl hl.1 rfl (lv_room (Nat.le_of_ble_eq_true rfl)) dX3_bend_53 ⟨by first | exact Nat.le_of_ble_eq_true rfl | omega | (show _ ≤ _; omega) | (dsimp only [headSpec]; omega), by first | exact Nat.le_of_ble_eq_true rfl | omega | (show _ ≤ _; omega) | (dsimp only [headSpec]; omega)⟩) hS_7 (fun z_14 locs_11 hz_13 hS_12 => ?_)
      subst z_14
      refine lv_aload_n hx hb dX3_bend_56 rfl (lv_at hl 1 rfl) ?_
      refine lv_iload_n hx hb dX3_bend_57 rfl (lv_at hl 2 rfl) ?_
      refine kx_iconst hx hb dX3_bend_58 ?_
      refine kx_ci0 (va_runV (As := [.int (kI ((ln : Nat) : Int)), .int (kI (4))]) (rest := [.int (kI (ln_d (st_ln S ln) ((ln_n (st_ln S ln) - 1))))]) ⟨hx, hb, hml, hown, hts⟩ (of_d l D s.heap a fs ra g S gap ln 4 0 hO_a hf_a_0 hA_ra (by first | assumption | omega) (by first | assumption | omega) (by first | assumption | omega) (by first | assumption | omega) (by first | assumption | omega)) (cwV 2 hts (lw_V q2304 q2306 qs40 q89 q2307) rfl rfl rfl (by decide +kernel) ⟨Nat.le_of_ble_eq_true rfl, Nat.le_of_ble_eq_true rfl⟩) (kx_pv hK hS_12 hB (kx_rc hK hO_a (C := RX3) (T := TX3) (N := 13) rfl)) rfl rfl hl.1 rfl (lv_room (Nat.le_of_ble_eq_true rfl)) dX3_bend_59 ⟨by first | exact Nat.le_of_ble_eq_true rfl | omega | (show _ ≤ _; omega) | (dsimp only [headSpec]; omega), by first | exact Nat.le_of_ble_eq_true rfl | omega | (show _ ≤ _; omega) | (dsimp only [headSpec]; omega)⟩) hS_12 (fun z_18 locs_15 hz_17 hS_16 => ?_)
      subst z_18
      refine kx_ci0 (va_runS (As := [.int (kI (ln_d (st_ln S ln) ((ln_n (st_ln S ln) - 1)))), .int (kI (ln_d (st_ln S ln) 0))]) (rest := []) ⟨hx, hb, hml, hown, hts⟩ (m_X3_turn l D s.heap (ln_d (st_ln S ln) ((ln_n (st_ln S ln) - 1))) (ln_d (st_ln S ln) 0)  (by first | assumption | omega) (by first | assumption | omega)) (va_cwS 2 hts (lw_S q2361 q2362 q89 q2363) rfl rfl rfl (by decide +kernel) ⟨Nat.le_of_ble_eq_true rfl, Nat.le_of_ble_eq_true rfl⟩) (kx_ps hK hS_16 hB) rfl rfl hl.1 rfl (lv_room (Nat.le_of_ble_eq_true rfl)) dX3_bend_62 ⟨by first | exact Nat.le_of_ble_eq_true rfl | omega | (show _ ≤ _; omega) | (dsimp only [headSpec]; omega), by first | exact Nat.le_of_ble_eq_true rfl | omega | (show _ ≤ _; omega) | (dsimp only [headSpec]; omega)⟩) hS_16 (fun z_22 locs_19 hz_21 hS_20 => ?_)
      subst z_22
      refine lv_goto (tgt := 69) hx hb dX3_bend_65 (by decide) ?_
      exact kx_iret (z := turn (ln_d (st_ln S ln) ((ln_n (st_ln S ln) - 1))) (ln_d (st_ln S ln) 0)) hx hb hr hlk (⟨rfl, by unfold ln_bend; first | rw [if_pos (by omega)] | (rw [if_neg (by omega)]; simp [*])⟩) hS_20 dX3_bend_69
  · -- not taken at 8
    refine lv_iload_n hx hb dX3_bend_11 rfl (lv_at hl 3 rfl) ?_
    refine lv_iload_n hx hb dX3_bend_12 rfl (lv_at hl 0 rfl) ?_
    refine kx_icmp_ge (x := ((k : Nat) : Int)) (y := ((ln_n (st_ln S ln) : Nat) : Int)) (tgt := 38) hx hb dX3_bend_13 (by decide) (by omega) (by omega) (by omega) (by omega) (fun c_13_23 => ?_) (fun c_13_23 => ?_)
    · -- taken at 13
      refine lv_aload_n hx hb dX3_bend_38 rfl (lv_at hl 1 rfl) ?_
      refine lv_iload_n hx hb dX3_bend_39 rfl (lv_at hl 2 rfl) ?_
      refine kx_cb0 (va_runV (As := [.int (kI ((ln : Nat) : Int))]) (rest := []) ⟨hx, hb, hml, hown, hts⟩ (m_X3_closes l D s.heap a fs ra g S gap ln hO_a hf_a_0 hA_ra (by first | assumption | omega) (by first | assumption | omega) (by first | assumption | omega)) (cwV 1 hts (lw_V q2322 q2324 qs43 q89 q2325) rfl rfl rfl (by decide +kernel) ⟨Nat.le_of_ble_eq_true rfl, Nat.le_of_ble_eq_true rfl⟩) (kx_pv hK hS_2 hB (kx_rc hK hO_a (C := RX3) (T := TX3) (N := 13) rfl)) rfl rfl hl.1 rfl (lv_room (Nat.le_of_ble_eq_true rfl)) dX3_bend_40 ⟨by first | exact Nat.le_of_ble_eq_true rfl | omega | (show _ ≤ _; omega) | (dsimp only [headSpec]; omega), by first | exact Nat.le_of_ble_eq_true rfl | omega | (show _ ≤ _; omega) | (dsimp only [headSpec]; omega)⟩) hS_2 (fun z_27 locs_24 hz_26 hS_25 => ?_)
      subst z_27
      refine kx_ifz (tgt := 68) hx hb dX3_bend_43 (by decide) (fun c_43_28 => ?_) (fun c_43_28 => ?_)
      · -- taken at 43
        refine kx_iconst hx hb dX3_bend_68 ?_
        exact kx_iret (z := 0) hx hb hr hlk (⟨rfl, by unfold ln_bend; first | rw [if_pos (by omega)] | (rw [if_neg (by omega)]; simp [*])⟩) hS_25 dX3_bend_69
      · -- not taken at 43
        have hn0 : 0 < ln_n (st_ln S ln) := ln_cl_pos c_43_28
        have hd1 := hL.d (k := 0) (by omega)
        have hd2 := hL.d (k := ln_n (st_ln S ln) - 1) (by omega)
        refine lv_aload_n hx hb dX3_bend_46 rfl (lv_at hl 1 rfl) ?_
        refine lv_iload_n hx hb dX3_bend_47 rfl (lv_at hl 2 rfl) ?_
        refine kx_iconst hx hb dX3_bend_48 ?_
        refine lv_iload_n hx hb dX3_bend_49 rfl (lv_at hl 0 rfl) ?_
        refine kx_iadd hx hb dX3_bend_50 ?_
        refine kx_iconst hx hb dX3_bend_51 ?_
        refine kx_isub hx hb dX3_bend_52 ?_
        refine kx_ci0 (va_runV (As := [.int (kI ((ln : Nat) : Int)), .int (kI (((4 + ((ln_n (st_ln S ln) : Nat) : Int)) - 1)))]) (rest := []) ⟨hx, hb, hml, hown, hts⟩ (of_d l D s.heap a fs ra g S gap ln (((4 + ((ln_n (st_ln S ln) : Nat) : Int)) - 1)) ((ln_n (st_ln S ln) - 1)) hO_a hf_a_0 hA_ra (by first | assumption | omega) (by first | assumption | omega) (by first | assumption | omega) (by first | assumption | omega) (by first | assumption | omega)) (cwV 2 hts (lw_V q2304 q2306 qs40 q89 q2307) rfl rfl rfl (by decide +kernel) ⟨Nat.le_of_ble_eq_true rfl, Nat.le_of_ble_eq_true rfl⟩) (kx_pv hK hS_25 hB (kx_rc hK hO_a (C := RX3) (T := TX3) (N := 13) rfl)) rfl rfl hl.1 rfl (lv_room (Nat.le_of_ble_eq_true rfl)) dX3_bend_53 ⟨by first | exact Nat.le_of_ble_eq_true rfl | omega | (show _ ≤ _; omega) | (dsimp only [headSpec]; omega), by first | exact Nat.le_of_ble_eq_true rfl | omega | (show _ ≤ _; omega) | (dsimp only [headSpec]; omega)⟩) hS_25 (fun z_32 locs_29 hz_31 hS_30 => ?_)
        subst z_32
        refine lv_aload_n hx hb dX3_bend_56 rfl (lv_at hl 1 rfl) ?_
        refine lv_iload_n hx hb dX3_bend_57 rfl (lv_at hl 2 rfl) ?_
        refine kx_iconst hx hb dX3_bend_58 ?_
        refine kx_ci0 (va_runV (As := [.int (kI ((ln : Nat) : Int)), .int (kI (4))]) (rest := [.int (kI (ln_d (st_ln S ln) ((ln_n (st_ln S ln) - 1))))]) ⟨hx, hb, hml, hown, hts⟩ (of_d l D s.heap a fs ra g S gap ln 4 0 hO_a hf_a_0 hA_ra (by first | assumption | omega) (by first | assumption | omega) (by first | assumption | omega) (by first | assumption | omega) (by first | assumption | omega)) (cwV 2 hts (lw_V q2304 q2306 qs40 q89 q2307) rfl rfl rfl (by decide +kernel) ⟨Nat.le_of_ble_eq_true rfl, Nat.le_of_ble_eq_true rfl⟩) (kx_pv hK hS_30 hB (kx_rc hK hO_a (C := RX3) (T := TX3) (N := 13) rfl)) rfl rfl hl.1 rfl (lv_room (Nat.le_of_ble_eq_true rfl)) dX3_bend_59 ⟨by first | exact Nat.le_of_ble_eq_true rfl | omega | (show _ ≤ _; omega) | (dsimp only [headSpec]; omega), by first | exact Nat.le_of_ble_eq_true rfl | omega | (show _ ≤ _; omega) | (dsimp only [headSpec]; omega)⟩) hS_30 (fun z_36 locs_33 hz_35 hS_34 => ?_)
        subst z_36
        refine kx_ci0 (va_runS (As := [.int (kI (ln_d (st_ln S ln) ((ln_n (st_ln S ln) - 1)))), .int (kI (ln_d (st_ln S ln) 0))]) (rest := []) ⟨hx, hb, hml, hown, hts⟩ (m_X3_turn l D s.heap (ln_d (st_ln S ln) ((ln_n (st_ln S ln) - 1))) (ln_d (st_ln S ln) 0)  (by first | assumption | omega) (by first | assumption | omega)) (va_cwS 2 hts (lw_S q2361 q2362 q89 q2363) rfl rfl rfl (by decide +kernel) ⟨Nat.le_of_ble_eq_true rfl, Nat.le_of_ble_eq_true rfl⟩) (kx_ps hK hS_34 hB) rfl rfl hl.1 rfl (lv_room (Nat.le_of_ble_eq_true rfl)) dX3_bend_62 ⟨by first | exact Nat.le_of_ble_eq_true rfl | omega | (show _ ≤ _; omega) | (dsimp only [headSpec]; omega), by first | exact Nat.le_of_ble_eq_true rfl | omega | (show _ ≤ _; omega) | (dsimp only [headSpec]; omega)⟩) hS_34 (fun z_40 locs_37 hz_39 hS_38 => ?_)
        subst z_40
        refine lv_goto (tgt := 69) hx hb dX3_bend_65 (by decide) ?_
        exact kx_iret (z := turn (ln_d (st_ln S ln) ((ln_n (st_ln S ln) - 1))) (ln_d (st_ln S ln) 0)) hx hb hr hlk (⟨rfl, by unfold ln_bend; first | rw [if_pos (by omega)] | (rw [if_neg (by omega)]; simp [*])⟩) hS_38 dX3_bend_69
    · -- not taken at 13
      have hd1 := hL.d (k := k) (by omega)
      have hd2 := hL.d (k := k - 1) (by omega)
      refine lv_aload_n hx hb dX3_bend_16 rfl (lv_at hl 1 rfl) ?_
      refine lv_iload_n hx hb dX3_bend_17 rfl (lv_at hl 2 rfl) ?_
      refine kx_iconst hx hb dX3_bend_18 ?_
      refine lv_iload_n hx hb dX3_bend_19 rfl (lv_at hl 3 rfl) ?_
      refine kx_iadd hx hb dX3_bend_20 ?_
      refine kx_iconst hx hb dX3_bend_21 ?_
      refine kx_isub hx hb dX3_bend_22 ?_
      refine kx_ci0 (va_runV (As := [.int (kI ((ln : Nat) : Int)), .int (kI (((4 + ((k : Nat) : Int)) - 1)))]) (rest := []) ⟨hx, hb, hml, hown, hts⟩ (of_d l D s.heap a fs ra g S gap ln (((4 + ((k : Nat) : Int)) - 1)) ((k - 1)) hO_a hf_a_0 hA_ra (by first | assumption | omega) (by first | assumption | omega) (by first | assumption | omega) (by first | assumption | omega) (by first | assumption | omega)) (cwV 2 hts (lw_V q2304 q2306 qs40 q89 q2307) rfl rfl rfl (by decide +kernel) ⟨Nat.le_of_ble_eq_true rfl, Nat.le_of_ble_eq_true rfl⟩) (kx_pv hK hS_2 hB (kx_rc hK hO_a (C := RX3) (T := TX3) (N := 13) rfl)) rfl rfl hl.1 rfl (lv_room (Nat.le_of_ble_eq_true rfl)) dX3_bend_23 ⟨by first | exact Nat.le_of_ble_eq_true rfl | omega | (show _ ≤ _; omega) | (dsimp only [headSpec]; omega), by first | exact Nat.le_of_ble_eq_true rfl | omega | (show _ ≤ _; omega) | (dsimp only [headSpec]; omega)⟩) hS_2 (fun z_44 locs_41 hz_43 hS_42 => ?_)
      subst z_44
      refine lv_aload_n hx hb dX3_bend_26 rfl (lv_at hl 1 rfl) ?_
      refine lv_iload_n hx hb dX3_bend_27 rfl (lv_at hl 2 rfl) ?_
      refine kx_iconst hx hb dX3_bend_28 ?_
      refine lv_iload_n hx hb dX3_bend_29 rfl (lv_at hl 3 rfl) ?_
      refine kx_iadd hx hb dX3_bend_30 ?_
      refine kx_ci0 (va_runV (As := [.int (kI ((ln : Nat) : Int)), .int (kI ((4 + ((k : Nat) : Int))))]) (rest := [.int (kI (ln_d (st_ln S ln) (k - 1)))]) ⟨hx, hb, hml, hown, hts⟩ (of_d l D s.heap a fs ra g S gap ln ((4 + ((k : Nat) : Int))) k hO_a hf_a_0 hA_ra (by first | assumption | omega) (by first | assumption | omega) (by first | assumption | omega) (by first | assumption | omega) (by first | assumption | omega)) (cwV 2 hts (lw_V q2304 q2306 qs40 q89 q2307) rfl rfl rfl (by decide +kernel) ⟨Nat.le_of_ble_eq_true rfl, Nat.le_of_ble_eq_true rfl⟩) (kx_pv hK hS_42 hB (kx_rc hK hO_a (C := RX3) (T := TX3) (N := 13) rfl)) rfl rfl hl.1 rfl (lv_room (Nat.le_of_ble_eq_true rfl)) dX3_bend_31 ⟨by first | exact Nat.le_of_ble_eq_true rfl | omega | (show _ ≤ _; omega) | (dsimp only [headSpec]; omega), by first | exact Nat.le_of_ble_eq_true rfl | omega | (show _ ≤ _; omega) | (dsimp only [headSpec]; omega)⟩) hS_42 (fun z_48 locs_45 hz_47 hS_46 => ?_)
      subst z_48
      refine kx_ci0 (va_runS (As := [.int (kI (ln_d (st_ln S ln) (k - 1))), .int (kI (ln_d (st_ln S ln) k))]) (rest := []) ⟨hx, hb, hml, hown, hts⟩ (m_X3_turn l D s.heap (ln_d (st_ln S ln) (k - 1)) (ln_d (st_ln S ln) k)  (by first | assumption | omega) (by first | assumption | omega)) (va_cwS 2 hts (lw_S q2361 q2362 q89 q2363) rfl rfl rfl (by decide +kernel) ⟨Nat.le_of_ble_eq_true rfl, Nat.le_of_ble_eq_true rfl⟩) (kx_ps hK hS_46 hB) rfl rfl hl.1 rfl (lv_room (Nat.le_of_ble_eq_true rfl)) dX3_bend_34 ⟨by first | exact Nat.le_of_ble_eq_true rfl | omega | (show _ ≤ _; omega) | (dsimp only [headSpec]; omega), by first | exact Nat.le_of_ble_eq_true rfl | omega | (show _ ≤ _; omega) | (dsimp only [headSpec]; omega)⟩) hS_46 (fun z_52 locs_49 hz_51 hS_50 => ?_)
      subst z_52
      exact kx_iret (z := turn (ln_d (st_ln S ln) (k - 1)) (ln_d (st_ln S ln) k)) hx hb hr hlk (⟨rfl, by unfold ln_bend; first | rw [if_pos (by omega)] | (rw [if_neg (by omega)]; simp [*])⟩) hS_50 dX3_bend_37

set_option maxHeartbeats 4000000 in
set_option maxRecDepth 100000 in
theorem m_X3_size (l : Launch) (D : kG) (H : Heap) (a : Nat) (fs : List Value) (ra : Nat) (g : Nat → Int) (S : Ls) (gap : Int) (ln : Nat) (hO_a : kO D H a 2 fs) (hf_a_0 : fs[0]? = some (.ref ra)) (hA_ra : kAi D H ra 514 g) (hM : MRow g S gap) (hok : LsOK S gap) (hln : ln < S.length) : Met l yX3_size (ws_ yX3_size cX3_size 2 (some .int)) ({ frames := 1, cells := 0, slots := 0, locals := 22 } : Room) (kPre D H [.ref a, .int (kI ((ln : Nat) : Int))]) (kQi (fun (r : Int) H' => H' = H ∧ r = ((ln_size (st_ln S ln) : Nat) : Int)) kNO) (0) (0) (kNO) := by
  refine Met.ofW (cc := cX3_size) (maxL := 2) (ret := (some .int)) (by decide) rfl ?_
  intro p e s m args below meth c s₁ B hml hv
  obtain ⟨rfl, hH, hK⟩ := hv
  subst hH
  have hx := B.exec
  have hb := B.bytes
  have hr := B.returns
  have hts := atoms_spec (ws := ws_ yX3_size cX3_size 2 (some .int)) B.pre
  have hts : ∀ w ∈ lw_all, w.before _ s = true := fun w h => hts w (List.mem_cons_of_mem _ h)
  have hown : s.vm.findClass RX3 = some m.cls := findClass_of_methodNamed B.named
  have hlk := B.notSynchronized
  have hS : va_S kNO s.heap s.heap [] := va_S.rf
  have hB : ∀ q, kNO q → kBase D ≤ q := fun _ h => h.elim
  have hl := lv_entry ([.ref a, .int (kI ((ln : Nat) : Int))]) (n := 2) (Nat.le_of_ble_eq_true rfl)
  rw [lg_entry_eq]
  generalize (lg_sl ([.ref a, .int (kI ((ln : Nat) : Int))]) ++ List.replicate (2 - (lg_sl ([.ref a, .int (kI ((ln : Nat) : Int))])).length) Slot.unset).toArray = ls at hl ⊢
  have hl : lv_has ls 2 [(0, .ref a), (1, .int (kI ((ln : Nat) : Int)))] := hl
  have hL := hok.ln hln
  have hL60 := hL.n
  have hL8 := hok.1
  have hlv := hL.lv
  refine lv_aload_n hx hb dX3_size_0 rfl (lv_at hl 0 rfl) ?_
  refine lv_iload_n hx hb dX3_size_1 rfl (lv_at hl 1 rfl) ?_
  refine kx_iconst hx hb dX3_size_2 ?_
  refine kx_ci0 (va_runV (As := [.int (kI ((ln : Nat) : Int)), .int (kI (0))]) (rest := []) ⟨hx, hb, hml, hown, hts⟩ (of_lv l D s.heap a fs ra g S gap ln hO_a hf_a_0 hA_ra (by first | assumption | omega) (by first | assumption | omega) (by first | assumption | omega)) (cwV 2 hts (lw_V q2304 q2306 qs40 q89 q2307) rfl rfl rfl (by decide +kernel) ⟨Nat.le_of_ble_eq_true rfl, Nat.le_of_ble_eq_true rfl⟩) (kx_pv hK hS hB (kx_rc hK hO_a (C := RX3) (T := TX3) (N := 13) rfl)) rfl rfl hl.1 rfl (lv_room (Nat.le_of_ble_eq_true rfl)) dX3_size_3 ⟨by first | exact Nat.le_of_ble_eq_true rfl | omega | (show _ ≤ _; omega) | (dsimp only [headSpec]; omega), by first | exact Nat.le_of_ble_eq_true rfl | omega | (show _ ≤ _; omega) | (dsimp only [headSpec]; omega)⟩) hS (fun z_4 locs_1 hz_3 hS_2 => ?_)
  subst z_4
  refine kx_bipush hx hb (by decide) dX3_size_6 ?_
  refine kx_icmp_ge (x := ln_lv (st_ln S ln)) (y := 10) (tgt := 15) hx hb dX3_size_8 (by decide) (by omega) (by omega) (by omega) (by omega) (fun c_8_5 => ?_) (fun c_8_5 => ?_)
  · -- taken at 8
    refine kx_iconst hx hb dX3_size_15 ?_
    exact kx_iret (z := 3) hx hb hr hlk (⟨rfl, by unfold ln_size; split <;> omega⟩) hS_2 dX3_size_16
  · -- not taken at 8
    refine kx_iconst hx hb dX3_size_11 ?_
    refine lv_goto (tgt := 16) hx hb dX3_size_12 (by decide) ?_
    exact kx_iret (z := 2) hx hb hr hlk (⟨rfl, by unfold ln_size; split <;> omega⟩) hS_2 dX3_size_16

set_option maxHeartbeats 4000000 in
set_option maxRecDepth 100000 in
theorem m_X3_isPlace (l : Launch) (D : kG) (H : Heap) (a : Nat) (fs : List Value) (ra : Nat) (g : Nat → Int) (S : Ls) (gap : Int) (ln : Nat) (q : Int) (hO_a : kO D H a 2 fs) (hf_a_0 : fs[0]? = some (.ref ra)) (hA_ra : kAi D H ra 514 g) (hM : MRow g S gap) (hok : LsOK S gap) (hln : ln < S.length) (hq : -100 ≤ q ∧ q ≤ 1000) : Met l yX3_isPlace (ws_ yX3_isPlace cX3_isPlace 3 (some .boolean)) ({ frames := 5, cells := 0, slots := 0, locals := 108 } : Room) (kPre D H [.ref a, .int (kI ((ln : Nat) : Int)), .int (kI (q))]) (kQb (fun (r : Bool) H' => H' = H ∧ r = ln_isPlace (st_ln S ln) q) kNO) (0) (0) (kNO) := by
  refine Met.ofW (cc := cX3_isPlace) (maxL := 3) (ret := (some .boolean)) (by decide) rfl ?_
  intro p e s m args below meth c s₁ B hml hv
  obtain ⟨rfl, hH, hK⟩ := hv
  subst hH
  have hx := B.exec
  have hb := B.bytes
  have hr := B.returns
  have hts := atoms_spec (ws := ws_ yX3_isPlace cX3_isPlace 3 (some .boolean)) B.pre
  have hts : ∀ w ∈ lw_all, w.before _ s = true := fun w h => hts w (List.mem_cons_of_mem _ h)
  have hown : s.vm.findClass RX3 = some m.cls := findClass_of_methodNamed B.named
  have hlk := B.notSynchronized
  have hS : va_S kNO s.heap s.heap [] := va_S.rf
  have hB : ∀ q, kNO q → kBase D ≤ q := fun _ h => h.elim
  have hl := lv_entry ([.ref a, .int (kI ((ln : Nat) : Int)), .int (kI (q))]) (n := 3) (Nat.le_of_ble_eq_true rfl)
  rw [lg_entry_eq]
  generalize (lg_sl ([.ref a, .int (kI ((ln : Nat) : Int)), .int (kI (q))]) ++ List.replicate (3 - (lg_sl ([.ref a, .int (kI ((ln : Nat) : Int)), .int (kI (q))])).length) Slot.unset).toArray = ls at hl ⊢
  have hl : lv_has ls 3 [(0, .ref a), (1, .int (kI ((ln : Nat) : Int))), (2, .int (kI (q)))] := hl
  have hL := hok.ln hln
  have hL60 := hL.n
  have hL8 := hok.1
  have hsz := ln_size_23 (st_ln S ln)
  refine lv_iload_n hx hb dX3_isPlace_0 rfl (lv_at hl 2 rfl) ?_
  refine lv_aload_n hx hb dX3_isPlace_1 rfl (lv_at hl 0 rfl) ?_
  refine lv_iload_n hx hb dX3_isPlace_2 rfl (lv_at hl 1 rfl) ?_
  refine kx_ci0 (va_runV (As := [.int (kI ((ln : Nat) : Int))]) (rest := [.int (kI (q))]) ⟨hx, hb, hml, hown, hts⟩ (m_X3_size l D s.heap a fs ra g S gap ln hO_a hf_a_0 hA_ra (by first | assumption | omega) (by first | assumption | omega) (by first | assumption | omega)) (cwV 1 hts (lw_V q2349 q2351 qs49 q89 q2352) rfl rfl rfl (by decide +kernel) ⟨Nat.le_of_ble_eq_true rfl, Nat.le_of_ble_eq_true rfl⟩) (kx_pv hK hS hB (kx_rc hK hO_a (C := RX3) (T := TX3) (N := 13) rfl)) rfl rfl hl.1 rfl (lv_room (Nat.le_of_ble_eq_true rfl)) dX3_isPlace_3 ⟨by first | exact Nat.le_of_ble_eq_true rfl | omega | (show _ ≤ _; omega) | (dsimp only [headSpec]; omega), by first | exact Nat.le_of_ble_eq_true rfl | omega | (show _ ≤ _; omega) | (dsimp only [headSpec]; omega)⟩) hS (fun z_4 locs_1 hz_3 hS_2 => ?_)
  subst z_4
  refine kx_iadd hx hb dX3_isPlace_6 ?_
  refine kx_iconst hx hb dX3_isPlace_7 ?_
  refine kx_isub hx hb dX3_isPlace_8 ?_
  refine lv_aload_n hx hb dX3_isPlace_9 rfl (lv_at hl 0 rfl) ?_
  refine lv_iload_n hx hb dX3_isPlace_10 rfl (lv_at hl 1 rfl) ?_
  refine kx_iconst hx hb dX3_isPlace_11 ?_
  refine kx_ci0 (va_runV (As := [.int (kI ((ln : Nat) : Int)), .int (kI (2))]) (rest := [.int (kI (((q + ((ln_size (st_ln S ln) : Nat) : Int)) - 1)))]) ⟨hx, hb, hml, hown, hts⟩ (of_n l D s.heap a fs ra g S gap ln hO_a hf_a_0 hA_ra (by first | assumption | omega) (by first | assumption | omega) (by first | assumption | omega)) (cwV 2 hts (lw_V q2304 q2306 qs40 q89 q2307) rfl rfl rfl (by decide +kernel) ⟨Nat.le_of_ble_eq_true rfl, Nat.le_of_ble_eq_true rfl⟩) (kx_pv hK hS_2 hB (kx_rc hK hO_a (C := RX3) (T := TX3) (N := 13) rfl)) rfl rfl hl.1 rfl (lv_room (Nat.le_of_ble_eq_true rfl)) dX3_isPlace_12 ⟨by first | exact Nat.le_of_ble_eq_true rfl | omega | (show _ ≤ _; omega) | (dsimp only [headSpec]; omega), by first | exact Nat.le_of_ble_eq_true rfl | omega | (show _ ≤ _; omega) | (dsimp only [headSpec]; omega)⟩) hS_2 (fun z_8 locs_5 hz_7 hS_6 => ?_)
  subst z_8
  refine lv_aload_n hx hb dX3_isPlace_15 rfl (lv_at hl 0 rfl) ?_
  refine lv_iload_n hx hb dX3_isPlace_16 rfl (lv_at hl 1 rfl) ?_
  refine kx_cb0 (va_runV (As := [.int (kI ((ln : Nat) : Int))]) (rest := [.int (kI ((ln_n (st_ln S ln) : Nat) : Int)), .int (kI (((q + ((ln_size (st_ln S ln) : Nat) : Int)) - 1)))]) ⟨hx, hb, hml, hown, hts⟩ (m_X3_closes l D s.heap a fs ra g S gap ln hO_a hf_a_0 hA_ra (by first | assumption | omega) (by first | assumption | omega) (by first | assumption | omega)) (cwV 1 hts (lw_V q2322 q2324 qs43 q89 q2325) rfl rfl rfl (by decide +kernel) ⟨Nat.le_of_ble_eq_true rfl, Nat.le_of_ble_eq_true rfl⟩) (kx_pv hK hS_6 hB (kx_rc hK hO_a (C := RX3) (T := TX3) (N := 13) rfl)) rfl rfl hl.1 rfl (lv_room (Nat.le_of_ble_eq_true rfl)) dX3_isPlace_17 ⟨by first | exact Nat.le_of_ble_eq_true rfl | omega | (show _ ≤ _; omega) | (dsimp only [headSpec]; omega), by first | exact Nat.le_of_ble_eq_true rfl | omega | (show _ ≤ _; omega) | (dsimp only [headSpec]; omega)⟩) hS_6 (fun z_12 locs_9 hz_11 hS_10 => ?_)
  subst z_12
  refine kx_ifz (tgt := 27) hx hb dX3_isPlace_20 (by decide) (fun c_20_13 => ?_) (fun c_20_13 => ?_)
  · -- taken at 20
    refine kx_iconst hx hb dX3_isPlace_27 ?_
    refine kx_isub hx hb dX3_isPlace_28 ?_
    refine kx_icmp_gt (x := ((q + ((ln_size (st_ln S ln) : Nat) : Int)) - 1)) (y := (((ln_n (st_ln S ln) : Nat) : Int) - 0)) (tgt := 36) hx hb dX3_isPlace_29 (by decide) (by omega) (by omega) (by omega) (by omega) (fun c_29_14 => ?_) (fun c_29_14 => ?_)
    · -- taken at 29
      refine kx_iconst hx hb dX3_isPlace_36 ?_
      exact kx_zret (z := false) hx hb hr hlk (⟨rfl, by grind [ln_isPlace, ln_last]⟩) hS_10 dX3_isPlace_37
    · -- not taken at 29
      refine kx_iconst hx hb dX3_isPlace_32 ?_
      refine lv_goto (tgt := 37) hx hb dX3_isPlace_33 (by decide) ?_
      exact kx_zret (z := true) hx hb hr hlk (⟨rfl, by grind [ln_isPlace, ln_last]⟩) hS_10 dX3_isPlace_37
  · -- not taken at 20
    refine kx_iconst hx hb dX3_isPlace_23 ?_
    refine lv_goto (tgt := 28) hx hb dX3_isPlace_24 (by decide) ?_
    refine kx_isub hx hb dX3_isPlace_28 ?_
    refine kx_icmp_gt (x := ((q + ((ln_size (st_ln S ln) : Nat) : Int)) - 1)) (y := (((ln_n (st_ln S ln) : Nat) : Int) - 1)) (tgt := 36) hx hb dX3_isPlace_29 (by decide) (by omega) (by omega) (by omega) (by omega) (fun c_29_15 => ?_) (fun c_29_15 => ?_)
    · -- taken at 29
      refine kx_iconst hx hb dX3_isPlace_36 ?_
      exact kx_zret (z := false) hx hb hr hlk (⟨rfl, by grind [ln_isPlace, ln_last]⟩) hS_10 dX3_isPlace_37
    · -- not taken at 29
      refine kx_iconst hx hb dX3_isPlace_32 ?_
      refine lv_goto (tgt := 37) hx hb dX3_isPlace_33 (by decide) ?_
      exact kx_zret (z := true) hx hb hr hlk (⟨rfl, by grind [ln_isPlace, ln_last]⟩) hS_10 dX3_isPlace_37

set_option maxHeartbeats 4000000 in
set_option maxRecDepth 100000 in
theorem m_X3_bends (l : Launch) (D : kG) (H : Heap) (a : Nat) (fs : List Value) (ra : Nat) (g : Nat → Int) (S : Ls) (gap : Int) (ln : Nat) (q : Nat) (hO_a : kO D H a 2 fs) (hf_a_0 : fs[0]? = some (.ref ra)) (hA_ra : kAi D H ra 514 g) (hM : MRow g S gap) (hok : LsOK S gap) (hln : ln < S.length) (hq : q ≤ 1000) : Met l yX3_bends (ws_ yX3_bends cX3_bends 5 (some .int)) ({ frames := 6, cells := 0, slots := 0, locals := 131 } : Room) (kPre D H [.ref a, .int (kI ((ln : Nat) : Int)), .int (kI ((q : Nat) : Int))]) (kQi (fun (r : Int) H' => H' = H ∧ r = ln_bends (st_ln S ln) q) kNO) (0) (0) (kNO) := by
  refine Met.ofW (cc := cX3_bends) (maxL := 5) (ret := (some .int)) (by decide) rfl ?_
  intro p e s m args below meth c s₁ B hml hv
  obtain ⟨rfl, hH, hK⟩ := hv
  subst hH
  have hx := B.exec
  have hb := B.bytes
  have hr := B.returns
  have hts := atoms_spec (ws := ws_ yX3_bends cX3_bends 5 (some .int)) B.pre
  have hts : ∀ w ∈ lw_all, w.before _ s = true := fun w h => hts w (List.mem_cons_of_mem _ h)
  have hown : s.vm.findClass RX3 = some m.cls := findClass_of_methodNamed B.named
  have hlk := B.notSynchronized
  have hS : va_S kNO s.heap s.heap [] := va_S.rf
  have hB : ∀ q, kNO q → kBase D ≤ q := fun _ h => h.elim
  have hl := lv_entry ([.ref a, .int (kI ((ln : Nat) : Int)), .int (kI ((q : Nat) : Int))]) (n := 5) (Nat.le_of_ble_eq_true rfl)
  rw [lg_entry_eq]
  generalize (lg_sl ([.ref a, .int (kI ((ln : Nat) : Int)), .int (kI ((q : Nat) : Int))]) ++ List.replicate (5 - (lg_sl ([.ref a, .int (kI ((ln : Nat) : Int)), .int (kI ((q : Nat) : Int))])).length) Slot.unset).toArray = ls at hl ⊢
  have hl : lv_has ls 5 [(0, .ref a), (1, .int (kI ((ln : Nat) : Int))), (2, .int (kI ((q : Nat) : Int)))] := hl
  have hL := hok.ln hln
  have hL60 := hL.n
  have hL8 := hok.1
  have hsz := ln_size_23 (st_ln S ln)
  refine kx_iconst hx hb dX3_bends_0 ?_
  refine lv_istore_n (lv' := [(3, .int (kI (0))), (0, .ref a), (1, .int (kI ((ln : Nat) : Int))), (2, .int (kI ((q : Nat) : Int)))]) hx hb dX3_bends_1 rfl hl (by decide) rfl (fun ls hl => ?_)
  refine lv_iload_n hx hb dX3_bends_2 rfl (lv_at hl 3 rfl) ?_
  refine kx_iconst hx hb dX3_bends_3 ?_
  refine kx_isub hx hb dX3_bends_4 ?_
  refine lv_istore (lv' := [(4, .int (kI ((((q : Nat) : Int) - 1)))), (3, .int (kI (0))), (0, .ref a), (1, .int (kI ((ln : Nat) : Int))), (2, .int (kI ((q : Nat) : Int)))]) hx hb dX3_bends_5 hl (by decide) rfl (fun ls hl => ?_)
  have lp_7_x_1 : ∀ (n_7 : Nat) (j : Nat) (w : Int) (sm : Int) (hj : j ≤ ln_size (st_ln S ln) + 2) (hw : w = (q : Int) - 1 + j) (hsm : sm = ln_bendsTo (st_ln S ln) q j) (locs : List Loc) (hS : va_S kNO s.heap s.heap locs) (hm_7 : ln_size (st_ln S ln) + 2 - j < n_7) (ls : Array Slot), lv_has ls 5 [(0, .ref a), (1, .int (kI ((ln : Nat) : Int))), (2, .int (kI ((q : Nat) : Int))), (3, .int (kI (sm))), (4, .int (kI (w)))] → W p l e (headSpec (ws_ yX3_bends cX3_bends 5 (some .int)) ({ frames := 6, cells := 0, slots := 0, locals := 131 } : Room)).room s m ([.ref a, .int (kI ((ln : Nat) : Int)), .int (kI ((q : Nat) : Int))] : List Value).toArray below meth c s.heap locs (0) (0) (MQ below (kQi (fun (r : Int) H' => H' = s.heap ∧ r = ln_bends (st_ln S ln) q) kNO) ([.ref a, .int (kI ((ln : Nat) : Int)), .int (kI ((q : Nat) : Int))] : List Value).toArray s (0) (0) (kNO)) (F0 m 7 ls []) := by
    intro n_7
    induction n_7 with
    | zero => intro j w sm hj hw hsm locs hS hm_7; exact absurd hm_7 (Nat.not_lt_zero _)
    | succ n_7 ih_7 =>
      intro j w sm hj hw hsm locs hS hm_7 ls hl
      refine lv_iload hx hb dX3_bends_7 (lv_at hl 4 rfl) ?_
      refine lv_iload_n hx hb dX3_bends_9 rfl (lv_at hl 2 rfl) ?_
      refine lv_aload_n hx hb dX3_bends_10 rfl (lv_at hl 0 rfl) ?_
      refine lv_iload_n hx hb dX3_bends_11 rfl (lv_at hl 1 rfl) ?_
      refine kx_ci0 (va_runV (As := [.int (kI ((ln : Nat) : Int))]) (rest := [.int (kI ((q : Nat) : Int)), .int (kI (w))]) ⟨hx, hb, hml, hown, hts⟩ (m_X3_size l D s.heap a fs ra g S gap ln hO_a hf_a_0 hA_ra (by first | assumption | omega) (by first | assumption | omega) (by first | assumption | omega)) (cwV 1 hts (lw_V q2349 q2351 qs49 q89 q2352) rfl rfl rfl (by decide +kernel) ⟨Nat.le_of_ble_eq_true rfl, Nat.le_of_ble_eq_true rfl⟩) (kx_pv hK hS hB (kx_rc hK hO_a (C := RX3) (T := TX3) (N := 13) rfl)) rfl rfl hl.1 rfl (lv_room (Nat.le_of_ble_eq_true rfl)) dX3_bends_12 ⟨by first | exact Nat.le_of_ble_eq_true rfl | omega | (show _ ≤ _; omega) | (dsimp only [headSpec]; omega), by first | exact Nat.le_of_ble_eq_true rfl | omega | (show _ ≤ _; omega) | (dsimp only [headSpec]; omega)⟩) hS (fun z_5 locs_2 hz_4 hS_3 => ?_)
      subst z_5
      refine kx_iadd hx hb dX3_bends_15 ?_
      refine kx_icmp_gt (x := w) (y := (((q : Nat) : Int) + ((ln_size (st_ln S ln) : Nat) : Int))) (tgt := 54) hx hb dX3_bends_16 (by decide) (by omega) (by omega) (by omega) (by omega) (fun c_16_6 => ?_) (fun c_16_6 => ?_)
      · -- taken at 16
        refine lv_iload_n hx hb dX3_bends_54 rfl (lv_at hl 3 rfl) ?_
        exact kx_iret (z := sm) hx hb hr hlk (⟨rfl, by rw [hsm, ln_bends, show j = ln_size (st_ln S ln) + 2 by omega]⟩) hS_3 dX3_bends_55
      · -- not taken at 16
        refine lv_iload_n hx hb dX3_bends_19 rfl (lv_at hl 3 rfl) ?_
        refine lv_iload hx hb dX3_bends_20 (lv_at hl 4 rfl) ?_
        refine kx_iconst hx hb dX3_bends_22 ?_
        refine lv_aload_n hx hb dX3_bends_23 rfl (lv_at hl 0 rfl) ?_
        refine lv_iload_n hx hb dX3_bends_24 rfl (lv_at hl 1 rfl) ?_
        refine kx_iconst hx hb dX3_bends_25 ?_
        refine kx_ci0 (va_runV (As := [.int (kI ((ln : Nat) : Int)), .int (kI (2))]) (rest := [.int (kI (0)), .int (kI (w)), .int (kI (sm))]) ⟨hx, hb, hml, hown, hts⟩ (of_n l D s.heap a fs ra g S gap ln hO_a hf_a_0 hA_ra (by first | assumption | omega) (by first | assumption | omega) (by first | assumption | omega)) (cwV 2 hts (lw_V q2304 q2306 qs40 q89 q2307) rfl rfl rfl (by decide +kernel) ⟨Nat.le_of_ble_eq_true rfl, Nat.le_of_ble_eq_true rfl⟩) (kx_pv hK hS_3 hB (kx_rc hK hO_a (C := RX3) (T := TX3) (N := 13) rfl)) rfl rfl hl.1 rfl (lv_room (Nat.le_of_ble_eq_true rfl)) dX3_bends_26 ⟨by first | exact Nat.le_of_ble_eq_true rfl | omega | (show _ ≤ _; omega) | (dsimp only [headSpec]; omega), by first | exact Nat.le_of_ble_eq_true rfl | omega | (show _ ≤ _; omega) | (dsimp only [headSpec]; omega)⟩) hS_3 (fun z_10 locs_7 hz_9 hS_8 => ?_)
        subst z_10
        refine kx_cb0 (va_runS (As := [.int (kI (w)), .int (kI (0)), .int (kI ((ln_n (st_ln S ln) : Nat) : Int))]) (rest := [.int (kI (sm))]) ⟨hx, hb, hml, hown, hts⟩ (m_X3_in l D s.heap w 0 (((ln_n (st_ln S ln) : Nat) : Int))  (by first | assumption | omega) (by first | assumption | omega) (by first | assumption | omega)) (va_cwS 3 hts (lw_S q2297 q2298 q89 q2299) rfl rfl rfl (by decide +kernel) ⟨Nat.le_of_ble_eq_true rfl, Nat.le_of_ble_eq_true rfl⟩) (kx_ps hK hS_8 hB) rfl rfl hl.1 rfl (lv_room (Nat.le_of_ble_eq_true rfl)) dX3_bends_29 ⟨by first | exact Nat.le_of_ble_eq_true rfl | omega | (show _ ≤ _; omega) | (dsimp only [headSpec]; omega), by first | exact Nat.le_of_ble_eq_true rfl | omega | (show _ ≤ _; omega) | (dsimp only [headSpec]; omega)⟩) hS_8 (fun z_14 locs_11 hz_13 hS_12 => ?_)
        subst z_14
        refine kx_ifz (tgt := 45) hx hb dX3_bends_32 (by decide) (fun c_32_15 => ?_) (fun c_32_15 => ?_)
        · -- taken at 32
          have c_32_15 := of_decide_eq_false c_32_15
          refine kx_iconst hx hb dX3_bends_45 ?_
          refine kx_iadd hx hb dX3_bends_46 ?_
          refine lv_istore_n (lv' := [(3, .int (kI ((sm + 0)))), (0, .ref a), (1, .int (kI ((ln : Nat) : Int))), (2, .int (kI ((q : Nat) : Int))), (4, .int (kI (w)))]) hx hb dX3_bends_47 rfl hl (by decide) rfl (fun ls hl => ?_)
          refine lv_iinc (v := kI ((w + 1))) (lv' := [(4, .int (kI ((w + 1)))), (3, .int (kI ((sm + 0)))), (0, .ref a), (1, .int (kI ((ln : Nat) : Int))), (2, .int (kI ((q : Nat) : Int)))]) hx hb dX3_bends_48 hl (k := 4) rfl (kI_inc _ _) (by decide) rfl (fun ls hl => ?_)
          refine lv_goto (tgt := 7) hx hb dX3_bends_51 (by decide) ?_
          exact ih_7  (j + 1) ((w + 1)) ((sm + 0)) (by first | assumption | omega | (simp_all; done) | grind) (by omega) (by rw [ln_bendsTo, hsm, ← hw]; congr 1; first | (rw [if_pos (by omega)]) | (rw [if_neg (by omega)])) _ hS_12 (by omega) ls (lv_sub hl [2, 3, 4, 1, 0] rfl)
        · -- not taken at 32
          have c_32_15 := of_decide_eq_true c_32_15
          refine lv_aload_n hx hb dX3_bends_35 rfl (lv_at hl 0 rfl) ?_
          refine lv_iload_n hx hb dX3_bends_36 rfl (lv_at hl 1 rfl) ?_
          refine lv_iload hx hb dX3_bends_37 (lv_at hl 4 rfl) ?_
          refine kx_eqi (((w.toNat : Nat) : Int)) (by omega) ?_
          refine kx_ci0 (va_runV (As := [.int (kI ((ln : Nat) : Int)), .int (kI ((w.toNat : Nat) : Int))]) (rest := [.int (kI (sm))]) ⟨hx, hb, hml, hown, hts⟩ (m_X3_bend l D s.heap a fs ra g S gap ln w.toNat hO_a hf_a_0 hA_ra (by first | assumption | omega) (by first | assumption | omega) (by first | assumption | omega) (by first | assumption | omega)) (cwV 2 hts (lw_V q2357 q2359 qs51 q89 q2360) rfl rfl rfl (by decide +kernel) ⟨Nat.le_of_ble_eq_true rfl, Nat.le_of_ble_eq_true rfl⟩) (kx_pv hK hS_12 hB (kx_rc hK hO_a (C := RX3) (T := TX3) (N := 13) rfl)) rfl rfl hl.1 rfl (lv_room (Nat.le_of_ble_eq_true rfl)) dX3_bends_39 ⟨by first | exact Nat.le_of_ble_eq_true rfl | omega | (show _ ≤ _; omega) | (dsimp only [headSpec]; omega), by first | exact Nat.le_of_ble_eq_true rfl | omega | (show _ ≤ _; omega) | (dsimp only [headSpec]; omega)⟩) hS_12 (fun z_19 locs_16 hz_18 hS_17 => ?_)
          subst z_19
          refine lv_goto (tgt := 46) hx hb dX3_bends_42 (by decide) ?_
          refine kx_iadd hx hb dX3_bends_46 ?_
          refine lv_istore_n (lv' := [(3, .int (kI ((sm + ln_bend (st_ln S ln) w.toNat)))), (0, .ref a), (1, .int (kI ((ln : Nat) : Int))), (2, .int (kI ((q : Nat) : Int))), (4, .int (kI (w)))]) hx hb dX3_bends_47 rfl hl (by decide) rfl (fun ls hl => ?_)
          refine lv_iinc (v := kI ((w + 1))) (lv' := [(4, .int (kI ((w + 1)))), (3, .int (kI ((sm + ln_bend (st_ln S ln) w.toNat)))), (0, .ref a), (1, .int (kI ((ln : Nat) : Int))), (2, .int (kI ((q : Nat) : Int)))]) hx hb dX3_bends_48 hl (k := 4) rfl (kI_inc _ _) (by decide) rfl (fun ls hl => ?_)
          refine lv_goto (tgt := 7) hx hb dX3_bends_51 (by decide) ?_
          exact ih_7  (j + 1) ((w + 1)) ((sm + ln_bend (st_ln S ln) w.toNat)) (by first | assumption | omega | (simp_all; done) | grind) (by omega) (by rw [ln_bendsTo, hsm, ← hw]; congr 1; first | (rw [if_pos (by omega)]) | (rw [if_neg (by omega)])) _ hS_17 (by omega) ls (lv_sub hl [2, 3, 4, 1, 0] rfl)
  exact lp_7_x_1 (ln_size (st_ln S ln) + 2 - 0 + 1) 0 ((((q : Nat) : Int) - 1)) 0 (by first | assumption | omega | (simp_all; done) | grind) (by omega) (rfl) _ hS (Nat.lt_succ_self _) ls (lv_sub hl [2, 3, 4, 1, 0] rfl)

set_option maxHeartbeats 4000000 in
set_option maxRecDepth 100000 in
theorem m_X3_far (l : Launch) (D : kG) (H : Heap) (a : Nat) (x : Int) (y : Int) (hx3 : 0 ≤ x ∧ x ≤ 383) (hy3 : 0 ≤ y ∧ y ≤ 383) : Met l yX3_far (ws_ yX3_far cX3_far 5 (some .int)) ({ frames := 1, cells := 0, slots := 0, locals := 21 } : Room) (kPre D H [.ref a, .int (kI (x)), .int (kI (y))]) (kQi (fun (r : Int) H' => H' = H ∧ r = far x y) kNO) (0) (0) (kNO) := by
  refine Met.ofW (cc := cX3_far) (maxL := 5) (ret := (some .int)) (by decide) rfl ?_
  intro p e s m args below meth c s₁ B hml hv
  obtain ⟨rfl, hH, hK⟩ := hv
  subst hH
  have hx := B.exec
  have hb := B.bytes
  have hr := B.returns
  have hts := atoms_spec (ws := ws_ yX3_far cX3_far 5 (some .int)) B.pre
  have hts : ∀ w ∈ lw_all, w.before _ s = true := fun w h => hts w (List.mem_cons_of_mem _ h)
  have hown : s.vm.findClass RX3 = some m.cls := findClass_of_methodNamed B.named
  have hlk := B.notSynchronized
  have hS : va_S kNO s.heap s.heap [] := va_S.rf
  have hB : ∀ q, kNO q → kBase D ≤ q := fun _ h => h.elim
  have hl := lv_entry ([.ref a, .int (kI (x)), .int (kI (y))]) (n := 5) (Nat.le_of_ble_eq_true rfl)
  rw [lg_entry_eq]
  generalize (lg_sl ([.ref a, .int (kI (x)), .int (kI (y))]) ++ List.replicate (5 - (lg_sl ([.ref a, .int (kI (x)), .int (kI (y))])).length) Slot.unset).toArray = ls at hl ⊢
  have hl : lv_has ls 5 [(0, .ref a), (1, .int (kI (x))), (2, .int (kI (y)))] := hl
  have h1 : 0 ≤ apart (x % 24) (y % 24) ∧ apart (x % 24) (y % 24) ≤ 23 := by unfold apart; split <;> omega
  have h2 : 0 ≤ apart (x / 24) (y / 24) ∧ apart (x / 24) (y / 24) ≤ 15 := by unfold apart; split <;> omega
  refine lv_iload_n hx hb dX3_far_0 rfl (lv_at hl 1 rfl) ?_
  refine kx_bipush hx hb (by decide) dX3_far_1 ?_
  refine kx_irem (x := x) (y := 24) hx hb (by omega) (by omega) (by omega) (by omega) dX3_far_3 ?_
  refine lv_iload_n hx hb dX3_far_4 rfl (lv_at hl 2 rfl) ?_
  refine kx_bipush hx hb (by decide) dX3_far_5 ?_
  refine kx_irem (x := y) (y := 24) hx hb (by omega) (by omega) (by omega) (by omega) dX3_far_7 ?_
  refine kx_ci0 (va_runS (As := [.int (kI ((x % 24))), .int (kI ((y % 24)))]) (rest := []) ⟨hx, hb, hml, hown, hts⟩ (m_X3_apart l D s.heap ((x % 24)) ((y % 24))  (by first | assumption | omega) (by first | assumption | omega)) (va_cwS 2 hts (lw_S q2364 q2365 q89 q2366) rfl rfl rfl (by decide +kernel) ⟨Nat.le_of_ble_eq_true rfl, Nat.le_of_ble_eq_true rfl⟩) (kx_ps hK hS hB) rfl rfl hl.1 rfl (lv_room (Nat.le_of_ble_eq_true rfl)) dX3_far_8 ⟨by first | exact Nat.le_of_ble_eq_true rfl | omega | (show _ ≤ _; omega) | (dsimp only [headSpec]; omega), by first | exact Nat.le_of_ble_eq_true rfl | omega | (show _ ≤ _; omega) | (dsimp only [headSpec]; omega)⟩) hS (fun z_4 locs_1 hz_3 hS_2 => ?_)
  subst z_4
  refine lv_istore_n (lv' := [(3, .int (kI (apart (x % 24) (y % 24)))), (0, .ref a), (1, .int (kI (x))), (2, .int (kI (y)))]) hx hb dX3_far_11 rfl hl (by decide) rfl (fun ls hl => ?_)
  refine lv_iload_n hx hb dX3_far_12 rfl (lv_at hl 2 rfl) ?_
  refine kx_bipush hx hb (by decide) dX3_far_13 ?_
  refine kx_idiv (x := x) (y := 24) hx hb (by omega) (by omega) (by omega) (by omega) dX3_far_15 ?_
  refine lv_iload_n hx hb dX3_far_16 rfl (lv_at hl 3 rfl) ?_
  refine kx_bipush hx hb (by decide) dX3_far_17 ?_
  refine kx_idiv (x := y) (y := 24) hx hb (by omega) (by omega) (by omega) (by omega) dX3_far_19 ?_
  refine kx_ci0 (va_runS (As := [.int (kI ((x / 24))), .int (kI ((y / 24)))]) (rest := []) ⟨hx, hb, hml, hown, hts⟩ (m_X3_apart l D s.heap ((x / 24)) ((y / 24))  (by first | assumption | omega) (by first | assumption | omega)) (va_cwS 2 hts (lw_S q2364 q2365 q89 q2366) rfl rfl rfl (by decide +kernel) ⟨Nat.le_of_ble_eq_true rfl, Nat.le_of_ble_eq_true rfl⟩) (kx_ps hK hS_2 hB) rfl rfl hl.1 rfl (lv_room (Nat.le_of_ble_eq_true rfl)) dX3_far_20 ⟨by first | exact Nat.le_of_ble_eq_true rfl | omega | (show _ ≤ _; omega) | (dsimp only [headSpec]; omega), by first | exact Nat.le_of_ble_eq_true rfl | omega | (show _ ≤ _; omega) | (dsimp only [headSpec]; omega)⟩) hS_2 (fun z_8 locs_5 hz_7 hS_6 => ?_)
  subst z_8
  refine lv_istore (lv' := [(4, .int (kI (apart (x / 24) (y / 24)))), (3, .int (kI (apart (x % 24) (y % 24)))), (0, .ref a), (1, .int (kI (x))), (2, .int (kI (y)))]) hx hb dX3_far_23 hl (by decide) rfl (fun ls hl => ?_)
  refine lv_iload_n hx hb dX3_far_25 rfl (lv_at hl 1 rfl) ?_
  refine lv_iload hx hb dX3_far_26 (lv_at hl 0 rfl) ?_
  refine kx_icmp_le (x := apart (x % 24) (y % 24)) (y := apart (x / 24) (y / 24)) (tgt := 35) hx hb dX3_far_28 (by decide) (by omega) (by omega) (by omega) (by omega) (fun c_28_9 => ?_) (fun c_28_9 => ?_)
  · -- taken at 28
    refine lv_iload hx hb dX3_far_35 (lv_at hl 0 rfl) ?_
    exact kx_iret (z := apart (x / 24) (y / 24)) hx hb hr hlk (⟨rfl, by unfold far; first | rw [if_pos (by omega)] | rw [if_neg (by omega)]⟩) hS_6 dX3_far_37
  · -- not taken at 28
    refine lv_iload_n hx hb dX3_far_31 rfl (lv_at hl 1 rfl) ?_
    refine lv_goto (tgt := 37) hx hb dX3_far_32 (by decide) ?_
    exact kx_iret (z := apart (x % 24) (y % 24)) hx hb hr hlk (⟨rfl, by unfold far; first | rw [if_pos (by omega)] | rw [if_neg (by omega)]⟩) hS_6 dX3_far_37

