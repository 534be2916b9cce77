set_option maxHeartbeats 4000000 in
set_option maxRecDepth 100000 in
theorem m_X2_fineMap (l : Launch) (D : kG) (H : Heap) (a : Nat) (pa : Nat) (sa : Nat) (ea : Nat) (gp : Nat → Int) (gs : Nat → Int) (L : Ln) (hO_a : kO D H a 3 [.int (kI (ln_lv L)), .ref pa, .ref sa, .int (kI ((ln_n L : Nat) : Int)), .ref ea, .int (kI (ln_lb L))]) (hA_pa : kAi D H pa 61 gp) (hA_sa : kAi D H sa 60 gs) (hM : MLn gp gs L) (hok : LnOK L) : Met l yX2_fineMap (ws_ yX2_fineMap cX2_fineMap 4 (some (.array .int))) ({ frames := 2, cells := 1, slots := 1785, locals := 40 } : Room) (kPre D H [.ref a]) (kQr (fun (r : Nat) H' => ∃ (g2 : Nat → Int), (kAi D H' r 1785 g2) ∧ (H.size ≤ r) ∧ (∀ i, g2 i = f_map L (ln_n L) i)) (kNW H)) (1) (1785) ((kNW H)) := by
  refine Met.ofW (cc := cX2_fineMap) (maxL := 4) (ret := (some (.array .int))) (by decide) rfl ?_
  intro p e s m args below meth c s₁ B hml hv
  obtain ⟨rfl, hH, hK⟩ := hv
  subst hH
  have hx := B.exec
  have hb := B.bytes
  have hr := B.returns
  have hts := atoms_spec (ws := ws_ yX2_fineMap cX2_fineMap 4 (some (.array .int))) B.pre
  have hts : ∀ w ∈ lw_all, w.before _ s = true := fun w h => hts w (List.mem_cons_of_mem _ h)
  have hown : s.vm.findClass RX2 = some m.cls := findClass_of_methodNamed B.named
  have hlk := B.notSynchronized
  have hS : va_S (kNW s.heap) s.heap s.heap [] := va_S.rf
  have hB : ∀ q, (kNW s.heap) q → kBase D ≤ q := fun q h => Nat.le_trans hK.size h
  have hl := lv_entry ([.ref a]) (n := 4) (Nat.le_of_ble_eq_true rfl)
  rw [lg_entry_eq]
  generalize (lg_sl ([.ref a]) ++ List.replicate (4 - (lg_sl ([.ref a])).length) Slot.unset).toArray = ls at hl ⊢
  have hl : lv_has ls 4 [(0, .ref a)] := hl
  have hL60 := hok.n
  have hlb := hok.lbr
  have hlv := hok.lv
  have hsz := ln_size_23 L
  have hlt_a := hO_a.lt
  have hlt_pa := hA_pa.lt
  have hlt_sa := hA_sa.lt
  refine kx_sipush hx hb (by decide) dX2_fineMap_0 ?_
  refine kx_newa (atype := .int) (ty := .int) (t := 0) (a0 := (1785, .inl (fun j => kI ((fun _ => 0 : Nat → Int) j)))) (N' := 1785) hx hb hts q332 rfl hK rfl (fun _ h => by cases h) hS (by first | rfl | omega) (by omega) (fun cA => rfl) (by first | decide | (simp only [componentBytes]; omega)) (by first | exact Nat.le_of_ble_eq_true rfl | omega | (show _ ≤ _; omega) | (dsimp only [headSpec]; omega)) (by first | exact Nat.le_of_ble_eq_true rfl | omega | (show _ ≤ _; omega) | (dsimp only [headSpec]; omega)) dX2_fineMap_3 (fun mp H_1 hq_2 hz_3 hA_4 hE_5 hS_6 => ?_)
  have hge_mp : s.heap.size ≤ mp := by rw [hq_2]; exact hS.1
  refine W.widen (k := 1) (n := 1785) (Nat.le_of_ble_eq_true rfl) (Nat.le_of_ble_eq_true rfl) ?_
  refine lv_astore_n (lv' := [(1, .ref mp), (0, .ref a)]) hx hb dX2_fineMap_5 rfl hl (by decide) rfl (fun ls hl => ?_)
  refine kx_iconst hx hb dX2_fineMap_6 ?_
  refine lv_istore_n (lv' := [(2, .int (kI (0))), (1, .ref mp), (0, .ref a)]) hx hb dX2_fineMap_7 rfl hl (by decide) rfl (fun ls hl => ?_)
  have lp_8_x_7 : ∀ (n_8 : Nat) (k : Nat) (g1 : Nat → Int) (H : Heap) (hO_a : kO D H a 3 [.int (kI (ln_lv L)), .ref pa, .ref sa, .int (kI ((ln_n L : Nat) : Int)), .ref ea, .int (kI (ln_lb L))]) (hA_pa : kAi D H pa 61 gp) (hA_sa : kAi D H sa 60 gs) (hA_mp : kAi D H mp 1785 g1) (hk : k ≤ ln_n L) (hg1 : ∀ i, g1 i = f_map L k i) (locs : List Loc) (hS : va_S (kNW s.heap) s.heap H locs) (hm_8 : ln_n L - k < n_8) (ls : Array Slot), lv_has ls 4 [(0, .ref a), (1, .ref mp), (2, .int (kI ((k : Nat) : Int)))] → W p l e (headSpec (ws_ yX2_fineMap cX2_fineMap 4 (some (.array .int))) ({ frames := 2, cells := 1, slots := 1785, locals := 40 } : Room)).room s m ([.ref a] : List Value).toArray below meth c H locs (1) (1785) (MQ below (kQr (fun (r : Nat) H' => ∃ (g2 : Nat → Int), (kAi D H' r 1785 g2) ∧ (s.heap.size ≤ r) ∧ (∀ i, g2 i = f_map L (ln_n L) i)) (kNW s.heap)) ([.ref a] : List Value).toArray s (1) (1785) ((kNW s.heap))) (F0 m 8 ls []) := by
    intro n_8
    induction n_8 with
    | zero => intro k g1 H hO_a hA_pa hA_sa hA_mp hk hg1 locs hS hm_8; exact absurd hm_8 (Nat.not_lt_zero _)
    | succ n_8 ih_8 =>
      intro k g1 H hO_a hA_pa hA_sa hA_mp hk hg1 locs hS hm_8 ls hl
      refine lv_iload_n hx hb dX2_fineMap_8 rfl (lv_at hl 2 rfl) ?_
      refine lv_aload_n hx hb dX2_fineMap_9 rfl (lv_at hl 0 rfl) ?_
      refine kx_getN (v := .int (kI ((ln_n L : Nat) : Int))) (C := RX4) (T := TX4) (N := 6) hx hb hts in_X4 hown hK hO_a rfl 3 (by decide) (hK.w q345 rfl) (fun _ h9 => h9) rfl dX2_fineMap_10 ?_
      refine kx_icmp_ge (x := ((k : Nat) : Int)) (y := ((ln_n L : Nat) : Int)) (tgt := 65) hx hb dX2_fineMap_13 (by decide) (by omega) (by omega) (by omega) (by omega) (fun c_13_8 => ?_) (fun c_13_8 => ?_)
      · -- taken at 13
        refine lv_aload_n hx hb dX2_fineMap_65 rfl (lv_at hl 1 rfl) ?_
        exact kx_aret (z := mp) hx hb hr (by first | exact Or.inl ⟨_, rfl⟩ | exact Or.inr ⟨_, rfl⟩) hlk (⟨g1, hA_mp, by first | assumption | rfl | omega | grind, by intro i; rw [hg1 i, show k = ln_n L by omega]⟩) hS dX2_fineMap_66
      · -- not taken at 13
        refine lv_aload_n hx hb dX2_fineMap_16 rfl (lv_at hl 0 rfl) ?_
        refine kx_getN (v := .ref pa) (C := RX4) (T := TX4) (N := 6) hx hb hts in_X4 hown hK hO_a rfl 1 (by decide) (hK.w q337 rfl) (fun _ h9 => h9) rfl dX2_fineMap_17 ?_
        refine lv_iload_n hx hb dX2_fineMap_20 rfl (lv_at hl 2 rfl) ?_
        refine kx_iald (i := ((k : Nat) : Int)) hx hb hK hA_pa k (rfl) (by omega) (by omega) dX2_fineMap_21 ?_
        refine kx_eqi (ln_pos L k) (hM.1 k (by omega)) ?_
        have hpk := hok.pos (k := k) (by omega)
        have hdk := hok.d (k := k) (by omega)
        have hac := ac_rng (ln_d L k)
        have hdn := dn_rng (ln_d L k)
        have hsp9 : f_spot (ln_pos L k) = 102 * (ln_pos L k / 24 + 1) + 2 * (ln_pos L k % 24 + 1) := rfl
        refine kx_ci0 (va_runS (As := [.int (kI (ln_pos L k))]) (rest := []) ⟨hx, hb, hml, hown, hts⟩ (m_X2_spot l D H (ln_pos L k)  (by first | assumption | omega)) (va_cwS 1 hts (lw_S q2103 q2104 q80 q2105) rfl rfl rfl (by decide +kernel) ⟨Nat.le_of_ble_eq_true rfl, Nat.le_of_ble_eq_true rfl⟩) (kx_ps hK hS hB) rfl rfl hl.1 rfl (lv_room (Nat.le_of_ble_eq_true rfl)) dX2_fineMap_22 ⟨by first | exact Nat.le_of_ble_eq_true rfl | omega | (show _ ≤ _; omega) | (dsimp only [headSpec]; omega), by first | exact Nat.le_of_ble_eq_true rfl | omega | (show _ ≤ _; omega) | (dsimp only [headSpec]; omega)⟩) hS (fun z_12 locs_9 hz_11 hS_10 => ?_)
        subst z_12
        refine lv_istore_n (lv' := [(3, .int (kI (f_spot (ln_pos L k)))), (0, .ref a), (1, .ref mp), (2, .int (kI ((k : Nat) : Int)))]) hx hb dX2_fineMap_25 rfl hl (by decide) rfl (fun ls hl => ?_)
        refine lv_aload_n hx hb dX2_fineMap_26 rfl (lv_at hl 2 rfl) ?_
        refine lv_iload_n hx hb dX2_fineMap_27 rfl (lv_at hl 0 rfl) ?_
        refine kx_iconst hx hb dX2_fineMap_28 ?_
        refine kx_iast (i := f_spot (ln_pos L k)) (x := 1) hx hb hK hA_mp hS_10 (by first | rfl | exact Or.inl rfl | exact Or.inr rfl | exact Or.inr (Or.inl rfl) | exact Or.inr (Or.inr rfl) | exact Or.inr (Or.inr (Or.inl rfl)) | exact Or.inr (Or.inr (Or.inr rfl)) | ((try dsimp only); (try simp only [kNW]); omega)) ((f_spot (ln_pos L k)).toNat) (by omega) (by omega) (by omega) dX2_fineMap_29 (fun H_15 locs_16 hA_14 hU_13 hS_17 => ?_)
        have hzu_18 := hU_13.1
        refine lv_aload_n hx hb dX2_fineMap_30 rfl (lv_at hl 2 rfl) ?_
        refine lv_iload_n hx hb dX2_fineMap_31 rfl (lv_at hl 0 rfl) ?_
        refine kx_bipush hx hb (by decide) dX2_fineMap_32 ?_
        refine kx_getsN (v := .ref (D.2.2.2 1)) hx hb hK.sD hS_17 hB hown (hK.w q1719 rfl) (fun _ h9 => h9) dX2_fineMap_34 ?_
        refine lv_aload_n hx hb dX2_fineMap_37 rfl (lv_at hl 1 rfl) ?_
        have h_19 := hO_a.up hU_13 (by first | assumption | exact Ne.symm (by assumption) | omega | (have h9 := hO_a.lt; omega))
        refine kx_getN (v := .ref sa) (C := RX4) (T := TX4) (N := 6) hx hb hts in_X4 hown hK h_19 rfl 2 (by decide) (hK.w q341 rfl) (fun _ h9 => h9) rfl dX2_fineMap_38 ?_
        refine lv_iload_n hx hb dX2_fineMap_41 rfl (lv_at hl 3 rfl) ?_
        have h_20 := hA_sa.up hU_13 (by first | assumption | exact Ne.symm (by assumption) | omega | (have h9 := hA_sa.lt; omega))
        refine kx_iald (i := ((k : Nat) : Int)) hx hb hK h_20 k (rfl) (by omega) (by omega) dX2_fineMap_42 ?_
        refine kx_eqi (ln_d L k) (hM.2 k (by omega)) ?_
        refine kx_tab hx hb hK.tD hS_17 hB ((ln_d L k).toNat) (by omega) (by omega) (by decide) dX2_fineMap_43 ?_
        refine kx_imul hx hb dX2_fineMap_44 ?_
        refine kx_iadd hx hb dX2_fineMap_45 ?_
        refine kx_getsN (v := .ref (D.2.2.2 0)) hx hb hK.sA hS_17 hB hown (hK.w q1718 rfl) (fun _ h9 => h9) dX2_fineMap_46 ?_
        refine lv_aload_n hx hb dX2_fineMap_49 rfl (lv_at hl 1 rfl) ?_
        refine kx_getN (v := .ref sa) (C := RX4) (T := TX4) (N := 6) hx hb hts in_X4 hown hK h_19 rfl 2 (by decide) (hK.w q341 rfl) (fun _ h9 => h9) rfl dX2_fineMap_50 ?_
        refine lv_iload_n hx hb dX2_fineMap_53 rfl (lv_at hl 3 rfl) ?_
        refine kx_iald (i := ((k : Nat) : Int)) hx hb hK h_20 k (rfl) (by omega) (by omega) dX2_fineMap_54 ?_
        refine kx_eqi (ln_d L k) (hM.2 k (by omega)) ?_
        refine kx_tab hx hb hK.tA hS_17 hB ((ln_d L k).toNat) (by omega) (by omega) (by decide) dX2_fineMap_55 ?_
        refine kx_iadd hx hb dX2_fineMap_56 ?_
        refine kx_iconst hx hb dX2_fineMap_57 ?_
        refine kx_iast (i := ((f_spot (ln_pos L k) + (51 * (dn (ln_d L k)))) + (ac (ln_d L k)))) (x := 1) hx hb hK hA_14 hS_17 (by first | rfl | exact Or.inl rfl | exact Or.inr rfl | exact Or.inr (Or.inl rfl) | exact Or.inr (Or.inr rfl) | exact Or.inr (Or.inr (Or.inl rfl)) | exact Or.inr (Or.inr (Or.inr rfl)) | ((try dsimp only); (try simp only [kNW]); omega)) ((f_spot (ln_pos L k) + 51 * dn (ln_d L k) + ac (ln_d L k)).toNat) (by omega) (by omega) (by omega) dX2_fineMap_58 (fun H_23 locs_24 hA_22 hU_21 hS_25 => ?_)
        have hzu_26 := hU_21.1
        refine lv_iinc (v := kI (((k + 1 : Nat) : Int))) (lv' := [(2, .int (kI ((k + 1 : Nat) : Int))), (3, .int (kI (f_spot (ln_pos L k)))), (0, .ref a), (1, .ref mp)]) hx hb dX2_fineMap_59 hl (k := 3) rfl (kI_incN _ _) (by decide) rfl (fun ls hl => ?_)
        refine lv_goto (tgt := 8) hx hb dX2_fineMap_62 (by decide) ?_
        have h_27 := h_19.up hU_21 (by first | assumption | exact Ne.symm (by assumption) | omega | (have h9 := h_19.lt; omega))
        have h_28 := hA_pa.up hU_13 (by first | assumption | exact Ne.symm (by assumption) | omega | (have h9 := hA_pa.lt; omega))
        have h_29 := h_28.up hU_21 (by first | assumption | exact Ne.symm (by assumption) | omega | (have h9 := h_28.lt; omega))
        have h_30 := h_20.up hU_21 (by first | assumption | exact Ne.symm (by assumption) | omega | (have h9 := h_20.lt; omega))
        exact ih_8  ((k + 1)) (kup (kup g1 ((f_spot (ln_pos L k)).toNat) 1) ((f_spot (ln_pos L k) + 51 * dn (ln_d L k) + ac (ln_d L k)).toNat) 1) H_23 h_27 h_29 h_30 hA_22 (by first | assumption | omega | (simp_all; done) | grind) (fun i => by rw [f_map]; unfold kup; split; rfl; split; rfl; exact hg1 i) _ hS_25 (by omega) ls (lv_sub hl [2, 3, 0] rfl)
  have h_31 := hO_a.ex hE_5
  have h_32 := hA_pa.ex hE_5
  have h_33 := hA_sa.ex hE_5
  exact lp_8_x_7 (ln_n L - 0 + 1) 0 ((fun _ => 0)) H_1 h_31 h_32 h_33 hA_4 (by first | assumption | omega | (simp_all; done) | grind) (fun _ => rfl) _ hS_6 (Nat.lt_succ_self _) ls (lv_sub hl [2, 1, 0] rfl)

