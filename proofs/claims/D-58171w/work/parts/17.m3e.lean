/-! MATH 6 -/
theorem st_whyNot_rng (S : Ls) (l : Nat) (d : Int) : 0 ≤ st_whyNot S l d ∧ st_whyNot S l d ≤ 5 := by
  unfold st_whyNot
  split
  · omega
  · split
    · omega
    · split
      · omega
      · split
        · omega
        · split <;> omega
set_option maxHeartbeats 4000000 in
set_option maxRecDepth 100000 in
theorem m_X3_labelsAll (l : Launch) (D : kG) (H : Heap) (a : Nat) (fs : List Value) (ra : Nat) (g : Nat → Int) (S : Ls) (gap : Int) (hO_a : kO D H a 2 fs) (hf_a_0 : fs[0]? = some (.ref ra)) (hA_ra : kAi D H ra 514 g) (hM : MRow g S gap) (hok : LsOK S gap) (ne_a_ra : a ≠ ra) (bs_ra : kBase D ≤ ra) : Met l yX3_labelsAll (ws_ yX3_labelsAll cX3_labelsAll 3 (some .int)) ({ frames := 9, cells := 0, slots := 0, locals := 207 } : Room) (kPre D H [.ref a]) (kQi (fun (r : Int) H' => ∃ (g2 : Nat → Int), (r = st_lab (st_la S gap)) ∧ (kAi D H' ra 514 g2) ∧ (MRow g2 (st_la S gap) gap)) (fun q : Nat => q = ra)) (0) (0) ((fun q : Nat => q = ra)) := by
  refine Met.ofW (cc := cX3_labelsAll) (maxL := 3) (ret := (some .int)) (by decide) rfl ?_
  intro p e s m args below meth c s₁ B hml hv
  obtain ⟨rfl, hH, hK⟩ := hv
  subst hH
  have hx := B.exec
  have hb := B.bytes
  have hr := B.returns
  have hts := atoms_spec (ws := ws_ yX3_labelsAll cX3_labelsAll 3 (some .int)) B.pre
  have hts : ∀ w ∈ lw_all, w.before _ s = true := fun w h => hts w (List.mem_cons_of_mem _ h)
  have hown : s.vm.findClass RX3 = some m.cls := findClass_of_methodNamed B.named
  have hlk := B.notSynchronized
  have hS : va_S (fun q : Nat => q = ra) s.heap s.heap [] := va_S.rf
  have hB : ∀ q, (fun q : Nat => q = ra) q → kBase D ≤ q := fun q h => by (try dsimp only at h); (try simp only [kNW] at h); have hks := hK.size; omega
  have hl := lv_entry ([.ref a]) (n := 3) (Nat.le_of_ble_eq_true rfl)
  rw [lg_entry_eq]
  generalize (lg_sl ([.ref a]) ++ List.replicate (3 - (lg_sl ([.ref a])).length) Slot.unset).toArray = ls at hl ⊢
  have hl : lv_has ls 3 [(0, .ref a)] := hl
  have hL8 := hok.1
  refine kx_iconst hx hb dX3_labelsAll_0 ?_
  refine lv_istore_n (lv' := [(1, .int (kI (0))), (0, .ref a)]) hx hb dX3_labelsAll_1 rfl hl (by decide) rfl (fun ls hl => ?_)
  have lp_2_x_1 : ∀ (n_2 : Nat) (k : Nat) (g1 : Nat → Int) (H : Heap) (hO_a : kO D H a 2 fs) (hA_ra : kAi D H ra 514 g1) (hk : k ≤ S.length) (hM1 : MRow g1 (st_clTo S k) gap) (locs : List Loc) (hS : va_S (fun q : Nat => q = ra) s.heap H locs) (hm_2 : S.length - k < n_2) (ls : Array Slot), lv_has ls 3 [(0, .ref a), (1, .int (kI ((k : Nat) : Int)))] → W p l e (headSpec (ws_ yX3_labelsAll cX3_labelsAll 3 (some .int)) ({ frames := 9, cells := 0, slots := 0, locals := 207 } : Room)).room s m ([.ref a] : List Value).toArray below meth c H locs (0) (0) (MQ below (kQi (fun (r : Int) H' => ∃ (g2 : Nat → Int), (r = st_lab (st_la S gap)) ∧ (kAi D H' ra 514 g2) ∧ (MRow g2 (st_la S gap) gap)) (fun q : Nat => q = ra)) ([.ref a] : List Value).toArray s (0) (0) ((fun q : Nat => q = ra))) (F0 m 2 ls []) := by
    intro n_2
    induction n_2 with
    | zero => intro k g1 H hO_a hA_ra hk hM1 locs hS hm_2; exact absurd hm_2 (Nat.not_lt_zero _)
    | succ n_2 ih_2 =>
      intro k g1 H hO_a hA_ra hk hM1 locs hS hm_2 ls hl
      refine lv_iload_n hx hb dX3_labelsAll_2 rfl (lv_at hl 1 rfl) ?_
      refine lv_aload_n hx hb dX3_labelsAll_3 rfl (lv_at hl 0 rfl) ?_
      refine kx_get (v := .ref ra) (C := RX3) (T := TX3) (N := 13) hx hb hts in_X3 hown hK hO_a rfl 0 (by decide) q2238 (fun _ h9 => h9) hf_a_0 dX3_labelsAll_4 ?_
      refine kx_iconst hx hb dX3_labelsAll_7 ?_
      refine kx_iald (i := 0) hx hb hK hA_ra 0 (rfl) (by omega) (by omega) dX3_labelsAll_8 ?_
      refine kx_eqi (((S.length : Nat) : Int)) (by rw [hM1.len, st_clTo_len]) ?_
      refine kx_icmp_ge (x := ((k : Nat) : Int)) (y := ((S.length : Nat) : Int)) (tgt := 25) hx hb dX3_labelsAll_9 (by decide) (by omega) (by omega) (by omega) (by omega) (fun c_9_2 => ?_) (fun c_9_2 => ?_)
      · -- taken at 9
        refine kx_iconst hx hb dX3_labelsAll_25 ?_
        refine lv_istore_n (lv' := [(1, .int (kI (0))), (0, .ref a)]) hx hb dX3_labelsAll_26 rfl hl (by decide) rfl (fun ls hl => ?_)
        have lp_27_x_3 : ∀ (n_27 : Nat) (k2 : Nat) (g3 : Nat → Int) (H : Heap) (hO_a : kO D H a 2 fs) (hA_ra : kAi D H ra 514 g3) (hk2 : k2 ≤ S.length) (hM3 : MRow g3 (st_laTo S gap k2) gap) (locs : List Loc) (hS : va_S (fun q : Nat => q = ra) s.heap H locs) (hm_27 : S.length - k2 < n_27) (ls : Array Slot), lv_has ls 3 [(0, .ref a), (1, .int (kI ((k2 : Nat) : Int)))] → W p l e (headSpec (ws_ yX3_labelsAll cX3_labelsAll 3 (some .int)) ({ frames := 9, cells := 0, slots := 0, locals := 207 } : Room)).room s m ([.ref a] : List Value).toArray below meth c H locs (0) (0) (MQ below (kQi (fun (r : Int) H' => ∃ (g2 : Nat → Int), (r = st_lab (st_la S gap)) ∧ (kAi D H' ra 514 g2) ∧ (MRow g2 (st_la S gap) gap)) (fun q : Nat => q = ra)) ([.ref a] : List Value).toArray s (0) (0) ((fun q : Nat => q = ra))) (F0 m 27 ls []) := by
          intro n_27
          induction n_27 with
          | zero => intro k2 g3 H hO_a hA_ra hk2 hM3 locs hS hm_27; exact absurd hm_27 (Nat.not_lt_zero _)
          | succ n_27 ih_27 =>
            intro k2 g3 H hO_a hA_ra hk2 hM3 locs hS hm_27 ls hl
            refine lv_iload_n hx hb dX3_labelsAll_27 rfl (lv_at hl 1 rfl) ?_
            refine lv_aload_n hx hb dX3_labelsAll_28 rfl (lv_at hl 0 rfl) ?_
            refine kx_get (v := .ref ra) (C := RX3) (T := TX3) (N := 13) hx hb hts in_X3 hown hK hO_a rfl 0 (by decide) q2238 (fun _ h9 => h9) hf_a_0 dX3_labelsAll_29 ?_
            refine kx_iconst hx hb dX3_labelsAll_32 ?_
            refine kx_iald (i := 0) hx hb hK hA_ra 0 (rfl) (by omega) (by omega) dX3_labelsAll_33 ?_
            refine kx_eqi (((S.length : Nat) : Int)) (by rw [hM3.len, st_laTo_len]) ?_
            refine kx_icmp_ge (x := ((k2 : Nat) : Int)) (y := ((S.length : Nat) : Int)) (tgt := 60) hx hb dX3_labelsAll_34 (by decide) (by omega) (by omega) (by omega) (by omega) (fun c_34_4 => ?_) (fun c_34_4 => ?_)
            · -- taken at 34
              refine lv_aload_n hx hb dX3_labelsAll_60 rfl (lv_at hl 0 rfl) ?_
              refine kx_ci0 (va_runV (As := []) (rest := []) ⟨hx, hb, hml, hown, hts⟩ (m_X3_labelled l D H a fs ra g3 (st_la S gap) gap hO_a hf_a_0 hA_ra ((by unfold st_la; rw [← show k2 = S.length by omega]; exact hM3)) hok.la) (cwV 0 hts (lw_V q2407 q2409 qs62 q89 q2410) rfl rfl rfl (by decide +kernel) ⟨Nat.le_of_ble_eq_true rfl, Nat.le_of_ble_eq_true rfl⟩) (kx_pv hK hS hB (kx_rc hK hO_a (C := RX3) (T := TX3) (N := 13) rfl)) rfl rfl hl.1 rfl (lv_room (Nat.le_of_ble_eq_true rfl)) dX3_labelsAll_61 ⟨by first | exact Nat.le_of_ble_eq_true rfl | omega | (show _ ≤ _; omega) | (dsimp only [headSpec]; omega), by first | exact Nat.le_of_ble_eq_true rfl | omega | (show _ ≤ _; omega) | (dsimp only [headSpec]; omega)⟩) hS (fun z_8 locs_5 hz_7 hS_6 => ?_)
              subst z_8
              exact kx_iret (z := st_lab (st_la S gap)) hx hb hr hlk (⟨g3, by rfl, hA_ra, by unfold st_la; rw [← show k2 = S.length by omega]; exact hM3⟩) hS_6 dX3_labelsAll_64
            · -- not taken at 34
              have hll := st_laTo_len S gap k2
              have hbl := st_byLv_ord (hok.laTo k2 (by omega)).1 (p := k2) (by omega)
              refine lv_aload_n hx hb dX3_labelsAll_37 rfl (lv_at hl 0 rfl) ?_
              refine lv_iload_n hx hb dX3_labelsAll_38 rfl (lv_at hl 1 rfl) ?_
              refine kx_ci0 (va_runV (As := [.int (kI ((k2 : Nat) : Int))]) (rest := []) ⟨hx, hb, hml, hown, hts⟩ (m_X3_byLevel l D H a fs ra g3 (st_laTo S gap k2) gap ((k2 : Int)) hO_a hf_a_0 hA_ra hM3 ((hok.laTo k2 (by omega))) (by first | assumption | omega)) (cwV 1 hts (lw_V q2403 q2405 qs61 q89 q2406) rfl rfl rfl (by decide +kernel) ⟨Nat.le_of_ble_eq_true rfl, Nat.le_of_ble_eq_true rfl⟩) (kx_pv hK hS hB (kx_rc hK hO_a (C := RX3) (T := TX3) (N := 13) rfl)) rfl rfl hl.1 rfl (lv_room (Nat.le_of_ble_eq_true rfl)) dX3_labelsAll_39 ⟨by first | exact Nat.le_of_ble_eq_true rfl | omega | (show _ ≤ _; omega) | (dsimp only [headSpec]; omega), by first | exact Nat.le_of_ble_eq_true rfl | omega | (show _ ≤ _; omega) | (dsimp only [headSpec]; omega)⟩) hS (fun z_12 locs_9 hz_11 hS_10 => ?_)
              subst z_12
              refine kx_eqi ((((st_byLv (st_laTo S gap k2) k2).toNat : Nat) : Int)) (by omega) ?_
              refine lv_istore_n (lv' := [(2, .int (kI (((st_byLv (st_laTo S gap k2) k2).toNat : Nat) : Int))), (0, .ref a), (1, .int (kI ((k2 : Nat) : Int)))]) hx hb dX3_labelsAll_42 rfl hl (by decide) rfl (fun ls hl => ?_)
              refine lv_aload_n hx hb dX3_labelsAll_43 rfl (lv_at hl 1 rfl) ?_
              refine lv_iload_n hx hb dX3_labelsAll_44 rfl (lv_at hl 0 rfl) ?_
              refine kx_iconst hx hb dX3_labelsAll_45 ?_
              refine lv_aload_n hx hb dX3_labelsAll_46 rfl (lv_at hl 1 rfl) ?_
              refine lv_iload_n hx hb dX3_labelsAll_47 rfl (lv_at hl 0 rfl) ?_
              refine kx_ci0 (va_runV (As := [.int (kI (((st_byLv (st_laTo S gap k2) k2).toNat : Nat) : Int))]) (rest := [.int (kI (3)), .int (kI (((st_byLv (st_laTo S gap k2) k2).toNat : Nat) : Int)), .ref a]) ⟨hx, hb, hml, hown, hts⟩ (m_X3_best l D H a fs ra g3 (st_laTo S gap k2) gap ((st_byLv (st_laTo S gap k2) k2).toNat) hO_a hf_a_0 hA_ra hM3 ((hok.laTo k2 (by omega))) (by first | assumption | omega)) (cwV 1 hts (lw_V q2379 q2381 qs55 q89 q2382) rfl rfl rfl (by decide +kernel) ⟨Nat.le_of_ble_eq_true rfl, Nat.le_of_ble_eq_true rfl⟩) (kx_pv hK hS_10 hB (kx_rc hK hO_a (C := RX3) (T := TX3) (N := 13) rfl)) rfl rfl hl.1 rfl (lv_room (Nat.le_of_ble_eq_true rfl)) dX3_labelsAll_48 ⟨by first | exact Nat.le_of_ble_eq_true rfl | omega | (show _ ≤ _; omega) | (dsimp only [headSpec]; omega), by first | exact Nat.le_of_ble_eq_true rfl | omega | (show _ ≤ _; omega) | (dsimp only [headSpec]; omega)⟩) hS_10 (fun z_16 locs_13 hz_15 hS_14 => ?_)
              subst z_16
              refine kx_cv (va_runV (As := [.int (kI (((st_byLv (st_laTo S gap k2) k2).toNat : Nat) : Int)), .int (kI (3)), .int (kI (st_best (st_laTo S gap k2) gap ((st_byLv (st_laTo S gap k2) k2).toNat)))]) (rest := []) ⟨hx, hb, hml, hown, hts⟩ (m_X3_puts l D H a fs ra g3 ((((st_byLv (st_laTo S gap k2) k2).toNat : Nat) : Int)) 3 (st_best (st_laTo S gap k2) gap ((st_byLv (st_laTo S gap k2) k2).toNat)) (2 + 64 * (st_byLv (st_laTo S gap k2) k2).toNat + 3) hO_a hf_a_0 hA_ra (by first | assumption | omega) (by first | assumption | omega) (by first | assumption | omega)) (cwV 3 hts (lw_V q2391 q2393 qs58 q89 q2394) rfl rfl rfl (by decide +kernel) ⟨Nat.le_of_ble_eq_true rfl, Nat.le_of_ble_eq_true rfl⟩) (kx_pv hK hS_14 hB (kx_rc hK hO_a (C := RX3) (T := TX3) (N := 13) rfl)) rfl rfl hl.1 rfl (lv_room (Nat.le_of_ble_eq_true rfl)) dX3_labelsAll_51 ⟨by first | exact Nat.le_of_ble_eq_true rfl | omega | (show _ ≤ _; omega) | (dsimp only [headSpec]; omega), by first | exact Nat.le_of_ble_eq_true rfl | omega | (show _ ≤ _; omega) | (dsimp only [headSpec]; omega)⟩) hS_14 (fun q _ h => by (try dsimp only at h); (try dsimp only); (try simp only [kNW] at h); (try simp only [kNW]); omega) (fun q h => by (try dsimp only at h); (try dsimp only); (try simp only [kNW] at h); (try simp only [kNW]); omega) (fun H_20 locs_17 hz_19 hF_21 hS_18 => ?_)
              refine W.widen (k := 0) (n := 0) (Nat.le_of_ble_eq_true rfl) (Nat.le_of_ble_eq_true rfl) ?_
              have ho_23 := hz_19
              refine lv_iinc (v := kI (((k2 + 1 : Nat) : Int))) (lv' := [(1, .int (kI ((k2 + 1 : Nat) : Int))), (2, .int (kI (((st_byLv (st_laTo S gap k2) k2).toNat : Nat) : Int))), (0, .ref a)]) hx hb dX3_labelsAll_54 hl (k := 2) rfl (kI_incN _ _) (by decide) rfl (fun ls hl => ?_)
              refine lv_goto (tgt := 27) hx hb dX3_labelsAll_57 (by decide) ?_
              have h_24 := hO_a.fr hF_21 (fun h => by (try dsimp only at h); (try simp only [kNW] at h); omega)
              exact ih_27  (k2 + 1) (kup g3 ((2 + 64 * (st_byLv (st_laTo S gap k2) k2).toNat + 3)) ((st_best (st_laTo S gap k2) gap ((st_byLv (st_laTo S gap k2) k2).toNat)))) H_20 h_24 ho_23 (by first | assumption | omega | (simp_all; done) | grind) (by rw [st_laTo]; exact hM3.setLb (hok.laTo k2 (by omega)) (by omega) _) _ hS_18 (by omega) ls (lv_sub hl [2, 0] rfl)
        exact lp_27_x_3 (S.length - 0 + 1) 0 g1 H hO_a hA_ra (by first | assumption | omega | (simp_all; done) | grind) (by rw [st_laTo, show S.length = k by omega]; exact hM1) _ hS (Nat.lt_succ_self _) ls (lv_sub hl [1, 0] rfl)
      · -- not taken at 9
        refine lv_aload_n hx hb dX3_labelsAll_12 rfl (lv_at hl 0 rfl) ?_
        refine lv_iload_n hx hb dX3_labelsAll_13 rfl (lv_at hl 1 rfl) ?_
        refine kx_iconst hx hb dX3_labelsAll_14 ?_
        refine kx_iconst hx hb dX3_labelsAll_15 ?_
        refine kx_cv (va_runV (As := [.int (kI ((k : Nat) : Int)), .int (kI (3)), .int (kI ((-1)))]) (rest := []) ⟨hx, hb, hml, hown, hts⟩ (m_X3_puts l D H a fs ra g1 (((k : Nat) : Int)) 3 ((-1)) (2 + 64 * k + 3) hO_a hf_a_0 hA_ra (by first | assumption | omega) (by first | assumption | omega) (by first | assumption | omega)) (cwV 3 hts (lw_V q2391 q2393 qs58 q89 q2394) rfl rfl rfl (by decide +kernel) ⟨Nat.le_of_ble_eq_true rfl, Nat.le_of_ble_eq_true rfl⟩) (kx_pv hK hS hB (kx_rc hK hO_a (C := RX3) (T := TX3) (N := 13) rfl)) rfl rfl hl.1 rfl (lv_room (Nat.le_of_ble_eq_true rfl)) dX3_labelsAll_16 ⟨by first | exact Nat.le_of_ble_eq_true rfl | omega | (show _ ≤ _; omega) | (dsimp only [headSpec]; omega), by first | exact Nat.le_of_ble_eq_true rfl | omega | (show _ ≤ _; omega) | (dsimp only [headSpec]; omega)⟩) hS (fun q _ h => by (try dsimp only at h); (try dsimp only); (try simp only [kNW] at h); (try simp only [kNW]); omega) (fun q h => by (try dsimp only at h); (try dsimp only); (try simp only [kNW] at h); (try simp only [kNW]); omega) (fun H_28 locs_25 hz_27 hF_29 hS_26 => ?_)
        refine W.widen (k := 0) (n := 0) (Nat.le_of_ble_eq_true rfl) (Nat.le_of_ble_eq_true rfl) ?_
        have ho_31 := hz_27
        refine lv_iinc (v := kI (((k + 1 : Nat) : Int))) (lv' := [(1, .int (kI ((k + 1 : Nat) : Int))), (0, .ref a)]) hx hb dX3_labelsAll_19 hl (k := 1) rfl (kI_incN _ _) (by decide) rfl (fun ls hl => ?_)
        refine lv_goto (tgt := 2) hx hb dX3_labelsAll_22 (by decide) ?_
        have h_32 := hO_a.fr hF_29 (fun h => by (try dsimp only at h); (try simp only [kNW] at h); omega)
        exact ih_2  (k + 1) (kup g1 (2 + 64 * k + 3) (((-1)))) H_28 h_32 ho_31 (by first | assumption | omega | (simp_all; done) | grind) (by rw [st_clTo]; exact hM1.setLb (hok.clTo k (by omega)) (by rw [st_clTo_len]; omega) (-1)) _ hS_26 (by omega) ls (lv_sub hl [1, 0] rfl)
  exact lp_2_x_1 (S.length - 0 + 1) 0 g s.heap hO_a hA_ra (by first | assumption | omega | (simp_all; done) | grind) (hM) _ hS (Nat.lt_succ_self _) ls (lv_sub hl [1, 0] rfl)

set_option maxHeartbeats 4000000 in
set_option maxRecDepth 100000 in
theorem m_ref_b (l : Launch) (D : kG) (H : Heap) (a : Nat) (fs : List Value) (ra : Nat) (g : Nat → Int) (S : Ls) (gap : Int) (x : Int) (y : Int) (hO_a : kO D H a 2 fs) (hf_a_0 : fs[0]? = some (.ref ra)) (hA_ra : kAi D H ra 514 g) (hM : MRow g S gap) (hok : LsOK S gap) (hr_x : -2147483648 ≤ x ∧ x ≤ 2147483647) (hr_y : -2147483648 ≤ y ∧ y ≤ 2147483647) : Met l yX3_refusal (ws_ yX3_refusal cX3_refusal 4 (some .int)) ({ frames := 3, cells := 0, slots := 0, locals := 67 } : Room) (kPre D H [.ref a, .int (kI (110)), .int (kI (x)), .int (kI (y))]) (kQi (fun (r : Int) H' => H' = H ∧ r = ref_b S x y) kNO) (0) (0) (kNO) := by
  refine Met.ofW (cc := cX3_refusal) (maxL := 4) (ret := (some .int)) (by decide) rfl ?_
  intro p e s m args below meth c s₁ B hml hv
  obtain ⟨rfl, hH, hK⟩ := hv
  subst hH
  have hx := B.exec
  have hb := B.bytes
  have hr := B.returns
  have hts := atoms_spec (ws := ws_ yX3_refusal cX3_refusal 4 (some .int)) B.pre
  have hts : ∀ w ∈ lw_all, w.before _ s = true := fun w h => hts w (List.mem_cons_of_mem _ h)
  have hown : s.vm.findClass RX3 = some m.cls := findClass_of_methodNamed B.named
  have hlk := B.notSynchronized
  have hS : va_S kNO s.heap s.heap [] := va_S.rf
  have hB : ∀ q, kNO q → kBase D ≤ q := fun _ h => h.elim
  have hl := lv_entry ([.ref a, .int (kI (110)), .int (kI (x)), .int (kI (y))]) (n := 4) (Nat.le_of_ble_eq_true rfl)
  rw [lg_entry_eq]
  generalize (lg_sl ([.ref a, .int (kI (110)), .int (kI (x)), .int (kI (y))]) ++ List.replicate (4 - (lg_sl ([.ref a, .int (kI (110)), .int (kI (x)), .int (kI (y))])).length) Slot.unset).toArray = ls at hl ⊢
  have hl : lv_has ls 4 [(0, .ref a), (1, .int (kI (110))), (2, .int (kI (x))), (3, .int (kI (y)))] := hl
  have hL8 := hok.1
  have hlen := hM.len
  refine lv_iload_n hx hb dX3_refusal_0 rfl (lv_at hl 1 rfl) ?_
  refine lv_tableIn (off := 103) (tgt := 104) hx hb dX3_refusal_1 (by decide) (by decide) (by decide) (by decide) ?_
  refine lv_iload_n hx hb dX3_refusal_104 rfl (lv_at hl 3 rfl) ?_
  refine kx_cb0 (va_runS (As := [.int (kI (y))]) (rest := []) ⟨hx, hb, hml, hown, hts⟩ (m_X3_isPoint l D s.heap y  (by first | assumption | omega)) (va_cwS 1 hts (lw_S q2294 q2295 q89 q2296) rfl rfl rfl (by decide +kernel) ⟨Nat.le_of_ble_eq_true rfl, Nat.le_of_ble_eq_true rfl⟩) (kx_ps hK hS hB) rfl rfl hl.1 rfl (lv_room (Nat.le_of_ble_eq_true rfl)) dX3_refusal_105 ⟨by first | exact Nat.le_of_ble_eq_true rfl | omega | (show _ ≤ _; omega) | (dsimp only [headSpec]; omega), by first | exact Nat.le_of_ble_eq_true rfl | omega | (show _ ≤ _; omega) | (dsimp only [headSpec]; omega)⟩) hS (fun z_4 locs_1 hz_3 hS_2 => ?_)
  subst z_4
  refine kx_ifnz (tgt := 115) hx hb dX3_refusal_108 (by decide) (fun c_108_5 => ?_) (fun c_108_5 => ?_)
  · -- taken at 108
    have c_108_5 := of_decide_eq_true c_108_5
    have how := st_owner_rng S y
    refine lv_iload_n hx hb dX3_refusal_115 rfl (lv_at hl 2 rfl) ?_
    refine kx_iconst hx hb dX3_refusal_116 ?_
    refine kx_bipush hx hb (by decide) dX3_refusal_117 ?_
    refine kx_cb0 (va_runS (As := [.int (kI (x)), .int (kI (0)), .int (kI (99))]) (rest := []) ⟨hx, hb, hml, hown, hts⟩ (m_X3_in l D s.heap x 0 99  (by first | assumption | omega) (by first | assumption | omega) (by first | assumption | omega)) (va_cwS 3 hts (lw_S q2297 q2298 q89 q2299) rfl rfl rfl (by decide +kernel) ⟨Nat.le_of_ble_eq_true rfl, Nat.le_of_ble_eq_true rfl⟩) (kx_ps hK hS_2 hB) rfl rfl hl.1 rfl (lv_room (Nat.le_of_ble_eq_true rfl)) dX3_refusal_119 ⟨by first | exact Nat.le_of_ble_eq_true rfl | omega | (show _ ≤ _; omega) | (dsimp only [headSpec]; omega), by first | exact Nat.le_of_ble_eq_true rfl | omega | (show _ ≤ _; omega) | (dsimp only [headSpec]; omega)⟩) hS_2 (fun z_9 locs_6 hz_8 hS_7 => ?_)
    subst z_9
    refine kx_ifnz (tgt := 129) hx hb dX3_refusal_122 (by decide) (fun c_122_10 => ?_) (fun c_122_10 => ?_)
    · -- taken at 122
      have c_122_10 := of_decide_eq_true c_122_10
      refine lv_aload_n hx hb dX3_refusal_129 rfl (lv_at hl 0 rfl) ?_
      refine kx_get (v := .ref ra) (C := RX3) (T := TX3) (N := 13) hx hb hts in_X3 hown hK hO_a rfl 0 (by decide) q2238 (fun _ h9 => h9) hf_a_0 dX3_refusal_130 ?_
      refine kx_iconst hx hb dX3_refusal_133 ?_
      refine kx_iald (i := 0) hx hb hK hA_ra 0 (rfl) (by omega) (by omega) dX3_refusal_134 ?_
      refine kx_bipush hx hb (by decide) dX3_refusal_135 ?_
      refine kx_icmp_eq (x := (g 0)) (y := 8) (tgt := 149) hx hb dX3_refusal_137 (by decide) (by omega) (by omega) (by omega) (by omega) (fun c_137_11 => ?_) (fun c_137_11 => ?_)
      · -- taken at 137
        refine kx_iconst hx hb dX3_refusal_149 ?_
        refine lv_goto (tgt := 154) hx hb dX3_refusal_150 (by decide) ?_
        exact kx_iret (z := 3) hx hb hr hlk (⟨rfl, by unfold ref_b; grind⟩) hS_7 dX3_refusal_154
      · -- not taken at 137
        refine lv_aload_n hx hb dX3_refusal_140 rfl (lv_at hl 0 rfl) ?_
        refine lv_iload_n hx hb dX3_refusal_141 rfl (lv_at hl 3 rfl) ?_
        refine kx_ci0 (va_runV (As := [.int (kI (y))]) (rest := []) ⟨hx, hb, hml, hown, hts⟩ (m_X3_owner l D s.heap a fs ra g S gap y hO_a hf_a_0 hA_ra (by first | assumption | omega) (by first | assumption | omega) (by first | assumption | omega)) (cwV 1 hts (lw_V q2300 q2302 qs39 q89 q2303) rfl rfl rfl (by decide +kernel) ⟨Nat.le_of_ble_eq_true rfl, Nat.le_of_ble_eq_true rfl⟩) (kx_pv hK hS_7 hB (kx_rc hK hO_a (C := RX3) (T := TX3) (N := 13) rfl)) rfl rfl hl.1 rfl (lv_room (Nat.le_of_ble_eq_true rfl)) dX3_refusal_142 ⟨by first | exact Nat.le_of_ble_eq_true rfl | omega | (show _ ≤ _; omega) | (dsimp only [headSpec]; omega), by first | exact Nat.le_of_ble_eq_true rfl | omega | (show _ ≤ _; omega) | (dsimp only [headSpec]; omega)⟩) hS_7 (fun z_15 locs_12 hz_14 hS_13 => ?_)
        subst z_15
        refine kx_iconst hx hb dX3_refusal_145 ?_
        refine kx_icmp_eq (x := st_owner S y) (y := (-1)) (tgt := 153) hx hb dX3_refusal_146 (by decide) (by omega) (by omega) (by omega) (by omega) (fun c_146_16 => ?_) (fun c_146_16 => ?_)
        · -- taken at 146
          refine kx_iconst hx hb dX3_refusal_153 ?_
          exact kx_iret (z := 0) hx hb hr hlk (⟨rfl, by unfold ref_b; grind⟩) hS_13 dX3_refusal_154
        · -- not taken at 146
          refine kx_iconst hx hb dX3_refusal_149 ?_
          refine lv_goto (tgt := 154) hx hb dX3_refusal_150 (by decide) ?_
          exact kx_iret (z := 3) hx hb hr hlk (⟨rfl, by unfold ref_b; grind⟩) hS_13 dX3_refusal_154
    · -- not taken at 122
      have c_122_10 := of_decide_eq_false c_122_10
      refine kx_iconst hx hb dX3_refusal_125 ?_
      refine lv_goto (tgt := 154) hx hb dX3_refusal_126 (by decide) ?_
      exact kx_iret (z := 2) hx hb hr hlk (⟨rfl, by unfold ref_b; grind⟩) hS_7 dX3_refusal_154
  · -- not taken at 108
    have c_108_5 := of_decide_eq_false c_108_5
    refine kx_iconst hx hb dX3_refusal_111 ?_
    refine lv_goto (tgt := 154) hx hb dX3_refusal_112 (by decide) ?_
    exact kx_iret (z := 1) hx hb hr hlk (⟨rfl, by unfold ref_b; grind⟩) hS_2 dX3_refusal_154

set_option maxHeartbeats 4000000 in
set_option maxRecDepth 100000 in
theorem m_ref_s (l : Launch) (D : kG) (H : Heap) (a : Nat) (fs : List Value) (ra : Nat) (g : Nat → Int) (S : Ls) (gap : Int) (x : Int) (y : Int) (hO_a : kO D H a 2 fs) (hf_a_0 : fs[0]? = some (.ref ra)) (hA_ra : kAi D H ra 514 g) (hM : MRow g S gap) (hok : LsOK S gap) (hr_x : -2147483648 ≤ x ∧ x ≤ 2147483647) (hr_y : -2147483648 ≤ y ∧ y ≤ 2147483647) : Met l yX3_refusal (ws_ yX3_refusal cX3_refusal 4 (some .int)) ({ frames := 6, cells := 0, slots := 0, locals := 133 } : Room) (kPre D H [.ref a, .int (kI (115)), .int (kI (x)), .int (kI (y))]) (kQi (fun (r : Int) H' => H' = H ∧ r = ref_s S x y) kNO) (0) (0) (kNO) := by
  refine Met.ofW (cc := cX3_refusal) (maxL := 4) (ret := (some .int)) (by decide) rfl ?_
  intro p e s m args below meth c s₁ B hml hv
  obtain ⟨rfl, hH, hK⟩ := hv
  subst hH
  have hx := B.exec
  have hb := B.bytes
  have hr := B.returns
  have hts := atoms_spec (ws := ws_ yX3_refusal cX3_refusal 4 (some .int)) B.pre
  have hts : ∀ w ∈ lw_all, w.before _ s = true := fun w h => hts w (List.mem_cons_of_mem _ h)
  have hown : s.vm.findClass RX3 = some m.cls := findClass_of_methodNamed B.named
  have hlk := B.notSynchronized
  have hS : va_S kNO s.heap s.heap [] := va_S.rf
  have hB : ∀ q, kNO q → kBase D ≤ q := fun _ h => h.elim
  have hl := lv_entry ([.ref a, .int (kI (115)), .int (kI (x)), .int (kI (y))]) (n := 4) (Nat.le_of_ble_eq_true rfl)
  rw [lg_entry_eq]
  generalize (lg_sl ([.ref a, .int (kI (115)), .int (kI (x)), .int (kI (y))]) ++ List.replicate (4 - (lg_sl ([.ref a, .int (kI (115)), .int (kI (x)), .int (kI (y))])).length) Slot.unset).toArray = ls at hl ⊢
  have hl : lv_has ls 4 [(0, .ref a), (1, .int (kI (115))), (2, .int (kI (x))), (3, .int (kI (y)))] := hl
  have hL8 := hok.1
  have hlen := hM.len
  refine lv_iload_n hx hb dX3_refusal_0 rfl (lv_at hl 1 rfl) ?_
  refine lv_tableIn (off := 154) (tgt := 155) hx hb dX3_refusal_1 (by decide) (by decide) (by decide) (by decide) ?_
  refine lv_aload_n hx hb dX3_refusal_155 rfl (lv_at hl 0 rfl) ?_
  refine lv_iload_n hx hb dX3_refusal_156 rfl (lv_at hl 2 rfl) ?_
  refine kx_cb0 (va_runV (As := [.int (kI (x))]) (rest := []) ⟨hx, hb, hml, hown, hts⟩ (m_X3_isLine l D s.heap a fs ra g S gap x hO_a hf_a_0 hA_ra (by first | assumption | omega) (by first | assumption | omega) (by first | assumption | omega)) (cwV 1 hts (lw_V q2314 q2316 qs41 q89 q2317) rfl rfl rfl (by decide +kernel) ⟨Nat.le_of_ble_eq_true rfl, Nat.le_of_ble_eq_true rfl⟩) (kx_pv hK hS hB (kx_rc hK hO_a (C := RX3) (T := TX3) (N := 13) rfl)) rfl rfl hl.1 rfl (lv_room (Nat.le_of_ble_eq_true rfl)) dX3_refusal_157 ⟨by first | exact Nat.le_of_ble_eq_true rfl | omega | (show _ ≤ _; omega) | (dsimp only [headSpec]; omega), by first | exact Nat.le_of_ble_eq_true rfl | omega | (show _ ≤ _; omega) | (dsimp only [headSpec]; omega)⟩) hS (fun z_4 locs_1 hz_3 hS_2 => ?_)
  subst z_4
  refine kx_ifnz (tgt := 167) hx hb dX3_refusal_160 (by decide) (fun c_160_5 => ?_) (fun c_160_5 => ?_)
  · -- taken at 160
    have c_160_5 := of_decide_eq_true c_160_5
    have hln : x.toNat < S.length := by omega
    have hL := hok.ln hln
    have hL60 := hL.n
    refine lv_iload_n hx hb dX3_refusal_167 rfl (lv_at hl 3 rfl) ?_
    refine kx_iconst hx hb dX3_refusal_168 ?_
    refine kx_bipush hx hb (by decide) dX3_refusal_169 ?_
    refine kx_cb0 (va_runS (As := [.int (kI (y)), .int (kI (0)), .int (kI (7))]) (rest := []) ⟨hx, hb, hml, hown, hts⟩ (m_X3_in l D s.heap y 0 7  (by first | assumption | omega) (by first | assumption | omega) (by first | assumption | omega)) (va_cwS 3 hts (lw_S q2297 q2298 q89 q2299) rfl rfl rfl (by decide +kernel) ⟨Nat.le_of_ble_eq_true rfl, Nat.le_of_ble_eq_true rfl⟩) (kx_ps hK hS_2 hB) rfl rfl hl.1 rfl (lv_room (Nat.le_of_ble_eq_true rfl)) dX3_refusal_171 ⟨by first | exact Nat.le_of_ble_eq_true rfl | omega | (show _ ≤ _; omega) | (dsimp only [headSpec]; omega), by first | exact Nat.le_of_ble_eq_true rfl | omega | (show _ ≤ _; omega) | (dsimp only [headSpec]; omega)⟩) hS_2 (fun z_9 locs_6 hz_8 hS_7 => ?_)
    subst z_9
    refine kx_ifnz (tgt := 181) hx hb dX3_refusal_174 (by decide) (fun c_174_10 => ?_) (fun c_174_10 => ?_)
    · -- taken at 174
      have c_174_10 := of_decide_eq_true c_174_10
      refine lv_aload_n hx hb dX3_refusal_181 rfl (lv_at hl 0 rfl) ?_
      refine lv_iload_n hx hb dX3_refusal_182 rfl (lv_at hl 2 rfl) ?_
      refine kx_eqi (((x.toNat : Nat) : Int)) (by omega) ?_
      refine lv_iload_n hx hb dX3_refusal_183 rfl (lv_at hl 3 rfl) ?_
      refine kx_ci0 (va_runV (As := [.int (kI ((x.toNat : Nat) : Int)), .int (kI (y))]) (rest := []) ⟨hx, hb, hml, hown, hts⟩ (m_X3_whyNot l D s.heap a fs ra g S gap x.toNat y hO_a hf_a_0 hA_ra (by first | assumption | omega) (by first | assumption | omega) (by first | assumption | omega) (by first | assumption | omega)) (cwV 2 hts (lw_V q2318 q2320 qs42 q89 q2321) rfl rfl rfl (by decide +kernel) ⟨Nat.le_of_ble_eq_true rfl, Nat.le_of_ble_eq_true rfl⟩) (kx_pv hK hS_7 hB (kx_rc hK hO_a (C := RX3) (T := TX3) (N := 13) rfl)) rfl rfl hl.1 rfl (lv_room (Nat.le_of_ble_eq_true rfl)) dX3_refusal_184 ⟨by first | exact Nat.le_of_ble_eq_true rfl | omega | (show _ ≤ _; omega) | (dsimp only [headSpec]; omega), by first | exact Nat.le_of_ble_eq_true rfl | omega | (show _ ≤ _; omega) | (dsimp only [headSpec]; omega)⟩) hS_7 (fun z_14 locs_11 hz_13 hS_12 => ?_)
      subst z_14
      refine kx_if_le (x := st_whyNot S x.toNat y) (tgt := 194) hx hb dX3_refusal_187 (by decide) (by have := st_whyNot_rng S x.toNat y; omega) (by have := st_whyNot_rng S x.toNat y; omega) (fun c_187_15 => ?_) (fun c_187_15 => ?_)
      · -- taken at 187
        refine kx_iconst hx hb dX3_refusal_194 ?_
        exact kx_iret (z := 0) hx hb hr hlk (⟨rfl, by unfold ref_s; grind⟩) hS_12 dX3_refusal_195
      · -- not taken at 187
        refine kx_iconst hx hb dX3_refusal_190 ?_
        refine lv_goto (tgt := 195) hx hb dX3_refusal_191 (by decide) ?_
        exact kx_iret (z := 3) hx hb hr hlk (⟨rfl, by unfold ref_s; grind⟩) hS_12 dX3_refusal_195
    · -- not taken at 174
      have c_174_10 := of_decide_eq_false c_174_10
      refine kx_iconst hx hb dX3_refusal_177 ?_
      refine lv_goto (tgt := 195) hx hb dX3_refusal_178 (by decide) ?_
      exact kx_iret (z := 2) hx hb hr hlk (⟨rfl, by unfold ref_s; grind⟩) hS_7 dX3_refusal_195
  · -- not taken at 160
    have c_160_5 := of_decide_eq_false c_160_5
    refine kx_iconst hx hb dX3_refusal_163 ?_
    refine lv_goto (tgt := 195) hx hb dX3_refusal_164 (by decide) ?_
    exact kx_iret (z := 1) hx hb hr hlk (⟨rfl, by unfold ref_s; grind⟩) hS_2 dX3_refusal_195

set_option maxHeartbeats 4000000 in
set_option maxRecDepth 100000 in
theorem m_ref_w (l : Launch) (D : kG) (H : Heap) (a : Nat) (fs : List Value) (ra : Nat) (g : Nat → Int) (S : Ls) (gap : Int) (x : Int) (y : Int) (hO_a : kO D H a 2 fs) (hf_a_0 : fs[0]? = some (.ref ra)) (hA_ra : kAi D H ra 514 g) (hM : MRow g S gap) (hok : LsOK S gap) (hr_x : -2147483648 ≤ x ∧ x ≤ 2147483647) (hr_y : -2147483648 ≤ y ∧ y ≤ 2147483647) : Met l yX3_refusal (ws_ yX3_refusal cX3_refusal 4 (some .int)) ({ frames := 2, cells := 0, slots := 0, locals := 43 } : Room) (kPre D H [.ref a, .int (kI (119)), .int (kI (x)), .int (kI (y))]) (kQi (fun (r : Int) H' => H' = H ∧ r = ref_w S x) kNO) (0) (0) (kNO) := by
  refine Met.ofW (cc := cX3_refusal) (maxL := 4) (ret := (some .int)) (by decide) rfl ?_
  intro p e s m args below meth c s₁ B hml hv
  obtain ⟨rfl, hH, hK⟩ := hv
  subst hH
  have hx := B.exec
  have hb := B.bytes
  have hr := B.returns
  have hts := atoms_spec (ws := ws_ yX3_refusal cX3_refusal 4 (some .int)) B.pre
  have hts : ∀ w ∈ lw_all, w.before _ s = true := fun w h => hts w (List.mem_cons_of_mem _ h)
  have hown : s.vm.findClass RX3 = some m.cls := findClass_of_methodNamed B.named
  have hlk := B.notSynchronized
  have hS : va_S kNO s.heap s.heap [] := va_S.rf
  have hB : ∀ q, kNO q → kBase D ≤ q := fun _ h => h.elim
  have hl := lv_entry ([.ref a, .int (kI (119)), .int (kI (x)), .int (kI (y))]) (n := 4) (Nat.le_of_ble_eq_true rfl)
  rw [lg_entry_eq]
  generalize (lg_sl ([.ref a, .int (kI (119)), .int (kI (x)), .int (kI (y))]) ++ List.replicate (4 - (lg_sl ([.ref a, .int (kI (119)), .int (kI (x)), .int (kI (y))])).length) Slot.unset).toArray = ls at hl ⊢
  have hl : lv_has ls 4 [(0, .ref a), (1, .int (kI (119))), (2, .int (kI (x))), (3, .int (kI (y)))] := hl
  have hL8 := hok.1
  have hlen := hM.len
  refine lv_iload_n hx hb dX3_refusal_0 rfl (lv_at hl 1 rfl) ?_
  refine lv_tableIn (off := 195) (tgt := 196) hx hb dX3_refusal_1 (by decide) (by decide) (by decide) (by decide) ?_
  refine lv_aload_n hx hb dX3_refusal_196 rfl (lv_at hl 0 rfl) ?_
  refine lv_iload_n hx hb dX3_refusal_197 rfl (lv_at hl 2 rfl) ?_
  refine kx_cb0 (va_runV (As := [.int (kI (x))]) (rest := []) ⟨hx, hb, hml, hown, hts⟩ (m_X3_isLine l D s.heap a fs ra g S gap x hO_a hf_a_0 hA_ra (by first | assumption | omega) (by first | assumption | omega) (by first | assumption | omega)) (cwV 1 hts (lw_V q2314 q2316 qs41 q89 q2317) rfl rfl rfl (by decide +kernel) ⟨Nat.le_of_ble_eq_true rfl, Nat.le_of_ble_eq_true rfl⟩) (kx_pv hK hS hB (kx_rc hK hO_a (C := RX3) (T := TX3) (N := 13) rfl)) rfl rfl hl.1 rfl (lv_room (Nat.le_of_ble_eq_true rfl)) dX3_refusal_198 ⟨by first | exact Nat.le_of_ble_eq_true rfl | omega | (show _ ≤ _; omega) | (dsimp only [headSpec]; omega), by first | exact Nat.le_of_ble_eq_true rfl | omega | (show _ ≤ _; omega) | (dsimp only [headSpec]; omega)⟩) hS (fun z_4 locs_1 hz_3 hS_2 => ?_)
  subst z_4
  refine kx_ifz (tgt := 208) hx hb dX3_refusal_201 (by decide) (fun c_201_5 => ?_) (fun c_201_5 => ?_)
  · -- taken at 201
    have c_201_5 := of_decide_eq_false c_201_5
    refine kx_iconst hx hb dX3_refusal_208 ?_
    exact kx_iret (z := 1) hx hb hr hlk (⟨rfl, by unfold ref_w; grind⟩) hS_2 dX3_refusal_209
  · -- not taken at 201
    have c_201_5 := of_decide_eq_true c_201_5
    refine kx_iconst hx hb dX3_refusal_204 ?_
    refine lv_goto (tgt := 209) hx hb dX3_refusal_205 (by decide) ?_
    exact kx_iret (z := 0) hx hb hr hlk (⟨rfl, by unfold ref_w; grind⟩) hS_2 dX3_refusal_209

set_option maxHeartbeats 4000000 in
set_option maxRecDepth 100000 in
theorem m_ref_l (l : Launch) (D : kG) (H : Heap) (a : Nat) (fs : List Value) (ra : Nat) (g : Nat → Int) (S : Ls) (gap : Int) (x : Int) (y : Int) (hO_a : kO D H a 2 fs) (hf_a_0 : fs[0]? = some (.ref ra)) (hA_ra : kAi D H ra 514 g) (hM : MRow g S gap) (hok : LsOK S gap) (hr_x : -2147483648 ≤ x ∧ x ≤ 2147483647) (hr_y : -2147483648 ≤ y ∧ y ≤ 2147483647) : Met l yX3_refusal (ws_ yX3_refusal cX3_refusal 4 (some .int)) ({ frames := 8, cells := 0, slots := 0, locals := 179 } : Room) (kPre D H [.ref a, .int (kI (108)), .int (kI (x)), .int (kI (y))]) (kQi (fun (r : Int) H' => H' = H ∧ r = ref_l S gap x y) kNO) (0) (0) (kNO) := by
  refine Met.ofW (cc := cX3_refusal) (maxL := 4) (ret := (some .int)) (by decide) rfl ?_
  intro p e s m args below meth c s₁ B hml hv
  obtain ⟨rfl, hH, hK⟩ := hv
  subst hH
  have hx := B.exec
  have hb := B.bytes
  have hr := B.returns
  have hts := atoms_spec (ws := ws_ yX3_refusal cX3_refusal 4 (some .int)) B.pre
  have hts : ∀ w ∈ lw_all, w.before _ s = true := fun w h => hts w (List.mem_cons_of_mem _ h)
  have hown : s.vm.findClass RX3 = some m.cls := findClass_of_methodNamed B.named
  have hlk := B.notSynchronized
  have hS : va_S kNO s.heap s.heap [] := va_S.rf
  have hB : ∀ q, kNO q → kBase D ≤ q := fun _ h => h.elim
  have hl := lv_entry ([.ref a, .int (kI (108)), .int (kI (x)), .int (kI (y))]) (n := 4) (Nat.le_of_ble_eq_true rfl)
  rw [lg_entry_eq]
  generalize (lg_sl ([.ref a, .int (kI (108)), .int (kI (x)), .int (kI (y))]) ++ List.replicate (4 - (lg_sl ([.ref a, .int (kI (108)), .int (kI (x)), .int (kI (y))])).length) Slot.unset).toArray = ls at hl ⊢
  have hl : lv_has ls 4 [(0, .ref a), (1, .int (kI (108))), (2, .int (kI (x))), (3, .int (kI (y)))] := hl
  have hL8 := hok.1
  have hlen := hM.len
  refine lv_iload_n hx hb dX3_refusal_0 rfl (lv_at hl 1 rfl) ?_
  refine lv_tableIn (off := 209) (tgt := 210) hx hb dX3_refusal_1 (by decide) (by decide) (by decide) (by decide) ?_
  refine lv_aload_n hx hb dX3_refusal_210 rfl (lv_at hl 0 rfl) ?_
  refine lv_iload_n hx hb dX3_refusal_211 rfl (lv_at hl 2 rfl) ?_
  refine kx_cb0 (va_runV (As := [.int (kI (x))]) (rest := []) ⟨hx, hb, hml, hown, hts⟩ (m_X3_isLine l D s.heap a fs ra g S gap x hO_a hf_a_0 hA_ra (by first | assumption | omega) (by first | assumption | omega) (by first | assumption | omega)) (cwV 1 hts (lw_V q2314 q2316 qs41 q89 q2317) rfl rfl rfl (by decide +kernel) ⟨Nat.le_of_ble_eq_true rfl, Nat.le_of_ble_eq_true rfl⟩) (kx_pv hK hS hB (kx_rc hK hO_a (C := RX3) (T := TX3) (N := 13) rfl)) rfl rfl hl.1 rfl (lv_room (Nat.le_of_ble_eq_true rfl)) dX3_refusal_212 ⟨by first | exact Nat.le_of_ble_eq_true rfl | omega | (show _ ≤ _; omega) | (dsimp only [headSpec]; omega), by first | exact Nat.le_of_ble_eq_true rfl | omega | (show _ ≤ _; omega) | (dsimp only [headSpec]; omega)⟩) hS (fun z_4 locs_1 hz_3 hS_2 => ?_)
  subst z_4
  refine kx_ifz (tgt := 232) hx hb dX3_refusal_215 (by decide) (fun c_215_5 => ?_) (fun c_215_5 => ?_)
  · -- taken at 215
    have c_215_5 := of_decide_eq_false c_215_5
    refine kx_iconst hx hb dX3_refusal_232 ?_
    refine lv_goto (tgt := 250) hx hb dX3_refusal_233 (by decide) ?_
    exact kx_iret (z := 1) hx hb hr hlk (⟨rfl, by unfold ref_l; grind⟩) hS_2 dX3_refusal_250
  · -- not taken at 215
    have c_215_5 := of_decide_eq_true c_215_5
    have hln : x.toNat < S.length := by omega
    have hL := hok.ln hln
    have hL60 := hL.n
    refine lv_iload_n hx hb dX3_refusal_218 rfl (lv_at hl 3 rfl) ?_
    refine kx_iconst hx hb dX3_refusal_219 ?_
    refine lv_aload_n hx hb dX3_refusal_220 rfl (lv_at hl 0 rfl) ?_
    refine lv_iload_n hx hb dX3_refusal_221 rfl (lv_at hl 2 rfl) ?_
    refine kx_eqi (((x.toNat : Nat) : Int)) (by omega) ?_
    refine kx_iconst hx hb dX3_refusal_222 ?_
    refine kx_ci0 (va_runV (As := [.int (kI ((x.toNat : Nat) : Int)), .int (kI (2))]) (rest := [.int (kI (0)), .int (kI (y))]) ⟨hx, hb, hml, hown, hts⟩ (of_n l D s.heap a fs ra g S gap x.toNat hO_a hf_a_0 hA_ra (by first | assumption | omega) (by first | assumption | omega) (by first | assumption | omega)) (cwV 2 hts (lw_V q2304 q2306 qs40 q89 q2307) rfl rfl rfl (by decide +kernel) ⟨Nat.le_of_ble_eq_true rfl, Nat.le_of_ble_eq_true rfl⟩) (kx_pv hK hS_2 hB (kx_rc hK hO_a (C := RX3) (T := TX3) (N := 13) rfl)) rfl rfl hl.1 rfl (lv_room (Nat.le_of_ble_eq_true rfl)) dX3_refusal_223 ⟨by first | exact Nat.le_of_ble_eq_true rfl | omega | (show _ ≤ _; omega) | (dsimp only [headSpec]; omega), by first | exact Nat.le_of_ble_eq_true rfl | omega | (show _ ≤ _; omega) | (dsimp only [headSpec]; omega)⟩) hS_2 (fun z_9 locs_6 hz_8 hS_7 => ?_)
    subst z_9
    refine kx_cb0 (va_runS (As := [.int (kI (y)), .int (kI (0)), .int (kI ((ln_n (st_ln S x.toNat) : Nat) : Int))]) (rest := []) ⟨hx, hb, hml, hown, hts⟩ (m_X3_in l D s.heap y 0 (((ln_n (st_ln S x.toNat) : Nat) : Int))  (by first | assumption | omega) (by first | assumption | omega) (by first | assumption | omega)) (va_cwS 3 hts (lw_S q2297 q2298 q89 q2299) rfl rfl rfl (by decide +kernel) ⟨Nat.le_of_ble_eq_true rfl, Nat.le_of_ble_eq_true rfl⟩) (kx_ps hK hS_7 hB) rfl rfl hl.1 rfl (lv_room (Nat.le_of_ble_eq_true rfl)) dX3_refusal_226 ⟨by first | exact Nat.le_of_ble_eq_true rfl | omega | (show _ ≤ _; omega) | (dsimp only [headSpec]; omega), by first | exact Nat.le_of_ble_eq_true rfl | omega | (show _ ≤ _; omega) | (dsimp only [headSpec]; omega)⟩) hS_7 (fun z_13 locs_10 hz_12 hS_11 => ?_)
    subst z_13
    refine kx_ifnz (tgt := 236) hx hb dX3_refusal_229 (by decide) (fun c_229_14 => ?_) (fun c_229_14 => ?_)
    · -- taken at 229
      have c_229_14 := of_decide_eq_true c_229_14
      refine lv_aload_n hx hb dX3_refusal_236 rfl (lv_at hl 0 rfl) ?_
      refine lv_iload_n hx hb dX3_refusal_237 rfl (lv_at hl 2 rfl) ?_
      refine kx_eqi (((x.toNat : Nat) : Int)) (by omega) ?_
      refine lv_iload_n hx hb dX3_refusal_238 rfl (lv_at hl 3 rfl) ?_
      refine kx_eqi (((y.toNat : Nat) : Int)) (by omega) ?_
      refine kx_ci0 (va_runV (As := [.int (kI ((x.toNat : Nat) : Int)), .int (kI ((y.toNat : Nat) : Int))]) (rest := []) ⟨hx, hb, hml, hown, hts⟩ (m_X3_whyNoLabel l D s.heap a fs ra g S gap x.toNat y.toNat hO_a hf_a_0 hA_ra (by first | assumption | omega) (by first | assumption | omega) (by first | assumption | omega) (by first | assumption | omega)) (cwV 2 hts (lw_V q2341 q2343 qs47 q89 q2344) rfl rfl rfl (by decide +kernel) ⟨Nat.le_of_ble_eq_true rfl, Nat.le_of_ble_eq_true rfl⟩) (kx_pv hK hS_11 hB (kx_rc hK hO_a (C := RX3) (T := TX3) (N := 13) rfl)) rfl rfl hl.1 rfl (lv_room (Nat.le_of_ble_eq_true rfl)) dX3_refusal_239 ⟨by first | exact Nat.le_of_ble_eq_true rfl | omega | (show _ ≤ _; omega) | (dsimp only [headSpec]; omega), by first | exact Nat.le_of_ble_eq_true rfl | omega | (show _ ≤ _; omega) | (dsimp only [headSpec]; omega)⟩) hS_11 (fun z_18 locs_15 hz_17 hS_16 => ?_)
      subst z_18
      refine kx_if_le (x := st_whyL S gap x.toNat y.toNat) (tgt := 249) hx hb dX3_refusal_242 (by decide) (by have := st_whyL_rng S gap x.toNat y.toNat; omega) (by have := st_whyL_rng S gap x.toNat y.toNat; omega) (fun c_242_19 => ?_) (fun c_242_19 => ?_)
      · -- taken at 242
        refine kx_iconst hx hb dX3_refusal_249 ?_
        exact kx_iret (z := 0) hx hb hr hlk (⟨rfl, by unfold ref_l; grind⟩) hS_16 dX3_refusal_250
      · -- not taken at 242
        refine kx_iconst hx hb dX3_refusal_245 ?_
        refine lv_goto (tgt := 250) hx hb dX3_refusal_246 (by decide) ?_
        exact kx_iret (z := 2) hx hb hr hlk (⟨rfl, by unfold ref_l; grind⟩) hS_16 dX3_refusal_250
    · -- not taken at 229
      have c_229_14 := of_decide_eq_false c_229_14
      refine kx_iconst hx hb dX3_refusal_232 ?_
      refine lv_goto (tgt := 250) hx hb dX3_refusal_233 (by decide) ?_
      exact kx_iret (z := 1) hx hb hr hlk (⟨rfl, by unfold ref_l; grind⟩) hS_11 dX3_refusal_250

set_option maxHeartbeats 4000000 in
set_option maxRecDepth 100000 in
theorem m_ref_u (l : Launch) (D : kG) (H : Heap) (a : Nat) (fs : List Value) (ra : Nat) (g : Nat → Int) (S : Ls) (gap : Int) (x : Int) (y : Int) (hO_a : kO D H a 2 fs) (hf_a_0 : fs[0]? = some (.ref ra)) (hA_ra : kAi D H ra 514 g) (hM : MRow g S gap) (hok : LsOK S gap) (hr_x : -2147483648 ≤ x ∧ x ≤ 2147483647) (hr_y : -2147483648 ≤ y ∧ y ≤ 2147483647) : Met l yX3_refusal (ws_ yX3_refusal cX3_refusal 4 (some .int)) ({ frames := 2, cells := 0, slots := 0, locals := 43 } : Room) (kPre D H [.ref a, .int (kI (117)), .int (kI (x)), .int (kI (y))]) (kQi (fun (r : Int) H' => H' = H ∧ r = ref_u S x) kNO) (0) (0) (kNO) := by
  refine Met.ofW (cc := cX3_refusal) (maxL := 4) (ret := (some .int)) (by decide) rfl ?_
  intro p e s m args below meth c s₁ B hml hv
  obtain ⟨rfl, hH, hK⟩ := hv
  subst hH
  have hx := B.exec
  have hb := B.bytes
  have hr := B.returns
  have hts := atoms_spec (ws := ws_ yX3_refusal cX3_refusal 4 (some .int)) B.pre
  have hts : ∀ w ∈ lw_all, w.before _ s = true := fun w h => hts w (List.mem_cons_of_mem _ h)
  have hown : s.vm.findClass RX3 = some m.cls := findClass_of_methodNamed B.named
  have hlk := B.notSynchronized
  have hS : va_S kNO s.heap s.heap [] := va_S.rf
  have hB : ∀ q, kNO q → kBase D ≤ q := fun _ h => h.elim
  have hl := lv_entry ([.ref a, .int (kI (117)), .int (kI (x)), .int (kI (y))]) (n := 4) (Nat.le_of_ble_eq_true rfl)
  rw [lg_entry_eq]
  generalize (lg_sl ([.ref a, .int (kI (117)), .int (kI (x)), .int (kI (y))]) ++ List.replicate (4 - (lg_sl ([.ref a, .int (kI (117)), .int (kI (x)), .int (kI (y))])).length) Slot.unset).toArray = ls at hl ⊢
  have hl : lv_has ls 4 [(0, .ref a), (1, .int (kI (117))), (2, .int (kI (x))), (3, .int (kI (y)))] := hl
  have hL8 := hok.1
  have hlen := hM.len
  refine lv_iload_n hx hb dX3_refusal_0 rfl (lv_at hl 1 rfl) ?_
  refine lv_tableIn (off := 250) (tgt := 251) hx hb dX3_refusal_1 (by decide) (by decide) (by decide) (by decide) ?_
  refine lv_aload_n hx hb dX3_refusal_251 rfl (lv_at hl 0 rfl) ?_
  refine lv_iload_n hx hb dX3_refusal_252 rfl (lv_at hl 2 rfl) ?_
  refine kx_cb0 (va_runV (As := [.int (kI (x))]) (rest := []) ⟨hx, hb, hml, hown, hts⟩ (m_X3_isLine l D s.heap a fs ra g S gap x hO_a hf_a_0 hA_ra (by first | assumption | omega) (by first | assumption | omega) (by first | assumption | omega)) (cwV 1 hts (lw_V q2314 q2316 qs41 q89 q2317) rfl rfl rfl (by decide +kernel) ⟨Nat.le_of_ble_eq_true rfl, Nat.le_of_ble_eq_true rfl⟩) (kx_pv hK hS hB (kx_rc hK hO_a (C := RX3) (T := TX3) (N := 13) rfl)) rfl rfl hl.1 rfl (lv_room (Nat.le_of_ble_eq_true rfl)) dX3_refusal_253 ⟨by first | exact Nat.le_of_ble_eq_true rfl | omega | (show _ ≤ _; omega) | (dsimp only [headSpec]; omega), by first | exact Nat.le_of_ble_eq_true rfl | omega | (show _ ≤ _; omega) | (dsimp only [headSpec]; omega)⟩) hS (fun z_4 locs_1 hz_3 hS_2 => ?_)
  subst z_4
  refine kx_ifnz (tgt := 263) hx hb dX3_refusal_256 (by decide) (fun c_256_5 => ?_) (fun c_256_5 => ?_)
  · -- taken at 256
    have c_256_5 := of_decide_eq_true c_256_5
    have hln : x.toNat < S.length := by omega
    have hL := hok.ln hln
    have hL60 := hL.n
    have hlb := hL.lbr
    refine lv_aload_n hx hb dX3_refusal_263 rfl (lv_at hl 0 rfl) ?_
    refine lv_iload_n hx hb dX3_refusal_264 rfl (lv_at hl 2 rfl) ?_
    refine kx_eqi (((x.toNat : Nat) : Int)) (by omega) ?_
    refine kx_iconst hx hb dX3_refusal_265 ?_
    refine kx_ci0 (va_runV (As := [.int (kI ((x.toNat : Nat) : Int)), .int (kI (3))]) (rest := []) ⟨hx, hb, hml, hown, hts⟩ (of_lb l D s.heap a fs ra g S gap x.toNat hO_a hf_a_0 hA_ra (by first | assumption | omega) (by first | assumption | omega) (by first | assumption | omega)) (cwV 2 hts (lw_V q2304 q2306 qs40 q89 q2307) rfl rfl rfl (by decide +kernel) ⟨Nat.le_of_ble_eq_true rfl, Nat.le_of_ble_eq_true rfl⟩) (kx_pv hK hS_2 hB (kx_rc hK hO_a (C := RX3) (T := TX3) (N := 13) rfl)) rfl rfl hl.1 rfl (lv_room (Nat.le_of_ble_eq_true rfl)) dX3_refusal_266 ⟨by first | exact Nat.le_of_ble_eq_true rfl | omega | (show _ ≤ _; omega) | (dsimp only [headSpec]; omega), by first | exact Nat.le_of_ble_eq_true rfl | omega | (show _ ≤ _; omega) | (dsimp only [headSpec]; omega)⟩) hS_2 (fun z_9 locs_6 hz_8 hS_7 => ?_)
    subst z_9
    refine kx_iconst hx hb dX3_refusal_269 ?_
    refine kx_icmp_ne (x := ln_lb (st_ln S x.toNat)) (y := (-1)) (tgt := 277) hx hb dX3_refusal_270 (by decide) (by omega) (by omega) (by omega) (by omega) (fun c_270_10 => ?_) (fun c_270_10 => ?_)
    · -- taken at 270
      refine kx_iconst hx hb dX3_refusal_277 ?_
      exact kx_iret (z := 0) hx hb hr hlk (⟨rfl, by unfold ref_u; grind⟩) hS_7 dX3_refusal_278
    · -- not taken at 270
      refine kx_iconst hx hb dX3_refusal_273 ?_
      refine lv_goto (tgt := 278) hx hb dX3_refusal_274 (by decide) ?_
      exact kx_iret (z := 2) hx hb hr hlk (⟨rfl, by unfold ref_u; grind⟩) hS_7 dX3_refusal_278
  · -- not taken at 256
    have c_256_5 := of_decide_eq_false c_256_5
    refine kx_iconst hx hb dX3_refusal_259 ?_
    refine lv_goto (tgt := 278) hx hb dX3_refusal_260 (by decide) ?_
    exact kx_iret (z := 1) hx hb hr hlk (⟨rfl, by unfold ref_u; grind⟩) hS_2 dX3_refusal_278

set_option maxHeartbeats 4000000 in
set_option maxRecDepth 100000 in
theorem m_ref_best (l : Launch) (D : kG) (H : Heap) (a : Nat) (fs : List Value) (ra : Nat) (g : Nat → Int) (S : Ls) (gap : Int) (x : Int) (y : Int) (hO_a : kO D H a 2 fs) (hf_a_0 : fs[0]? = some (.ref ra)) (hA_ra : kAi D H ra 514 g) (hM : MRow g S gap) (hok : LsOK S gap) (hr_x : -2147483648 ≤ x ∧ x ≤ 2147483647) (hr_y : -2147483648 ≤ y ∧ y ≤ 2147483647) : Met l yX3_refusal (ws_ yX3_refusal cX3_refusal 4 (some .int)) ({ frames := 9, cells := 0, slots := 0, locals := 207 } : Room) (kPre D H [.ref a, .int (kI (98)), .int (kI (x)), .int (kI (y))]) (kQi (fun (r : Int) H' => H' = H ∧ r = ref_best S gap x) kNO) (0) (0) (kNO) := by
  refine Met.ofW (cc := cX3_refusal) (maxL := 4) (ret := (some .int)) (by decide) rfl ?_
  intro p e s m args below meth c s₁ B hml hv
  obtain ⟨rfl, hH, hK⟩ := hv
  subst hH
  have hx := B.exec
  have hb := B.bytes
  have hr := B.returns
  have hts := atoms_spec (ws := ws_ yX3_refusal cX3_refusal 4 (some .int)) B.pre
  have hts : ∀ w ∈ lw_all, w.before _ s = true := fun w h => hts w (List.mem_cons_of_mem _ h)
  have hown : s.vm.findClass RX3 = some m.cls := findClass_of_methodNamed B.named
  have hlk := B.notSynchronized
  have hS : va_S kNO s.heap s.heap [] := va_S.rf
  have hB : ∀ q, kNO q → kBase D ≤ q := fun _ h => h.elim
  have hl := lv_entry ([.ref a, .int (kI (98)), .int (kI (x)), .int (kI (y))]) (n := 4) (Nat.le_of_ble_eq_true rfl)
  rw [lg_entry_eq]
  generalize (lg_sl ([.ref a, .int (kI (98)), .int (kI (x)), .int (kI (y))]) ++ List.replicate (4 - (lg_sl ([.ref a, .int (kI (98)), .int (kI (x)), .int (kI (y))])).length) Slot.unset).toArray = ls at hl ⊢
  have hl : lv_has ls 4 [(0, .ref a), (1, .int (kI (98))), (2, .int (kI (x))), (3, .int (kI (y)))] := hl
  have hL8 := hok.1
  have hlen := hM.len
  refine lv_iload_n hx hb dX3_refusal_0 rfl (lv_at hl 1 rfl) ?_
  refine lv_tableIn (off := 278) (tgt := 279) hx hb dX3_refusal_1 (by decide) (by decide) (by decide) (by decide) ?_
  refine lv_aload_n hx hb dX3_refusal_279 rfl (lv_at hl 0 rfl) ?_
  refine lv_iload_n hx hb dX3_refusal_280 rfl (lv_at hl 2 rfl) ?_
  refine kx_cb0 (va_runV (As := [.int (kI (x))]) (rest := []) ⟨hx, hb, hml, hown, hts⟩ (m_X3_isLine l D s.heap a fs ra g S gap x hO_a hf_a_0 hA_ra (by first | assumption | omega) (by first | assumption | omega) (by first | assumption | omega)) (cwV 1 hts (lw_V q2314 q2316 qs41 q89 q2317) rfl rfl rfl (by decide +kernel) ⟨Nat.le_of_ble_eq_true rfl, Nat.le_of_ble_eq_true rfl⟩) (kx_pv hK hS hB (kx_rc hK hO_a (C := RX3) (T := TX3) (N := 13) rfl)) rfl rfl hl.1 rfl (lv_room (Nat.le_of_ble_eq_true rfl)) dX3_refusal_281 ⟨by first | exact Nat.le_of_ble_eq_true rfl | omega | (show _ ≤ _; omega) | (dsimp only [headSpec]; omega), by first | exact Nat.le_of_ble_eq_true rfl | omega | (show _ ≤ _; omega) | (dsimp only [headSpec]; omega)⟩) hS (fun z_4 locs_1 hz_3 hS_2 => ?_)
  subst z_4
  refine kx_ifnz (tgt := 291) hx hb dX3_refusal_284 (by decide) (fun c_284_5 => ?_) (fun c_284_5 => ?_)
  · -- taken at 284
    have c_284_5 := of_decide_eq_true c_284_5
    have hln : x.toNat < S.length := by omega
    have hL := hok.ln hln
    have hL60 := hL.n
    refine lv_aload_n hx hb dX3_refusal_291 rfl (lv_at hl 0 rfl) ?_
    refine lv_iload_n hx hb dX3_refusal_292 rfl (lv_at hl 2 rfl) ?_
    refine kx_eqi (((x.toNat : Nat) : Int)) (by omega) ?_
    refine kx_ci0 (va_runV (As := [.int (kI ((x.toNat : Nat) : Int))]) (rest := []) ⟨hx, hb, hml, hown, hts⟩ (m_X3_best l D s.heap a fs ra g S gap x.toNat hO_a hf_a_0 hA_ra (by first | assumption | omega) (by first | assumption | omega) (by first | assumption | omega)) (cwV 1 hts (lw_V q2379 q2381 qs55 q89 q2382) rfl rfl rfl (by decide +kernel) ⟨Nat.le_of_ble_eq_true rfl, Nat.le_of_ble_eq_true rfl⟩) (kx_pv hK hS_2 hB (kx_rc hK hO_a (C := RX3) (T := TX3) (N := 13) rfl)) rfl rfl hl.1 rfl (lv_room (Nat.le_of_ble_eq_true rfl)) dX3_refusal_293 ⟨by first | exact Nat.le_of_ble_eq_true rfl | omega | (show _ ≤ _; omega) | (dsimp only [headSpec]; omega), by first | exact Nat.le_of_ble_eq_true rfl | omega | (show _ ≤ _; omega) | (dsimp only [headSpec]; omega)⟩) hS_2 (fun z_9 locs_6 hz_8 hS_7 => ?_)
    subst z_9
    refine kx_iconst hx hb dX3_refusal_296 ?_
    refine kx_icmp_ne (x := st_best S gap x.toNat) (y := (-1)) (tgt := 304) hx hb dX3_refusal_297 (by decide) (by rcases st_best_ok S gap x.toNat with h | h <;> omega) (by rcases st_best_ok S gap x.toNat with h | h <;> omega) (by rcases st_best_ok S gap x.toNat with h | h <;> omega) (by rcases st_best_ok S gap x.toNat with h | h <;> omega) (fun c_297_10 => ?_) (fun c_297_10 => ?_)
    · -- taken at 297
      refine kx_iconst hx hb dX3_refusal_304 ?_
      exact kx_iret (z := 0) hx hb hr hlk (⟨rfl, by unfold ref_best; grind⟩) hS_7 dX3_refusal_305
    · -- not taken at 297
      refine kx_iconst hx hb dX3_refusal_300 ?_
      refine lv_goto (tgt := 305) hx hb dX3_refusal_301 (by decide) ?_
      exact kx_iret (z := 2) hx hb hr hlk (⟨rfl, by unfold ref_best; grind⟩) hS_7 dX3_refusal_305
  · -- not taken at 284
    have c_284_5 := of_decide_eq_false c_284_5
    refine kx_iconst hx hb dX3_refusal_287 ?_
    refine lv_goto (tgt := 305) hx hb dX3_refusal_288 (by decide) ?_
    exact kx_iret (z := 1) hx hb hr hlk (⟨rfl, by unfold ref_best; grind⟩) hS_2 dX3_refusal_305

set_option maxHeartbeats 4000000 in
set_option maxRecDepth 100000 in
theorem m_ref_g (l : Launch) (D : kG) (H : Heap) (a : Nat) (fs : List Value) (ra : Nat) (g : Nat → Int) (S : Ls) (gap : Int) (x : Int) (y : Int) (hO_a : kO D H a 2 fs) (hf_a_0 : fs[0]? = some (.ref ra)) (hA_ra : kAi D H ra 514 g) (hM : MRow g S gap) (hok : LsOK S gap) (hr_x : -2147483648 ≤ x ∧ x ≤ 2147483647) (hr_y : -2147483648 ≤ y ∧ y ≤ 2147483647) : Met l yX3_refusal (ws_ yX3_refusal cX3_refusal 4 (some .int)) ({ frames := 1, cells := 0, slots := 0, locals := 22 } : Room) (kPre D H [.ref a, .int (kI (103)), .int (kI (x)), .int (kI (y))]) (kQi (fun (r : Int) H' => H' = H ∧ r = ref_g x) kNO) (0) (0) (kNO) := by
  refine Met.ofW (cc := cX3_refusal) (maxL := 4) (ret := (some .int)) (by decide) rfl ?_
  intro p e s m args below meth c s₁ B hml hv
  obtain ⟨rfl, hH, hK⟩ := hv
  subst hH
  have hx := B.exec
  have hb := B.bytes
  have hr := B.returns
  have hts := atoms_spec (ws := ws_ yX3_refusal cX3_refusal 4 (some .int)) B.pre
  have hts : ∀ w ∈ lw_all, w.before _ s = true := fun w h => hts w (List.mem_cons_of_mem _ h)
  have hown : s.vm.findClass RX3 = some m.cls := findClass_of_methodNamed B.named
  have hlk := B.notSynchronized
  have hS : va_S kNO s.heap s.heap [] := va_S.rf
  have hB : ∀ q, kNO q → kBase D ≤ q := fun _ h => h.elim
  have hl := lv_entry ([.ref a, .int (kI (103)), .int (kI (x)), .int (kI (y))]) (n := 4) (Nat.le_of_ble_eq_true rfl)
  rw [lg_entry_eq]
  generalize (lg_sl ([.ref a, .int (kI (103)), .int (kI (x)), .int (kI (y))]) ++ List.replicate (4 - (lg_sl ([.ref a, .int (kI (103)), .int (kI (x)), .int (kI (y))])).length) Slot.unset).toArray = ls at hl ⊢
  have hl : lv_has ls 4 [(0, .ref a), (1, .int (kI (103))), (2, .int (kI (x))), (3, .int (kI (y)))] := hl
  have hL8 := hok.1
  have hlen := hM.len
  refine lv_iload_n hx hb dX3_refusal_0 rfl (lv_at hl 1 rfl) ?_
  refine lv_tableIn (off := 305) (tgt := 306) hx hb dX3_refusal_1 (by decide) (by decide) (by decide) (by decide) ?_
  refine lv_iload_n hx hb dX3_refusal_306 rfl (lv_at hl 2 rfl) ?_
  refine kx_iconst hx hb dX3_refusal_307 ?_
  refine kx_bipush hx hb (by decide) dX3_refusal_308 ?_
  refine kx_cb0 (va_runS (As := [.int (kI (x)), .int (kI (1)), .int (kI (6))]) (rest := []) ⟨hx, hb, hml, hown, hts⟩ (m_X3_in l D s.heap x 1 6  (by first | assumption | omega) (by first | assumption | omega) (by first | assumption | omega)) (va_cwS 3 hts (lw_S q2297 q2298 q89 q2299) rfl rfl rfl (by decide +kernel) ⟨Nat.le_of_ble_eq_true rfl, Nat.le_of_ble_eq_true rfl⟩) (kx_ps hK hS hB) rfl rfl hl.1 rfl (lv_room (Nat.le_of_ble_eq_true rfl)) dX3_refusal_310 ⟨by first | exact Nat.le_of_ble_eq_true rfl | omega | (show _ ≤ _; omega) | (dsimp only [headSpec]; omega), by first | exact Nat.le_of_ble_eq_true rfl | omega | (show _ ≤ _; omega) | (dsimp only [headSpec]; omega)⟩) hS (fun z_4 locs_1 hz_3 hS_2 => ?_)
  subst z_4
  refine kx_ifz (tgt := 320) hx hb dX3_refusal_313 (by decide) (fun c_313_5 => ?_) (fun c_313_5 => ?_)
  · -- taken at 313
    have c_313_5 := of_decide_eq_false c_313_5
    refine kx_iconst hx hb dX3_refusal_320 ?_
    exact kx_iret (z := 1) hx hb hr hlk (⟨rfl, by unfold ref_g; grind⟩) hS_2 dX3_refusal_321
  · -- not taken at 313
    have c_313_5 := of_decide_eq_true c_313_5
    refine kx_iconst hx hb dX3_refusal_316 ?_
    refine lv_goto (tgt := 321) hx hb dX3_refusal_317 (by decide) ?_
    exact kx_iret (z := 0) hx hb hr hlk (⟨rfl, by unfold ref_g; grind⟩) hS_2 dX3_refusal_321

set_option maxHeartbeats 4000000 in
set_option maxRecDepth 100000 in
theorem m_ref_a (l : Launch) (D : kG) (H : Heap) (a : Nat) (fs : List Value) (ra : Nat) (g : Nat → Int) (S : Ls) (gap : Int) (x : Int) (y : Int) (hO_a : kO D H a 2 fs) (hf_a_0 : fs[0]? = some (.ref ra)) (hA_ra : kAi D H ra 514 g) (hM : MRow g S gap) (hok : LsOK S gap) (hr_x : -2147483648 ≤ x ∧ x ≤ 2147483647) (hr_y : -2147483648 ≤ y ∧ y ≤ 2147483647) : Met l yX3_refusal (ws_ yX3_refusal cX3_refusal 4 (some .int)) ({ frames := 0, cells := 0, slots := 0, locals := 0 } : Room) (kPre D H [.ref a, .int (kI (97)), .int (kI (x)), .int (kI (y))]) (kQi (fun (r : Int) H' => H' = H ∧ r = 0) kNO) (0) (0) (kNO) := by
  refine Met.ofW (cc := cX3_refusal) (maxL := 4) (ret := (some .int)) (by decide) rfl ?_
  intro p e s m args below meth c s₁ B hml hv
  obtain ⟨rfl, hH, hK⟩ := hv
  subst hH
  have hx := B.exec
  have hb := B.bytes
  have hr := B.returns
  have hts := atoms_spec (ws := ws_ yX3_refusal cX3_refusal 4 (some .int)) B.pre
  have hts : ∀ w ∈ lw_all, w.before _ s = true := fun w h => hts w (List.mem_cons_of_mem _ h)
  have hown : s.vm.findClass RX3 = some m.cls := findClass_of_methodNamed B.named
  have hlk := B.notSynchronized
  have hS : va_S kNO s.heap s.heap [] := va_S.rf
  have hB : ∀ q, kNO q → kBase D ≤ q := fun _ h => h.elim
  have hl := lv_entry ([.ref a, .int (kI (97)), .int (kI (x)), .int (kI (y))]) (n := 4) (Nat.le_of_ble_eq_true rfl)
  rw [lg_entry_eq]
  generalize (lg_sl ([.ref a, .int (kI (97)), .int (kI (x)), .int (kI (y))]) ++ List.replicate (4 - (lg_sl ([.ref a, .int (kI (97)), .int (kI (x)), .int (kI (y))])).length) Slot.unset).toArray = ls at hl ⊢
  have hl : lv_has ls 4 [(0, .ref a), (1, .int (kI (97))), (2, .int (kI (x))), (3, .int (kI (y)))] := hl
  have hL8 := hok.1
  have hlen := hM.len
  refine lv_iload_n hx hb dX3_refusal_0 rfl (lv_at hl 1 rfl) ?_
  refine lv_tableOut (tgt := 322) hx hb dX3_refusal_1 (by decide) (by decide) ?_
  refine kx_iconst hx hb dX3_refusal_322 ?_
  exact kx_iret (z := 0) hx hb hr hlk (⟨rfl, by first | rfl | omega | grind⟩) hS dX3_refusal_323

