/-! MATH 12 -/
def tx_pos (t : List Int) : Nat := if (tx_all t).1 = true then t.length else (tx_all t).2
set_option maxHeartbeats 4000000 in
set_option maxRecDepth 100000 in
theorem m_X3_isText (l : Launch) (D : kG) (H : Heap) (a : Nat) (ra : Nat) (sa : Nat) (ka : Nat) (ta : Nat) (sn : Nat) (ik : Bool) (th : Int) (gt : Nat → Int) (t : List Int) (sp : Int) (iw : Bool) (le : Int) (fi : Int) (se : Int) (hO_a : kO D H a 2 [.ref ra, .ref sa, .int (kI ((sn : Nat) : Int)), .ref ka, .int (kI (kb (ik))), .ref ta, .int (kI ((t.length : Nat) : Int)), .int (kI (th)), .int (kI (sp)), .int (kI (kb (iw))), .int (kI (le)), .int (kI (fi)), .int (kI (se))]) (hA_ta : kAi D H ta 60 gt) (hT : MTx gt t) (ht60 : t.length ≤ 60) (ne_a_ta : a ≠ ta) (bs_a : kBase D ≤ a) : Met l yX3_isText (ws_ yX3_isText cX3_isText 1 (some .boolean)) ({ frames := 3, cells := 0, slots := 0, locals := 65 } : Room) (kPre D H [.ref a]) (kQb (fun (r : Bool) H' => ∃ (le2 : Int) (fi2 : Int) (se2 : Int), (r = (tx_all t).1) ∧ (kO D H' a 2 [.ref ra, .ref sa, .int (kI ((sn : Nat) : Int)), .ref ka, .int (kI (kb (ik))), .ref ta, .int (kI ((t.length : Nat) : Int)), .int (kI (th)), .int (kI (((tx_all t).2 : Nat) : Int)), .int (kI (kb ((tx_all t).1))), .int (kI (le2)), .int (kI (fi2)), .int (kI (se2))])) (fun q : Nat => q = a)) (0) (0) ((fun q : Nat => q = a)) := by
  refine Met.ofW (cc := cX3_isText) (maxL := 1) (ret := (some .boolean)) (by decide) rfl ?_
  intro p e s m args below meth c s₁ B hml hv
  obtain ⟨rfl, hH, hK⟩ := hv
  subst hH
  have hx := B.exec
  have hb := B.bytes
  have hr := B.returns
  have hts := atoms_spec (ws := ws_ yX3_isText cX3_isText 1 (some .boolean)) B.pre
  have hts : ∀ w ∈ lw_all, w.before _ s = true := fun w h => hts w (List.mem_cons_of_mem _ h)
  have hown : s.vm.findClass RX3 = some m.cls := findClass_of_methodNamed B.named
  have hlk := B.notSynchronized
  have hS : va_S (fun q : Nat => q = a) s.heap s.heap [] := va_S.rf
  have hB : ∀ q, (fun q : Nat => q = a) q → kBase D ≤ q := fun q h => by (try dsimp only at h); (try simp only [kNW] at h); have hks := hK.size; omega
  have hl := lv_entry ([.ref a]) (n := 1) (Nat.le_of_ble_eq_true rfl)
  rw [lg_entry_eq]
  generalize (lg_sl ([.ref a]) ++ List.replicate (1 - (lg_sl ([.ref a])).length) Slot.unset).toArray = ls at hl ⊢
  have hl : lv_has ls 1 [(0, .ref a)] := hl
  refine lv_aload_n hx hb dX3_isText_0 rfl (lv_at hl 0 rfl) ?_
  refine kx_iconst hx hb dX3_isText_1 ?_
  refine kx_put (v := .int (kI (0))) (C := RX3) (T := TX3) (N := 13) hx hb hts in_X3 hown hK hO_a rfl 8 (by decide) tyX3 tyX3_ok nmX3 hS (by first | rfl | exact Or.inl rfl | exact Or.inr rfl | exact Or.inr (Or.inl rfl) | exact Or.inr (Or.inr rfl) | exact Or.inr (Or.inr (Or.inl rfl)) | exact Or.inr (Or.inr (Or.inr rfl)) | ((try dsimp only); (try simp only [kNW]); omega)) q2246 (fun _ h9 => h9) rfl rfl rfl rfl (Nat.le_of_ble_eq_true rfl) dX3_isText_2 (fun H_3 locs_4 hO_2 hU_1 hS_5 => ?_)
  have hO_2 : kO D H_3 a 2 [.ref ra, .ref sa, .int (kI ((sn : Nat) : Int)), .ref ka, .int (kI (kb (ik))), .ref ta, .int (kI ((t.length : Nat) : Int)), .int (kI (th)), .int (kI (0)), .int (kI (kb (iw))), .int (kI (le)), .int (kI (fi)), .int (kI (se))] := hO_2
  have hzu_6 := hU_1.1
  refine lv_aload_n hx hb dX3_isText_5 rfl (lv_at hl 0 rfl) ?_
  have h_7 := hA_ta.up hU_1 (by first | assumption | exact Ne.symm (by assumption) | omega | (have h9 := hA_ta.lt; omega))
  refine kx_cv (va_runV (As := []) (rest := []) ⟨hx, hb, hml, hown, hts⟩ (m_X3_reads l D H_3 a ra sa ka ta sn ik th 0 gt t iw le fi se hO_2 h_7 (by first | assumption | omega) (by first | assumption | omega) (by first | assumption | omega) (by first | assumption | omega) (by first | assumption | omega)) (cwV 0 hts (lw_V q2605 q2607 qs73 q89 q2608) rfl rfl rfl (by decide +kernel) ⟨Nat.le_of_ble_eq_true rfl, Nat.le_of_ble_eq_true rfl⟩) (kx_pv hK hS_5 hB (kx_rc hK hO_2 (C := RX3) (T := TX3) (N := 13) rfl)) rfl rfl hl.1 rfl (lv_room (Nat.le_of_ble_eq_true rfl)) dX3_isText_6 ⟨by first | exact Nat.le_of_ble_eq_true rfl | omega | (show _ ≤ _; omega) | (dsimp only [headSpec]; omega), by first | exact Nat.le_of_ble_eq_true rfl | omega | (show _ ≤ _; omega) | (dsimp only [headSpec]; omega)⟩) hS_5 (fun q _ h => by (try dsimp only at h); (try dsimp only); (try simp only [kNW] at h); (try simp only [kNW]); omega) (fun q h => by (try dsimp only at h); (try dsimp only); (try simp only [kNW] at h); (try simp only [kNW]); omega) (fun H_11 locs_8 hz_10 hF_12 hS_9 => ?_)
  have hzf_14 := hF_12.1
  refine W.widen (k := 0) (n := 0) (Nat.le_of_ble_eq_true rfl) (Nat.le_of_ble_eq_true rfl) ?_
  have ho_15 := hz_10
  have lp_9_x_16 : ∀ (n_9 : Nat) (f : Nat) (i : Nat) (w : Bool) (le3 : Int) (fi3 : Int) (se3 : Int) (H : Heap) (hO_a : kO D H a 2 [.ref ra, .ref sa, .int (kI ((sn : Nat) : Int)), .ref ka, .int (kI (kb (ik))), .ref ta, .int (kI ((t.length : Nat) : Int)), .int (kI (th)), .int (kI ((i : Nat) : Int)), .int (kI (kb (w))), .int (kI (le3)), .int (kI (fi3)), .int (kI (se3))]) (hA_ta : kAi D H ta 60 gt) (hi : i ≤ 60) (hfl : w = true → t.length - i < f) (hf : tx_all t = tx_lp t f w i) (locs : List Loc) (hS : va_S (fun q : Nat => q = a) s.heap H locs) (hm_9 : f < n_9) (ls : Array Slot), lv_has ls 1 [(0, .ref a)] → W p l e (headSpec (ws_ yX3_isText cX3_isText 1 (some .boolean)) ({ frames := 3, cells := 0, slots := 0, locals := 65 } : Room)).room s m ([.ref a] : List Value).toArray below meth c H locs (0) (0) (MQ below (kQb (fun (r : Bool) H' => ∃ (le2 : Int) (fi2 : Int) (se2 : Int), (r = (tx_all t).1) ∧ (kO D H' a 2 [.ref ra, .ref sa, .int (kI ((sn : Nat) : Int)), .ref ka, .int (kI (kb (ik))), .ref ta, .int (kI ((t.length : Nat) : Int)), .int (kI (th)), .int (kI (((tx_all t).2 : Nat) : Int)), .int (kI (kb ((tx_all t).1))), .int (kI (le2)), .int (kI (fi2)), .int (kI (se2))])) (fun q : Nat => q = a)) ([.ref a] : List Value).toArray s (0) (0) ((fun q : Nat => q = a))) (F0 m 9 ls []) := by
    intro n_9
    induction n_9 with
    | zero => intro f i w le3 fi3 se3 H hO_a hA_ta hi hfl hf locs hS hm_9; exact absurd hm_9 (Nat.not_lt_zero _)
    | succ n_9 ih_9 =>
      intro f i w le3 fi3 se3 H hO_a hA_ta hi hfl hf locs hS hm_9 ls hl
      refine lv_aload_n hx hb dX3_isText_9 rfl (lv_at hl 0 rfl) ?_
      refine kx_get (v := .int (kI (kb (w)))) (C := RX3) (T := TX3) (N := 13) hx hb hts in_X3 hown hK hO_a rfl 9 (by decide) q2247 (fun _ h9 => h9) rfl dX3_isText_10 ?_
      refine kx_ifz (tgt := 47) hx hb dX3_isText_13 (by decide) (fun c_13_17 => ?_) (fun c_13_17 => ?_)
      · -- taken at 13
        refine lv_aload_n hx hb dX3_isText_47 rfl (lv_at hl 0 rfl) ?_
        refine kx_get (v := .int (kI (kb (w)))) (C := RX3) (T := TX3) (N := 13) hx hb hts in_X3 hown hK hO_a rfl 9 (by decide) q2247 (fun _ h9 => h9) rfl dX3_isText_48 ?_
        have hal_18 : tx_all t = (w, i) := by rw [hf]; exact tx_lp_stop t f _ _ (by first | (intro z; omega) | (intro z; exact absurd z.1 (by simp [*])) | grind)
        have hOz_19 : kO D H a 2 [.ref ra, .ref sa, .int (kI ((sn : Nat) : Int)), .ref ka, .int (kI (kb (ik))), .ref ta, .int (kI ((t.length : Nat) : Int)), .int (kI (th)), .int (kI (((tx_all t).2 : Nat) : Int)), .int (kI (kb ((tx_all t).1))), .int (kI (le3)), .int (kI (fi3)), .int (kI (se3))] := by rw [hal_18]; exact hO_a
        refine kx_eqbb ((tx_all t).1) (by rw [hal_18]) ?_
        exact kx_zret (z := (tx_all t).1) hx hb hr hlk (⟨le3, fi3, se3, by first | rfl | exact (decide_eq_true (by omega)).symm | exact (decide_eq_false (by omega)).symm | grind, hOz_19⟩) hS dX3_isText_51
      · -- not taken at 13
        refine lv_aload_n hx hb dX3_isText_16 rfl (lv_at hl 0 rfl) ?_
        refine kx_get (v := .int (kI ((i : Nat) : Int))) (C := RX3) (T := TX3) (N := 13) hx hb hts in_X3 hown hK hO_a rfl 8 (by decide) q2246 (fun _ h9 => h9) rfl dX3_isText_17 ?_
        refine lv_aload_n hx hb dX3_isText_20 rfl (lv_at hl 0 rfl) ?_
        refine kx_get (v := .int (kI ((t.length : Nat) : Int))) (C := RX3) (T := TX3) (N := 13) hx hb hts in_X3 hown hK hO_a rfl 6 (by decide) q2244 (fun _ h9 => h9) rfl dX3_isText_21 ?_
        refine kx_icmp_ge (x := ((i : Nat) : Int)) (y := ((t.length : Nat) : Int)) (tgt := 47) hx hb dX3_isText_24 (by decide) (by omega) (by omega) (by omega) (by omega) (fun c_24_20 => ?_) (fun c_24_20 => ?_)
        · -- taken at 24
          refine lv_aload_n hx hb dX3_isText_47 rfl (lv_at hl 0 rfl) ?_
          refine kx_get (v := .int (kI (kb (w)))) (C := RX3) (T := TX3) (N := 13) hx hb hts in_X3 hown hK hO_a rfl 9 (by decide) q2247 (fun _ h9 => h9) rfl dX3_isText_48 ?_
          have hal_21 : tx_all t = (w, i) := by rw [hf]; exact tx_lp_stop t f _ _ (by first | (intro z; omega) | (intro z; exact absurd z.1 (by simp [*])) | grind)
          have hOz_22 : kO D H a 2 [.ref ra, .ref sa, .int (kI ((sn : Nat) : Int)), .ref ka, .int (kI (kb (ik))), .ref ta, .int (kI ((t.length : Nat) : Int)), .int (kI (th)), .int (kI (((tx_all t).2 : Nat) : Int)), .int (kI (kb ((tx_all t).1))), .int (kI (le3)), .int (kI (fi3)), .int (kI (se3))] := by rw [hal_21]; exact hO_a
          refine kx_eqbb ((tx_all t).1) (by rw [hal_21]) ?_
          exact kx_zret (z := (tx_all t).1) hx hb hr hlk (⟨le3, fi3, se3, by first | rfl | exact (decide_eq_true (by omega)).symm | exact (decide_eq_false (by omega)).symm | grind, hOz_22⟩) hS dX3_isText_51
        · -- not taken at 24
          refine lv_aload_n hx hb dX3_isText_27 rfl (lv_at hl 0 rfl) ?_
          have hw8 : w = true := by assumption
          have hfl9 := hfl hw8
          have hOs_23 := hO_a
          rw [hw8] at hOs_23
          refine kx_bipush hx hb (by decide) dX3_isText_28 ?_
          by_cases h59 : tsg t i = 59
          · -- h59 t
            have hw9 : w = true := by assumption
            refine kx_cv (va_runV (As := [.int (kI (59))]) (rest := []) ⟨hx, hb, hml, hown, hts⟩ (m_needs_t l D H a ra sa ka ta sn ik th le3 fi3 se3 i gt t 59 hOs_23 hA_ta (by first | assumption | omega) (by first | assumption | omega) (by first | assumption | omega) (by first | assumption | omega) (by first | assumption | omega) (by first | assumption | omega)) (cwV 1 hts (lw_V q2617 q2619 qs76 q89 q2620) rfl rfl rfl (by decide +kernel) ⟨Nat.le_of_ble_eq_true rfl, Nat.le_of_ble_eq_true rfl⟩) (kx_pv hK hS hB (kx_rc hK hOs_23 (C := RX3) (T := TX3) (N := 13) rfl)) rfl rfl hl.1 rfl (lv_room (Nat.le_of_ble_eq_true rfl)) dX3_isText_30 ⟨by first | exact Nat.le_of_ble_eq_true rfl | omega | (show _ ≤ _; omega) | (dsimp only [headSpec]; omega), by first | exact Nat.le_of_ble_eq_true rfl | omega | (show _ ≤ _; omega) | (dsimp only [headSpec]; omega)⟩) hS (fun q _ h => by (try dsimp only at h); (try dsimp only); (try simp only [kNW] at h); (try simp only [kNW]); omega) (fun q h => by (try dsimp only at h); (try dsimp only); (try simp only [kNW] at h); (try simp only [kNW]); omega) (fun H_27 locs_24 hz_26 hF_28 hS_25 => ?_)
            have hzf_30 := hF_28.1
            refine W.widen (k := 0) (n := 0) (Nat.le_of_ble_eq_true rfl) (Nat.le_of_ble_eq_true rfl) ?_
            have ho_31 := hz_26
            refine lv_aload_n hx hb dX3_isText_33 rfl (lv_at hl 0 rfl) ?_
            refine kx_get (v := .int (kI (kb (true)))) (C := RX3) (T := TX3) (N := 13) hx hb hts in_X3 hown hK ho_31 rfl 9 (by decide) q2247 (fun _ h9 => h9) rfl dX3_isText_34 ?_
            refine kx_ifz (tgt := 9) hx hb dX3_isText_37 (by decide) (fun c_37_32 => ?_) (fun c_37_32 => ?_)
            · -- taken at 37
              exact absurd c_37_32 (by decide)
            · -- not taken at 37
              refine lv_aload_n hx hb dX3_isText_40 rfl (lv_at hl 0 rfl) ?_
              have h_33 := hA_ta.fr hF_28 (fun h => by (try dsimp only at h); (try simp only [kNW] at h); omega)
              refine kx_cv (va_runV (As := []) (rest := []) ⟨hx, hb, hml, hown, hts⟩ (m_X3_reads l D H_27 a ra sa ka ta sn ik th ((i + 1)) gt t true le3 fi3 se3 ho_31 h_33 (by first | assumption | omega) (by first | assumption | omega) (by first | assumption | omega) (by first | assumption | omega) (by first | assumption | omega)) (cwV 0 hts (lw_V q2605 q2607 qs73 q89 q2608) rfl rfl rfl (by decide +kernel) ⟨Nat.le_of_ble_eq_true rfl, Nat.le_of_ble_eq_true rfl⟩) (kx_pv hK hS_25 hB (kx_rc hK ho_31 (C := RX3) (T := TX3) (N := 13) rfl)) rfl rfl hl.1 rfl (lv_room (Nat.le_of_ble_eq_true rfl)) dX3_isText_41 ⟨by first | exact Nat.le_of_ble_eq_true rfl | omega | (show _ ≤ _; omega) | (dsimp only [headSpec]; omega), by first | exact Nat.le_of_ble_eq_true rfl | omega | (show _ ≤ _; omega) | (dsimp only [headSpec]; omega)⟩) hS_25 (fun q _ h => by (try dsimp only at h); (try dsimp only); (try simp only [kNW] at h); (try simp only [kNW]); omega) (fun q h => by (try dsimp only at h); (try dsimp only); (try simp only [kNW] at h); (try simp only [kNW]); omega) (fun H_37 locs_34 hz_36 hF_38 hS_35 => ?_)
              have hzf_40 := hF_38.1
              refine W.widen (k := 0) (n := 0) (Nat.le_of_ble_eq_true rfl) (Nat.le_of_ble_eq_true rfl) ?_
              have ho_41 := hz_36
              refine lv_goto (tgt := 9) hx hb dX3_isText_44 (by decide) ?_
              have h_42 := h_33.fr hF_38 (fun h => by (try dsimp only at h); (try simp only [kNW] at h); omega)
              exact ih_9  ((f - 1)) ((rdW t (((i + 1)))).2.1) ((rdW t (((i + 1)))).1) (tsg t (((i + 1)))) ((rdW t (((i + 1)))).2.2.1) ((rdW t (((i + 1)))).2.2.2) H_37 ho_41 h_42 (by first | omega | (have := (rdW_place hT (i + 1)).2.1; omega)) (by first | exact (fun q => absurd q Bool.false_ne_true) | exact (fun _ => by have := (rdW_place hT (i + 1)).1; omega)) (by rw [hf, show f = (f - 1) + 1 by omega, tx_lp, if_pos ⟨by assumption, by omega⟩]; first | (rw [if_pos h59]; rfl) | (rw [if_neg h59]; exact (tx_lp_stop t _ _ _ (fun z => absurd z.1 Bool.false_ne_true)).symm)) _ hS_35 (by omega) ls (lv_sub hl [0] rfl)
          · -- h59 f
            have hw9 : w = true := by assumption
            refine kx_cv (va_runV (As := [.int (kI (59))]) (rest := []) ⟨hx, hb, hml, hown, hts⟩ (m_needs_f l D H a ra sa ka ta sn ik th true le3 fi3 se3 i gt t 59 hOs_23 hA_ta (by first | assumption | omega) (by first | assumption | omega) (by first | assumption | omega) (by first | assumption | omega) (by first | assumption | omega) (by first | assumption | omega) (by first | assumption | omega)) (cwV 1 hts (lw_V q2617 q2619 qs76 q89 q2620) rfl rfl rfl (by decide +kernel) ⟨Nat.le_of_ble_eq_true rfl, Nat.le_of_ble_eq_true rfl⟩) (kx_pv hK hS hB (kx_rc hK hOs_23 (C := RX3) (T := TX3) (N := 13) rfl)) rfl rfl hl.1 rfl (lv_room (Nat.le_of_ble_eq_true rfl)) dX3_isText_30 ⟨by first | exact Nat.le_of_ble_eq_true rfl | omega | (show _ ≤ _; omega) | (dsimp only [headSpec]; omega), by first | exact Nat.le_of_ble_eq_true rfl | omega | (show _ ≤ _; omega) | (dsimp only [headSpec]; omega)⟩) hS (fun q _ h => by (try dsimp only at h); (try dsimp only); (try simp only [kNW] at h); (try simp only [kNW]); omega) (fun q h => by (try dsimp only at h); (try dsimp only); (try simp only [kNW] at h); (try simp only [kNW]); omega) (fun H_46 locs_43 hz_45 hF_47 hS_44 => ?_)
            have hzf_49 := hF_47.1
            refine W.widen (k := 0) (n := 0) (Nat.le_of_ble_eq_true rfl) (Nat.le_of_ble_eq_true rfl) ?_
            have ho_50 := hz_45
            refine lv_aload_n hx hb dX3_isText_33 rfl (lv_at hl 0 rfl) ?_
            refine kx_get (v := .int (kI (kb (false)))) (C := RX3) (T := TX3) (N := 13) hx hb hts in_X3 hown hK ho_50 rfl 9 (by decide) q2247 (fun _ h9 => h9) rfl dX3_isText_34 ?_
            refine kx_ifz (tgt := 9) hx hb dX3_isText_37 (by decide) (fun c_37_51 => ?_) (fun c_37_51 => ?_)
            · -- taken at 37
              have h_52 := hA_ta.fr hF_47 (fun h => by (try dsimp only at h); (try simp only [kNW] at h); omega)
              exact ih_9  ((f - 1)) i false le3 fi3 se3 H_46 ho_50 h_52 (by first | omega | (have := (rdW_place hT (i + 1)).2.1; omega)) (by first | exact (fun q => absurd q Bool.false_ne_true) | exact (fun _ => by have := (rdW_place hT (i + 1)).1; omega)) (by rw [hf, show f = (f - 1) + 1 by omega, tx_lp, if_pos ⟨by assumption, by omega⟩]; first | (rw [if_pos h59]; rfl) | (rw [if_neg h59]; exact (tx_lp_stop t _ _ _ (fun z => absurd z.1 Bool.false_ne_true)).symm)) _ hS_44 (by omega) ls (lv_sub hl [0] rfl)
            · -- not taken at 37
              exact absurd c_37_51 (by decide)
  have h_53 := h_7.fr hF_12 (fun h => by (try dsimp only at h); (try simp only [kNW] at h); omega)
  exact lp_9_x_16 ((t.length + 1) + 1) (t.length + 1) ((rdW t 0).2.1) ((rdW t 0).1) (tsg t 0) ((rdW t 0).2.2.1) ((rdW t 0).2.2.2) H_11 ho_15 h_53 (by have := (rdW_place hT 0).2.1; omega) (fun _ => by omega) (rfl) _ hS_9 (Nat.lt_succ_self _) ls (lv_sub hl [0] rfl)

set_option maxHeartbeats 4000000 in
set_option maxRecDepth 100000 in
theorem m_X3_errorPosition (l : Launch) (D : kG) (H : Heap) (a : Nat) (ra : Nat) (sa : Nat) (ka : Nat) (ta : Nat) (sn : Nat) (ik : Bool) (th : Int) (gt : Nat → Int) (t : List Int) (sp : Int) (iw : Bool) (le : Int) (fi : Int) (se : Int) (hO_a : kO D H a 2 [.ref ra, .ref sa, .int (kI ((sn : Nat) : Int)), .ref ka, .int (kI (kb (ik))), .ref ta, .int (kI ((t.length : Nat) : Int)), .int (kI (th)), .int (kI (sp)), .int (kI (kb (iw))), .int (kI (le)), .int (kI (fi)), .int (kI (se))]) (hA_ta : kAi D H ta 60 gt) (hT : MTx gt t) (ht60 : t.length ≤ 60) (ne_a_ta : a ≠ ta) (bs_a : kBase D ≤ a) : Met l yX3_errorPosition (ws_ yX3_errorPosition cX3_errorPosition 1 (some .int)) ({ frames := 4, cells := 0, slots := 0, locals := 85 } : Room) (kPre D H [.ref a]) (kQi (fun (r : Int) H' => ∃ (le2 : Int) (fi2 : Int) (se2 : Int), (r = ((tx_pos t : Nat) : Int)) ∧ (kO D H' a 2 [.ref ra, .ref sa, .int (kI ((sn : Nat) : Int)), .ref ka, .int (kI (kb (ik))), .ref ta, .int (kI ((t.length : Nat) : Int)), .int (kI (0)), .int (kI (((tx_all t).2 : Nat) : Int)), .int (kI (kb ((tx_all t).1))), .int (kI (le2)), .int (kI (fi2)), .int (kI (se2))])) (fun q : Nat => q = a)) (0) (0) ((fun q : Nat => q = a)) := by
  refine Met.ofW (cc := cX3_errorPosition) (maxL := 1) (ret := (some .int)) (by decide) rfl ?_
  intro p e s m args below meth c s₁ B hml hv
  obtain ⟨rfl, hH, hK⟩ := hv
  subst hH
  have hx := B.exec
  have hb := B.bytes
  have hr := B.returns
  have hts := atoms_spec (ws := ws_ yX3_errorPosition cX3_errorPosition 1 (some .int)) B.pre
  have hts : ∀ w ∈ lw_all, w.before _ s = true := fun w h => hts w (List.mem_cons_of_mem _ h)
  have hown : s.vm.findClass RX3 = some m.cls := findClass_of_methodNamed B.named
  have hlk := B.notSynchronized
  have hS : va_S (fun q : Nat => q = a) s.heap s.heap [] := va_S.rf
  have hB : ∀ q, (fun q : Nat => q = a) q → kBase D ≤ q := fun q h => by (try dsimp only at h); (try simp only [kNW] at h); have hks := hK.size; omega
  have hl := lv_entry ([.ref a]) (n := 1) (Nat.le_of_ble_eq_true rfl)
  rw [lg_entry_eq]
  generalize (lg_sl ([.ref a]) ++ List.replicate (1 - (lg_sl ([.ref a])).length) Slot.unset).toArray = ls at hl ⊢
  have hl : lv_has ls 1 [(0, .ref a)] := hl
  refine lv_aload_n hx hb dX3_errorPosition_0 rfl (lv_at hl 0 rfl) ?_
  refine kx_iconst hx hb dX3_errorPosition_1 ?_
  refine kx_put (v := .int (kI (0))) (C := RX3) (T := TX3) (N := 13) hx hb hts in_X3 hown hK hO_a rfl 7 (by decide) tyX3 tyX3_ok nmX3 hS (by first | rfl | exact Or.inl rfl | exact Or.inr rfl | exact Or.inr (Or.inl rfl) | exact Or.inr (Or.inr rfl) | exact Or.inr (Or.inr (Or.inl rfl)) | exact Or.inr (Or.inr (Or.inr rfl)) | ((try dsimp only); (try simp only [kNW]); omega)) q2245 (fun _ h9 => h9) rfl rfl rfl rfl (Nat.le_of_ble_eq_true rfl) dX3_errorPosition_2 (fun H_3 locs_4 hO_2 hU_1 hS_5 => ?_)
  have hO_2 : kO D H_3 a 2 [.ref ra, .ref sa, .int (kI ((sn : Nat) : Int)), .ref ka, .int (kI (kb (ik))), .ref ta, .int (kI ((t.length : Nat) : Int)), .int (kI (0)), .int (kI (sp)), .int (kI (kb (iw))), .int (kI (le)), .int (kI (fi)), .int (kI (se))] := hO_2
  have hzu_6 := hU_1.1
  refine lv_aload_n hx hb dX3_errorPosition_5 rfl (lv_at hl 0 rfl) ?_
  have h_7 := hA_ta.up hU_1 (by first | assumption | exact Ne.symm (by assumption) | omega | (have h9 := hA_ta.lt; omega))
  refine kx_cb (va_runV (As := []) (rest := []) ⟨hx, hb, hml, hown, hts⟩ (m_X3_isText l D H_3 a ra sa ka ta sn ik 0 gt t sp iw le fi se hO_2 h_7 (by first | assumption | omega) (by first | assumption | omega) (by first | assumption | omega) (by first | assumption | omega)) (cwV 0 hts (lw_V q2601 q2603 qs72 q89 q2604) rfl rfl rfl (by decide +kernel) ⟨Nat.le_of_ble_eq_true rfl, Nat.le_of_ble_eq_true rfl⟩) (kx_pv hK hS_5 hB (kx_rc hK hO_2 (C := RX3) (T := TX3) (N := 13) rfl)) rfl rfl hl.1 rfl (lv_room (Nat.le_of_ble_eq_true rfl)) dX3_errorPosition_6 ⟨by first | exact Nat.le_of_ble_eq_true rfl | omega | (show _ ≤ _; omega) | (dsimp only [headSpec]; omega), by first | exact Nat.le_of_ble_eq_true rfl | omega | (show _ ≤ _; omega) | (dsimp only [headSpec]; omega)⟩) hS_5 (fun q _ h => by (try dsimp only at h); (try dsimp only); (try simp only [kNW] at h); (try simp only [kNW]); omega) (fun q h => by (try dsimp only at h); (try dsimp only); (try simp only [kNW] at h); (try simp only [kNW]); omega) (fun z_13 H_11 locs_8 hz_10 hF_12 hS_9 => ?_)
  have hzf_14 := hF_12.1
  refine W.widen (k := 0) (n := 0) (Nat.le_of_ble_eq_true rfl) (Nat.le_of_ble_eq_true rfl) ?_
  obtain ⟨le2_15, fi2_16, se2_17, hv_18, ho_19⟩ := hz_10
  subst z_13
  refine kx_ifz (tgt := 19) hx hb dX3_errorPosition_9 (by decide) (fun c_9_20 => ?_) (fun c_9_20 => ?_)
  · -- taken at 9
    refine lv_aload_n hx hb dX3_errorPosition_19 rfl (lv_at hl 0 rfl) ?_
    refine kx_get (v := .int (kI (((tx_all t).2 : Nat) : Int))) (C := RX3) (T := TX3) (N := 13) hx hb hts in_X3 hown hK ho_19 rfl 8 (by decide) q2246 (fun _ h9 => h9) rfl dX3_errorPosition_20 ?_
    exact kx_iret (z := (((tx_all t).2 : Nat) : Int)) hx hb hr hlk (⟨le2_15, fi2_16, se2_17, by unfold tx_pos; first | rw [if_pos (by assumption)] | rw [if_neg (by simp [*])], ho_19⟩) hS_9 dX3_errorPosition_23
  · -- not taken at 9
    refine lv_aload_n hx hb dX3_errorPosition_12 rfl (lv_at hl 0 rfl) ?_
    refine kx_get (v := .int (kI ((t.length : Nat) : Int))) (C := RX3) (T := TX3) (N := 13) hx hb hts in_X3 hown hK ho_19 rfl 6 (by decide) q2244 (fun _ h9 => h9) rfl dX3_errorPosition_13 ?_
    refine lv_goto (tgt := 23) hx hb dX3_errorPosition_16 (by decide) ?_
    exact kx_iret (z := ((t.length : Nat) : Int)) hx hb hr hlk (⟨le2_15, fi2_16, se2_17, by unfold tx_pos; first | rw [if_pos (by assumption)] | rw [if_neg (by simp [*])], ho_19⟩) hS_9 dX3_errorPosition_23

set_option maxHeartbeats 4000000 in
set_option maxRecDepth 100000 in
theorem m_carries_b (l : Launch) (D : kG) (H : Heap) (a : Nat) (ra : Nat) (sa : Nat) (ka : Nat) (ta : Nat) (sn : Nat) (ik : Bool) (th : Int) (sp : Int) (iw : Bool) (t : List Int) (gt : Nat → Int) (g : Nat → Int) (S : Ls) (gap : Int) (fi : Int) (se : Int) (hO_a : kO D H a 2 [.ref ra, .ref sa, .int (kI ((sn : Nat) : Int)), .ref ka, .int (kI (kb (ik))), .ref ta, .int (kI ((t.length : Nat) : Int)), .int (kI (th)), .int (kI (sp)), .int (kI (kb (iw))), .int (kI (110)), .int (kI (fi)), .int (kI (se))]) (hA_ra : kAi D H ra 514 g) (hA_ta : kAi D H ta 60 gt) (hM : MRow g S gap) (hok : LsOK S gap) (hT : MTx gt t) (ht60 : t.length ≤ 60) (ne_a_ra : a ≠ ra) (ne_ra_ta : ra ≠ ta) (bs_ra : kBase D ≤ ra) (hr_fi : -2147483648 ≤ fi ∧ fi ≤ 2147483647) (hr_se : -2147483648 ≤ se ∧ se ≤ 2147483647) : Met l yX3_carries (ws_ yX3_carries cX3_carries 4 (some .boolean)) ({ frames := 11, cells := 0, slots := 0, locals := 254 } : Room) (kPre D H [.ref a]) (kQb (fun (r : Bool) H' => ∃ (g2 : Nat → Int), (r = (ex_one t 110 fi se S gap).1) ∧ (kAi D H' ra 514 g2) ∧ (MRow g2 (ex_one t 110 fi se S gap).2.1 (ex_one t 110 fi se S gap).2.2)) (fun q : Nat => q = ra)) (0) (0) ((fun q : Nat => q = ra)) := by
  refine Met.ofW (cc := cX3_carries) (maxL := 4) (ret := (some .boolean)) (by decide) rfl ?_
  intro p e s m args below meth c s₁ B hml hv
  obtain ⟨rfl, hH, hK⟩ := hv
  subst hH
  have hx := B.exec
  have hb := B.bytes
  have hr := B.returns
  have hts := atoms_spec (ws := ws_ yX3_carries cX3_carries 4 (some .boolean)) B.pre
  have hts : ∀ w ∈ lw_all, w.before _ s = true := fun w h => hts w (List.mem_cons_of_mem _ h)
  have hown : s.vm.findClass RX3 = some m.cls := findClass_of_methodNamed B.named
  have hlk := B.notSynchronized
  have hS : va_S (fun q : Nat => q = ra) s.heap s.heap [] := va_S.rf
  have hB : ∀ q, (fun q : Nat => q = ra) q → kBase D ≤ q := fun q h => by (try dsimp only at h); (try simp only [kNW] at h); have hks := hK.size; omega
  have hl := lv_entry ([.ref a]) (n := 4) (Nat.le_of_ble_eq_true rfl)
  rw [lg_entry_eq]
  generalize (lg_sl ([.ref a]) ++ List.replicate (4 - (lg_sl ([.ref a])).length) Slot.unset).toArray = ls at hl ⊢
  have hl : lv_has ls 4 [(0, .ref a)] := hl
  refine kx_iconst hx hb dX3_carries_0 ?_
  refine lv_istore_n (lv' := [(1, .int (kI (0))), (0, .ref a)]) hx hb dX3_carries_1 rfl hl (by decide) rfl (fun ls hl => ?_)
  refine lv_aload_n hx hb dX3_carries_2 rfl (lv_at hl 1 rfl) ?_
  refine kx_get (v := .int (kI (110))) (C := RX3) (T := TX3) (N := 13) hx hb hts in_X3 hown hK hO_a rfl 10 (by decide) q2248 (fun _ h9 => h9) rfl dX3_carries_3 ?_
  refine kx_bipush hx hb (by decide) dX3_carries_6 ?_
  refine kx_icmp_eq (x := 110) (y := 115) (tgt := 63) hx hb dX3_carries_8 (by decide) (by omega) (by omega) (by omega) (by omega) (fun c_8_1 => ?_) (fun c_8_1 => ?_)
  · -- taken at 8
    exfalso; omega
  · -- not taken at 8
    refine lv_aload_n hx hb dX3_carries_11 rfl (lv_at hl 1 rfl) ?_
    refine lv_aload_n hx hb dX3_carries_12 rfl (lv_at hl 1 rfl) ?_
    refine kx_get (v := .int (kI (110))) (C := RX3) (T := TX3) (N := 13) hx hb hts in_X3 hown hK hO_a rfl 10 (by decide) q2248 (fun _ h9 => h9) rfl dX3_carries_13 ?_
    refine lv_aload_n hx hb dX3_carries_16 rfl (lv_at hl 1 rfl) ?_
    refine kx_get (v := .int (kI (fi))) (C := RX3) (T := TX3) (N := 13) hx hb hts in_X3 hown hK hO_a rfl 11 (by decide) q2249 (fun _ h9 => h9) rfl dX3_carries_17 ?_
    refine lv_aload_n hx hb dX3_carries_20 rfl (lv_at hl 1 rfl) ?_
    refine kx_get (v := .int (kI (se))) (C := RX3) (T := TX3) (N := 13) hx hb hts in_X3 hown hK hO_a rfl 12 (by decide) q2250 (fun _ h9 => h9) rfl dX3_carries_21 ?_
    refine kx_ci0 (va_runV (As := [.int (kI (110)), .int (kI (fi)), .int (kI (se))]) (rest := []) ⟨hx, hb, hml, hown, hts⟩ (m_ref_b l D s.heap a ([.ref ra, .ref sa, .int (kI ((sn : Nat) : Int)), .ref ka, .int (kI (kb (ik))), .ref ta, .int (kI ((t.length : Nat) : Int)), .int (kI (th)), .int (kI (sp)), .int (kI (kb (iw))), .int (kI (110)), .int (kI (fi)), .int (kI (se))]) ra g S gap fi se hO_a rfl hA_ra (by first | assumption | omega) (by first | assumption | omega) (by first | assumption | omega) (by first | assumption | omega)) (cwV 3 hts (lw_V q2290 q2292 qs38 q89 q2293) rfl rfl rfl (by decide +kernel) ⟨Nat.le_of_ble_eq_true rfl, Nat.le_of_ble_eq_true rfl⟩) (kx_pv hK hS hB (kx_rc hK hO_a (C := RX3) (T := TX3) (N := 13) rfl)) rfl rfl hl.1 rfl (lv_room (Nat.le_of_ble_eq_true rfl)) dX3_carries_24 ⟨by first | exact Nat.le_of_ble_eq_true rfl | omega | (show _ ≤ _; omega) | (dsimp only [headSpec]; omega), by first | exact Nat.le_of_ble_eq_true rfl | omega | (show _ ≤ _; omega) | (dsimp only [headSpec]; omega)⟩) hS (fun z_5 locs_2 hz_4 hS_3 => ?_)
    subst z_5
    refine kx_if_ne (x := ref_b S fi se) (tgt := 34) hx hb dX3_carries_27 (by decide) (by have := ref_rng_b S fi se; omega) (by have := ref_rng_b S fi se; omega) (fun c27 => ?_) (fun c27 => ?_)
    · -- taken at 27
      refine kx_iconst hx hb dX3_carries_34 ?_
      refine lv_istore_n (lv' := [(2, .int (kI (0))), (1, .int (kI (0))), (0, .ref a)]) hx hb dX3_carries_35 rfl hl (by decide) rfl (fun ls hl => ?_)
      refine lv_iload_n hx hb dX3_carries_36 rfl (lv_at hl 0 rfl) ?_
      refine kx_if_eq (x := 0) (tgt := 59) hx hb dX3_carries_37 (by decide) (by omega) (by omega) (fun c_37_6 => ?_) (fun c_37_6 => ?_)
      · -- taken at 37
        refine kx_iconst hx hb dX3_carries_59 ?_
        refine lv_istore_n (lv' := [(1, .int (kI (0))), (2, .int (kI (0))), (0, .ref a)]) hx hb dX3_carries_60 rfl hl (by decide) rfl (fun ls hl => ?_)
        refine lv_iload_n hx hb dX3_carries_61 rfl (lv_at hl 1 rfl) ?_
        exact kx_zret (z := false) hx hb hr hlk (⟨g, by rw [ex_one, if_neg (show ¬ ((110 : Int) = 115) by decide), if_pos rfl]; first | (rw [if_pos (by first | exact c27 | omega)]; done) | (rw [if_neg (by first | exact c27 | omega)]; done), hA_ra, by rw [ex_one, if_neg (show ¬ ((110 : Int) = 115) by decide), if_pos rfl]; first | (rw [if_pos (by first | exact c27 | omega)]; exact hM9) | (rw [if_neg (by first | exact c27 | omega)]; exact hM)⟩) hS_3 dX3_carries_62
      · -- not taken at 37
        exfalso; omega
    · -- not taken at 27
      refine kx_iconst hx hb dX3_carries_30 ?_
      refine lv_goto (tgt := 35) hx hb dX3_carries_31 (by decide) ?_
      refine lv_istore_n (lv' := [(2, .int (kI (1))), (1, .int (kI (0))), (0, .ref a)]) hx hb dX3_carries_35 rfl hl (by decide) rfl (fun ls hl => ?_)
      refine lv_iload_n hx hb dX3_carries_36 rfl (lv_at hl 0 rfl) ?_
      refine kx_if_eq (x := 1) (tgt := 59) hx hb dX3_carries_37 (by decide) (by omega) (by omega) (fun c_37_7 => ?_) (fun c_37_7 => ?_)
      · -- taken at 37
        exfalso; omega
      · -- not taken at 37
        have hz0 := ref_b_0 hok (by first | exact c27 | omega)
        refine lv_aload_n hx hb dX3_carries_40 rfl (lv_at hl 2 rfl) ?_
        refine lv_aload_n hx hb dX3_carries_41 rfl (lv_at hl 2 rfl) ?_
        refine kx_get (v := .int (kI (110))) (C := RX3) (T := TX3) (N := 13) hx hb hts in_X3 hown hK hO_a rfl 10 (by decide) q2248 (fun _ h9 => h9) rfl dX3_carries_42 ?_
        refine lv_aload_n hx hb dX3_carries_45 rfl (lv_at hl 2 rfl) ?_
        refine kx_get (v := .int (kI (fi))) (C := RX3) (T := TX3) (N := 13) hx hb hts in_X3 hown hK hO_a rfl 11 (by decide) q2249 (fun _ h9 => h9) rfl dX3_carries_46 ?_
        refine lv_aload_n hx hb dX3_carries_49 rfl (lv_at hl 2 rfl) ?_
        refine kx_get (v := .int (kI (se))) (C := RX3) (T := TX3) (N := 13) hx hb hts in_X3 hown hK hO_a rfl 12 (by decide) q2250 (fun _ h9 => h9) rfl dX3_carries_50 ?_
        refine kx_ci (va_runV (As := [.int (kI (110)), .int (kI (fi)), .int (kI (se))]) (rest := []) ⟨hx, hb, hml, hown, hts⟩ (m_do_b l D s.heap a ([.ref ra, .ref sa, .int (kI ((sn : Nat) : Int)), .ref ka, .int (kI (kb (ik))), .ref ta, .int (kI ((t.length : Nat) : Int)), .int (kI (th)), .int (kI (sp)), .int (kI (kb (iw))), .int (kI (110)), .int (kI (fi)), .int (kI (se))]) ra g S gap fi se hO_a rfl hA_ra (by first | assumption | omega) (by first | assumption | omega) (by first | assumption | omega) (by first | assumption | omega) (by first | assumption | omega)) (cwV 3 hts (lw_V q2387 q2389 qs57 q89 q2390) rfl rfl rfl (by decide +kernel) ⟨Nat.le_of_ble_eq_true rfl, Nat.le_of_ble_eq_true rfl⟩) (kx_pv hK hS_3 hB (kx_rc hK hO_a (C := RX3) (T := TX3) (N := 13) rfl)) rfl rfl hl.1 rfl (lv_room (Nat.le_of_ble_eq_true rfl)) dX3_carries_53 ⟨by first | exact Nat.le_of_ble_eq_true rfl | omega | (show _ ≤ _; omega) | (dsimp only [headSpec]; omega), by first | exact Nat.le_of_ble_eq_true rfl | omega | (show _ ≤ _; omega) | (dsimp only [headSpec]; omega)⟩) hS_3 (fun q _ h => by (try dsimp only at h); (try dsimp only); (try simp only [kNW] at h); (try simp only [kNW]); omega) (fun q h => by (try dsimp only at h); (try dsimp only); (try simp only [kNW] at h); (try simp only [kNW]); omega) (fun z_13 H_11 locs_8 hz_10 hF_12 hS_9 => ?_)
        have hzf_14 := hF_12.1
        refine W.widen (k := 0) (n := 0) (Nat.le_of_ble_eq_true rfl) (Nat.le_of_ble_eq_true rfl) ?_
        obtain ⟨g2_15, hv_16, ho_17, hM9⟩ := hz_10
        subst z_13
        refine lv_goto (tgt := 60) hx hb dX3_carries_56 (by decide) ?_
        refine lv_istore_n (lv' := [(1, .int (kI ((S.length : Nat) : Int))), (2, .int (kI (1))), (0, .ref a)]) hx hb dX3_carries_60 rfl hl (by decide) rfl (fun ls hl => ?_)
        refine lv_iload_n hx hb dX3_carries_61 rfl (lv_at hl 1 rfl) ?_
        exact kx_zret (z := true) hx hb hr hlk (⟨g2_15, by rw [ex_one, if_neg (show ¬ ((110 : Int) = 115) by decide), if_pos rfl]; first | (rw [if_pos (by first | exact c27 | omega)]; done) | (rw [if_neg (by first | exact c27 | omega)]; done), ho_17, by rw [ex_one, if_neg (show ¬ ((110 : Int) = 115) by decide), if_pos rfl]; first | (rw [if_pos (by first | exact c27 | omega)]; exact hM9) | (rw [if_neg (by first | exact c27 | omega)]; exact hM)⟩) hS_9 dX3_carries_62

set_option maxHeartbeats 4000000 in
set_option maxRecDepth 100000 in
theorem m_carries_w (l : Launch) (D : kG) (H : Heap) (a : Nat) (ra : Nat) (sa : Nat) (ka : Nat) (ta : Nat) (sn : Nat) (ik : Bool) (th : Int) (sp : Int) (iw : Bool) (t : List Int) (gt : Nat → Int) (g : Nat → Int) (S : Ls) (gap : Int) (fi : Int) (se : Int) (hO_a : kO D H a 2 [.ref ra, .ref sa, .int (kI ((sn : Nat) : Int)), .ref ka, .int (kI (kb (ik))), .ref ta, .int (kI ((t.length : Nat) : Int)), .int (kI (th)), .int (kI (sp)), .int (kI (kb (iw))), .int (kI (119)), .int (kI (fi)), .int (kI (se))]) (hA_ra : kAi D H ra 514 g) (hA_ta : kAi D H ta 60 gt) (hM : MRow g S gap) (hok : LsOK S gap) (hT : MTx gt t) (ht60 : t.length ≤ 60) (ne_a_ra : a ≠ ra) (ne_ra_ta : ra ≠ ta) (bs_ra : kBase D ≤ ra) (hr_fi : -2147483648 ≤ fi ∧ fi ≤ 2147483647) (hr_se : -2147483648 ≤ se ∧ se ≤ 2147483647) : Met l yX3_carries (ws_ yX3_carries cX3_carries 4 (some .boolean)) ({ frames := 11, cells := 0, slots := 0, locals := 254 } : Room) (kPre D H [.ref a]) (kQb (fun (r : Bool) H' => ∃ (g2 : Nat → Int), (r = (ex_one t 119 fi se S gap).1) ∧ (kAi D H' ra 514 g2) ∧ (MRow g2 (ex_one t 119 fi se S gap).2.1 (ex_one t 119 fi se S gap).2.2)) (fun q : Nat => q = ra)) (0) (0) ((fun q : Nat => q = ra)) := by
  refine Met.ofW (cc := cX3_carries) (maxL := 4) (ret := (some .boolean)) (by decide) rfl ?_
  intro p e s m args below meth c s₁ B hml hv
  obtain ⟨rfl, hH, hK⟩ := hv
  subst hH
  have hx := B.exec
  have hb := B.bytes
  have hr := B.returns
  have hts := atoms_spec (ws := ws_ yX3_carries cX3_carries 4 (some .boolean)) B.pre
  have hts : ∀ w ∈ lw_all, w.before _ s = true := fun w h => hts w (List.mem_cons_of_mem _ h)
  have hown : s.vm.findClass RX3 = some m.cls := findClass_of_methodNamed B.named
  have hlk := B.notSynchronized
  have hS : va_S (fun q : Nat => q = ra) s.heap s.heap [] := va_S.rf
  have hB : ∀ q, (fun q : Nat => q = ra) q → kBase D ≤ q := fun q h => by (try dsimp only at h); (try simp only [kNW] at h); have hks := hK.size; omega
  have hl := lv_entry ([.ref a]) (n := 4) (Nat.le_of_ble_eq_true rfl)
  rw [lg_entry_eq]
  generalize (lg_sl ([.ref a]) ++ List.replicate (4 - (lg_sl ([.ref a])).length) Slot.unset).toArray = ls at hl ⊢
  have hl : lv_has ls 4 [(0, .ref a)] := hl
  refine kx_iconst hx hb dX3_carries_0 ?_
  refine lv_istore_n (lv' := [(1, .int (kI (0))), (0, .ref a)]) hx hb dX3_carries_1 rfl hl (by decide) rfl (fun ls hl => ?_)
  refine lv_aload_n hx hb dX3_carries_2 rfl (lv_at hl 1 rfl) ?_
  refine kx_get (v := .int (kI (119))) (C := RX3) (T := TX3) (N := 13) hx hb hts in_X3 hown hK hO_a rfl 10 (by decide) q2248 (fun _ h9 => h9) rfl dX3_carries_3 ?_
  refine kx_bipush hx hb (by decide) dX3_carries_6 ?_
  refine kx_icmp_eq (x := 119) (y := 115) (tgt := 63) hx hb dX3_carries_8 (by decide) (by omega) (by omega) (by omega) (by omega) (fun c_8_1 => ?_) (fun c_8_1 => ?_)
  · -- taken at 8
    exfalso; omega
  · -- not taken at 8
    refine lv_aload_n hx hb dX3_carries_11 rfl (lv_at hl 1 rfl) ?_
    refine lv_aload_n hx hb dX3_carries_12 rfl (lv_at hl 1 rfl) ?_
    refine kx_get (v := .int (kI (119))) (C := RX3) (T := TX3) (N := 13) hx hb hts in_X3 hown hK hO_a rfl 10 (by decide) q2248 (fun _ h9 => h9) rfl dX3_carries_13 ?_
    refine lv_aload_n hx hb dX3_carries_16 rfl (lv_at hl 1 rfl) ?_
    refine kx_get (v := .int (kI (fi))) (C := RX3) (T := TX3) (N := 13) hx hb hts in_X3 hown hK hO_a rfl 11 (by decide) q2249 (fun _ h9 => h9) rfl dX3_carries_17 ?_
    refine lv_aload_n hx hb dX3_carries_20 rfl (lv_at hl 1 rfl) ?_
    refine kx_get (v := .int (kI (se))) (C := RX3) (T := TX3) (N := 13) hx hb hts in_X3 hown hK hO_a rfl 12 (by decide) q2250 (fun _ h9 => h9) rfl dX3_carries_21 ?_
    refine kx_ci0 (va_runV (As := [.int (kI (119)), .int (kI (fi)), .int (kI (se))]) (rest := []) ⟨hx, hb, hml, hown, hts⟩ (m_ref_w l D s.heap a ([.ref ra, .ref sa, .int (kI ((sn : Nat) : Int)), .ref ka, .int (kI (kb (ik))), .ref ta, .int (kI ((t.length : Nat) : Int)), .int (kI (th)), .int (kI (sp)), .int (kI (kb (iw))), .int (kI (119)), .int (kI (fi)), .int (kI (se))]) ra g S gap fi se hO_a rfl hA_ra (by first | assumption | omega) (by first | assumption | omega) (by first | assumption | omega) (by first | assumption | omega)) (cwV 3 hts (lw_V q2290 q2292 qs38 q89 q2293) rfl rfl rfl (by decide +kernel) ⟨Nat.le_of_ble_eq_true rfl, Nat.le_of_ble_eq_true rfl⟩) (kx_pv hK hS hB (kx_rc hK hO_a (C := RX3) (T := TX3) (N := 13) rfl)) rfl rfl hl.1 rfl (lv_room (Nat.le_of_ble_eq_true rfl)) dX3_carries_24 ⟨by first | exact Nat.le_of_ble_eq_true rfl | omega | (show _ ≤ _; omega) | (dsimp only [headSpec]; omega), by first | exact Nat.le_of_ble_eq_true rfl | omega | (show _ ≤ _; omega) | (dsimp only [headSpec]; omega)⟩) hS (fun z_5 locs_2 hz_4 hS_3 => ?_)
    subst z_5
    refine kx_if_ne (x := ref_w S fi) (tgt := 34) hx hb dX3_carries_27 (by decide) (by have := ref_rng_w S fi; omega) (by have := ref_rng_w S fi; omega) (fun c27 => ?_) (fun c27 => ?_)
    · -- taken at 27
      refine kx_iconst hx hb dX3_carries_34 ?_
      refine lv_istore_n (lv' := [(2, .int (kI (0))), (1, .int (kI (0))), (0, .ref a)]) hx hb dX3_carries_35 rfl hl (by decide) rfl (fun ls hl => ?_)
      refine lv_iload_n hx hb dX3_carries_36 rfl (lv_at hl 0 rfl) ?_
      refine kx_if_eq (x := 0) (tgt := 59) hx hb dX3_carries_37 (by decide) (by omega) (by omega) (fun c_37_6 => ?_) (fun c_37_6 => ?_)
      · -- taken at 37
        refine kx_iconst hx hb dX3_carries_59 ?_
        refine lv_istore_n (lv' := [(1, .int (kI (0))), (2, .int (kI (0))), (0, .ref a)]) hx hb dX3_carries_60 rfl hl (by decide) rfl (fun ls hl => ?_)
        refine lv_iload_n hx hb dX3_carries_61 rfl (lv_at hl 1 rfl) ?_
        exact kx_zret (z := false) hx hb hr hlk (⟨g, by rw [ex_one, if_neg (show ¬ ((119 : Int) = 115) by decide), if_neg (show ¬ ((119 : Int) = 110) by decide), if_pos rfl]; first | (rw [if_pos (by first | exact c27 | omega)]; done) | (rw [if_neg (by first | exact c27 | omega)]; done), hA_ra, by rw [ex_one, if_neg (show ¬ ((119 : Int) = 115) by decide), if_neg (show ¬ ((119 : Int) = 110) by decide), if_pos rfl]; first | (rw [if_pos (by first | exact c27 | omega)]; exact hM9) | (rw [if_neg (by first | exact c27 | omega)]; exact hM)⟩) hS_3 dX3_carries_62
      · -- not taken at 37
        exfalso; omega
    · -- not taken at 27
      refine kx_iconst hx hb dX3_carries_30 ?_
      refine lv_goto (tgt := 35) hx hb dX3_carries_31 (by decide) ?_
      refine lv_istore_n (lv' := [(2, .int (kI (1))), (1, .int (kI (0))), (0, .ref a)]) hx hb dX3_carries_35 rfl hl (by decide) rfl (fun ls hl => ?_)
      refine lv_iload_n hx hb dX3_carries_36 rfl (lv_at hl 0 rfl) ?_
      refine kx_if_eq (x := 1) (tgt := 59) hx hb dX3_carries_37 (by decide) (by omega) (by omega) (fun c_37_7 => ?_) (fun c_37_7 => ?_)
      · -- taken at 37
        exfalso; omega
      · -- not taken at 37
        have hz0 := ref_w_0 (by first | exact c27 | omega)
        refine lv_aload_n hx hb dX3_carries_40 rfl (lv_at hl 2 rfl) ?_
        refine lv_aload_n hx hb dX3_carries_41 rfl (lv_at hl 2 rfl) ?_
        refine kx_get (v := .int (kI (119))) (C := RX3) (T := TX3) (N := 13) hx hb hts in_X3 hown hK hO_a rfl 10 (by decide) q2248 (fun _ h9 => h9) rfl dX3_carries_42 ?_
        refine lv_aload_n hx hb dX3_carries_45 rfl (lv_at hl 2 rfl) ?_
        refine kx_get (v := .int (kI (fi))) (C := RX3) (T := TX3) (N := 13) hx hb hts in_X3 hown hK hO_a rfl 11 (by decide) q2249 (fun _ h9 => h9) rfl dX3_carries_46 ?_
        refine kx_eqi (((fi.toNat : Nat) : Int)) (by omega) ?_
        refine lv_aload_n hx hb dX3_carries_49 rfl (lv_at hl 2 rfl) ?_
        refine kx_get (v := .int (kI (se))) (C := RX3) (T := TX3) (N := 13) hx hb hts in_X3 hown hK hO_a rfl 12 (by decide) q2250 (fun _ h9 => h9) rfl dX3_carries_50 ?_
        refine kx_ci (va_runV (As := [.int (kI (119)), .int (kI ((fi.toNat : Nat) : Int)), .int (kI (se))]) (rest := []) ⟨hx, hb, hml, hown, hts⟩ (m_do_w l D s.heap a ([.ref ra, .ref sa, .int (kI ((sn : Nat) : Int)), .ref ka, .int (kI (kb (ik))), .ref ta, .int (kI ((t.length : Nat) : Int)), .int (kI (th)), .int (kI (sp)), .int (kI (kb (iw))), .int (kI (119)), .int (kI (fi)), .int (kI (se))]) ra g S gap fi.toNat se hO_a rfl hA_ra (by first | assumption | omega) (by first | assumption | omega) (by first | assumption | omega) (by first | assumption | omega) (by first | assumption | omega)) (cwV 3 hts (lw_V q2387 q2389 qs57 q89 q2390) rfl rfl rfl (by decide +kernel) ⟨Nat.le_of_ble_eq_true rfl, Nat.le_of_ble_eq_true rfl⟩) (kx_pv hK hS_3 hB (kx_rc hK hO_a (C := RX3) (T := TX3) (N := 13) rfl)) rfl rfl hl.1 rfl (lv_room (Nat.le_of_ble_eq_true rfl)) dX3_carries_53 ⟨by first | exact Nat.le_of_ble_eq_true rfl | omega | (show _ ≤ _; omega) | (dsimp only [headSpec]; omega), by first | exact Nat.le_of_ble_eq_true rfl | omega | (show _ ≤ _; omega) | (dsimp only [headSpec]; omega)⟩) hS_3 (fun q _ h => by (try dsimp only at h); (try dsimp only); (try simp only [kNW] at h); (try simp only [kNW]); omega) (fun q h => by (try dsimp only at h); (try dsimp only); (try simp only [kNW] at h); (try simp only [kNW]); omega) (fun z_13 H_11 locs_8 hz_10 hF_12 hS_9 => ?_)
        have hzf_14 := hF_12.1
        refine W.widen (k := 0) (n := 0) (Nat.le_of_ble_eq_true rfl) (Nat.le_of_ble_eq_true rfl) ?_
        obtain ⟨g2_15, hv_16, ho_17, hM9⟩ := hz_10
        subst z_13
        refine lv_goto (tgt := 60) hx hb dX3_carries_56 (by decide) ?_
        refine lv_istore_n (lv' := [(1, .int (kI (((S.length : Int) - 1)))), (2, .int (kI (1))), (0, .ref a)]) hx hb dX3_carries_60 rfl hl (by decide) rfl (fun ls hl => ?_)
        refine lv_iload_n hx hb dX3_carries_61 rfl (lv_at hl 1 rfl) ?_
        exact kx_zret (z := true) hx hb hr hlk (⟨g2_15, by rw [ex_one, if_neg (show ¬ ((119 : Int) = 115) by decide), if_neg (show ¬ ((119 : Int) = 110) by decide), if_pos rfl]; first | (rw [if_pos (by first | exact c27 | omega)]; done) | (rw [if_neg (by first | exact c27 | omega)]; done), ho_17, by rw [ex_one, if_neg (show ¬ ((119 : Int) = 115) by decide), if_neg (show ¬ ((119 : Int) = 110) by decide), if_pos rfl]; first | (rw [if_pos (by first | exact c27 | omega)]; exact hM9) | (rw [if_neg (by first | exact c27 | omega)]; exact hM)⟩) hS_9 dX3_carries_62

set_option maxHeartbeats 4000000 in
set_option maxRecDepth 100000 in
theorem m_carries_l (l : Launch) (D : kG) (H : Heap) (a : Nat) (ra : Nat) (sa : Nat) (ka : Nat) (ta : Nat) (sn : Nat) (ik : Bool) (th : Int) (sp : Int) (iw : Bool) (t : List Int) (gt : Nat → Int) (g : Nat → Int) (S : Ls) (gap : Int) (fi : Int) (se : Int) (hO_a : kO D H a 2 [.ref ra, .ref sa, .int (kI ((sn : Nat) : Int)), .ref ka, .int (kI (kb (ik))), .ref ta, .int (kI ((t.length : Nat) : Int)), .int (kI (th)), .int (kI (sp)), .int (kI (kb (iw))), .int (kI (108)), .int (kI (fi)), .int (kI (se))]) (hA_ra : kAi D H ra 514 g) (hA_ta : kAi D H ta 60 gt) (hM : MRow g S gap) (hok : LsOK S gap) (hT : MTx gt t) (ht60 : t.length ≤ 60) (ne_a_ra : a ≠ ra) (ne_ra_ta : ra ≠ ta) (bs_ra : kBase D ≤ ra) (hr_fi : -2147483648 ≤ fi ∧ fi ≤ 2147483647) (hr_se : -2147483648 ≤ se ∧ se ≤ 2147483647) : Met l yX3_carries (ws_ yX3_carries cX3_carries 4 (some .boolean)) ({ frames := 11, cells := 0, slots := 0, locals := 254 } : Room) (kPre D H [.ref a]) (kQb (fun (r : Bool) H' => ∃ (g2 : Nat → Int), (r = (ex_one t 108 fi se S gap).1) ∧ (kAi D H' ra 514 g2) ∧ (MRow g2 (ex_one t 108 fi se S gap).2.1 (ex_one t 108 fi se S gap).2.2)) (fun q : Nat => q = ra)) (0) (0) ((fun q : Nat => q = ra)) := by
  refine Met.ofW (cc := cX3_carries) (maxL := 4) (ret := (some .boolean)) (by decide) rfl ?_
  intro p e s m args below meth c s₁ B hml hv
  obtain ⟨rfl, hH, hK⟩ := hv
  subst hH
  have hx := B.exec
  have hb := B.bytes
  have hr := B.returns
  have hts := atoms_spec (ws := ws_ yX3_carries cX3_carries 4 (some .boolean)) B.pre
  have hts : ∀ w ∈ lw_all, w.before _ s = true := fun w h => hts w (List.mem_cons_of_mem _ h)
  have hown : s.vm.findClass RX3 = some m.cls := findClass_of_methodNamed B.named
  have hlk := B.notSynchronized
  have hS : va_S (fun q : Nat => q = ra) s.heap s.heap [] := va_S.rf
  have hB : ∀ q, (fun q : Nat => q = ra) q → kBase D ≤ q := fun q h => by (try dsimp only at h); (try simp only [kNW] at h); have hks := hK.size; omega
  have hl := lv_entry ([.ref a]) (n := 4) (Nat.le_of_ble_eq_true rfl)
  rw [lg_entry_eq]
  generalize (lg_sl ([.ref a]) ++ List.replicate (4 - (lg_sl ([.ref a])).length) Slot.unset).toArray = ls at hl ⊢
  have hl : lv_has ls 4 [(0, .ref a)] := hl
  refine kx_iconst hx hb dX3_carries_0 ?_
  refine lv_istore_n (lv' := [(1, .int (kI (0))), (0, .ref a)]) hx hb dX3_carries_1 rfl hl (by decide) rfl (fun ls hl => ?_)
  refine lv_aload_n hx hb dX3_carries_2 rfl (lv_at hl 1 rfl) ?_
  refine kx_get (v := .int (kI (108))) (C := RX3) (T := TX3) (N := 13) hx hb hts in_X3 hown hK hO_a rfl 10 (by decide) q2248 (fun _ h9 => h9) rfl dX3_carries_3 ?_
  refine kx_bipush hx hb (by decide) dX3_carries_6 ?_
  refine kx_icmp_eq (x := 108) (y := 115) (tgt := 63) hx hb dX3_carries_8 (by decide) (by omega) (by omega) (by omega) (by omega) (fun c_8_1 => ?_) (fun c_8_1 => ?_)
  · -- taken at 8
    exfalso; omega
  · -- not taken at 8
    refine lv_aload_n hx hb dX3_carries_11 rfl (lv_at hl 1 rfl) ?_
    refine lv_aload_n hx hb dX3_carries_12 rfl (lv_at hl 1 rfl) ?_
    refine kx_get (v := .int (kI (108))) (C := RX3) (T := TX3) (N := 13) hx hb hts in_X3 hown hK hO_a rfl 10 (by decide) q2248 (fun _ h9 => h9) rfl dX3_carries_13 ?_
    refine lv_aload_n hx hb dX3_carries_16 rfl (lv_at hl 1 rfl) ?_
    refine kx_get (v := .int (kI (fi))) (C := RX3) (T := TX3) (N := 13) hx hb hts in_X3 hown hK hO_a rfl 11 (by decide) q2249 (fun _ h9 => h9) rfl dX3_carries_17 ?_
    refine lv_aload_n hx hb dX3_carries_20 rfl (lv_at hl 1 rfl) ?_
    refine kx_get (v := .int (kI (se))) (C := RX3) (T := TX3) (N := 13) hx hb hts in_X3 hown hK hO_a rfl 12 (by decide) q2250 (fun _ h9 => h9) rfl dX3_carries_21 ?_
    refine kx_ci0 (va_runV (As := [.int (kI (108)), .int (kI (fi)), .int (kI (se))]) (rest := []) ⟨hx, hb, hml, hown, hts⟩ (m_ref_l l D s.heap a ([.ref ra, .ref sa, .int (kI ((sn : Nat) : Int)), .ref ka, .int (kI (kb (ik))), .ref ta, .int (kI ((t.length : Nat) : Int)), .int (kI (th)), .int (kI (sp)), .int (kI (kb (iw))), .int (kI (108)), .int (kI (fi)), .int (kI (se))]) ra g S gap fi se hO_a rfl hA_ra (by first | assumption | omega) (by first | assumption | omega) (by first | assumption | omega) (by first | assumption | omega)) (cwV 3 hts (lw_V q2290 q2292 qs38 q89 q2293) rfl rfl rfl (by decide +kernel) ⟨Nat.le_of_ble_eq_true rfl, Nat.le_of_ble_eq_true rfl⟩) (kx_pv hK hS hB (kx_rc hK hO_a (C := RX3) (T := TX3) (N := 13) rfl)) rfl rfl hl.1 rfl (lv_room (Nat.le_of_ble_eq_true rfl)) dX3_carries_24 ⟨by first | exact Nat.le_of_ble_eq_true rfl | omega | (show _ ≤ _; omega) | (dsimp only [headSpec]; omega), by first | exact Nat.le_of_ble_eq_true rfl | omega | (show _ ≤ _; omega) | (dsimp only [headSpec]; omega)⟩) hS (fun z_5 locs_2 hz_4 hS_3 => ?_)
    subst z_5
    refine kx_if_ne (x := ref_l S gap fi se) (tgt := 34) hx hb dX3_carries_27 (by decide) (by have := ref_rng_l S gap fi se; omega) (by have := ref_rng_l S gap fi se; omega) (fun c27 => ?_) (fun c27 => ?_)
    · -- taken at 27
      refine kx_iconst hx hb dX3_carries_34 ?_
      refine lv_istore_n (lv' := [(2, .int (kI (0))), (1, .int (kI (0))), (0, .ref a)]) hx hb dX3_carries_35 rfl hl (by decide) rfl (fun ls hl => ?_)
      refine lv_iload_n hx hb dX3_carries_36 rfl (lv_at hl 0 rfl) ?_
      refine kx_if_eq (x := 0) (tgt := 59) hx hb dX3_carries_37 (by decide) (by omega) (by omega) (fun c_37_6 => ?_) (fun c_37_6 => ?_)
      · -- taken at 37
        refine kx_iconst hx hb dX3_carries_59 ?_
        refine lv_istore_n (lv' := [(1, .int (kI (0))), (2, .int (kI (0))), (0, .ref a)]) hx hb dX3_carries_60 rfl hl (by decide) rfl (fun ls hl => ?_)
        refine lv_iload_n hx hb dX3_carries_61 rfl (lv_at hl 1 rfl) ?_
        exact kx_zret (z := false) hx hb hr hlk (⟨g, by rw [ex_one, if_neg (show ¬ ((108 : Int) = 115) by decide), if_neg (show ¬ ((108 : Int) = 110) by decide), if_neg (show ¬ ((108 : Int) = 119) by decide), if_pos rfl]; first | (rw [if_pos (by first | exact c27 | omega)]; done) | (rw [if_neg (by first | exact c27 | omega)]; done), hA_ra, by rw [ex_one, if_neg (show ¬ ((108 : Int) = 115) by decide), if_neg (show ¬ ((108 : Int) = 110) by decide), if_neg (show ¬ ((108 : Int) = 119) by decide), if_pos rfl]; first | (rw [if_pos (by first | exact c27 | omega)]; rw [hse] at hM9; exact hM9) | (rw [if_neg (by first | exact c27 | omega)]; exact hM)⟩) hS_3 dX3_carries_62
      · -- not taken at 37
        exfalso; omega
    · -- not taken at 27
      refine kx_iconst hx hb dX3_carries_30 ?_
      refine lv_goto (tgt := 35) hx hb dX3_carries_31 (by decide) ?_
      refine lv_istore_n (lv' := [(2, .int (kI (1))), (1, .int (kI (0))), (0, .ref a)]) hx hb dX3_carries_35 rfl hl (by decide) rfl (fun ls hl => ?_)
      refine lv_iload_n hx hb dX3_carries_36 rfl (lv_at hl 0 rfl) ?_
      refine kx_if_eq (x := 1) (tgt := 59) hx hb dX3_carries_37 (by decide) (by omega) (by omega) (fun c_37_7 => ?_) (fun c_37_7 => ?_)
      · -- taken at 37
        exfalso; omega
      · -- not taken at 37
        have hz0 := ref_l_0 (by first | exact c27 | omega)
        have hse : ((se.toNat : Nat) : Int) = se := by omega
        refine lv_aload_n hx hb dX3_carries_40 rfl (lv_at hl 2 rfl) ?_
        refine lv_aload_n hx hb dX3_carries_41 rfl (lv_at hl 2 rfl) ?_
        refine kx_get (v := .int (kI (108))) (C := RX3) (T := TX3) (N := 13) hx hb hts in_X3 hown hK hO_a rfl 10 (by decide) q2248 (fun _ h9 => h9) rfl dX3_carries_42 ?_
        refine lv_aload_n hx hb dX3_carries_45 rfl (lv_at hl 2 rfl) ?_
        refine kx_get (v := .int (kI (fi))) (C := RX3) (T := TX3) (N := 13) hx hb hts in_X3 hown hK hO_a rfl 11 (by decide) q2249 (fun _ h9 => h9) rfl dX3_carries_46 ?_
        refine kx_eqi (((fi.toNat : Nat) : Int)) (by omega) ?_
        refine lv_aload_n hx hb dX3_carries_49 rfl (lv_at hl 2 rfl) ?_
        refine kx_get (v := .int (kI (se))) (C := RX3) (T := TX3) (N := 13) hx hb hts in_X3 hown hK hO_a rfl 12 (by decide) q2250 (fun _ h9 => h9) rfl dX3_carries_50 ?_
        refine kx_eqi (((se.toNat : Nat) : Int)) (by omega) ?_
        refine kx_ci (va_runV (As := [.int (kI (108)), .int (kI ((fi.toNat : Nat) : Int)), .int (kI ((se.toNat : Nat) : Int))]) (rest := []) ⟨hx, hb, hml, hown, hts⟩ (m_do_l l D s.heap a ([.ref ra, .ref sa, .int (kI ((sn : Nat) : Int)), .ref ka, .int (kI (kb (ik))), .ref ta, .int (kI ((t.length : Nat) : Int)), .int (kI (th)), .int (kI (sp)), .int (kI (kb (iw))), .int (kI (108)), .int (kI (fi)), .int (kI (se))]) ra g S gap fi.toNat se.toNat hO_a rfl hA_ra (by first | assumption | omega) (by first | assumption | omega) (by first | assumption | omega) (by first | assumption | omega) (by first | assumption | omega) (by first | assumption | omega)) (cwV 3 hts (lw_V q2387 q2389 qs57 q89 q2390) rfl rfl rfl (by decide +kernel) ⟨Nat.le_of_ble_eq_true rfl, Nat.le_of_ble_eq_true rfl⟩) (kx_pv hK hS_3 hB (kx_rc hK hO_a (C := RX3) (T := TX3) (N := 13) rfl)) rfl rfl hl.1 rfl (lv_room (Nat.le_of_ble_eq_true rfl)) dX3_carries_53 ⟨by first | exact Nat.le_of_ble_eq_true rfl | omega | (show _ ≤ _; omega) | (dsimp only [headSpec]; omega), by first | exact Nat.le_of_ble_eq_true rfl | omega | (show _ ≤ _; omega) | (dsimp only [headSpec]; omega)⟩) hS_3 (fun q _ h => by (try dsimp only at h); (try dsimp only); (try simp only [kNW] at h); (try simp only [kNW]); omega) (fun q h => by (try dsimp only at h); (try dsimp only); (try simp only [kNW] at h); (try simp only [kNW]); omega) (fun z_13 H_11 locs_8 hz_10 hF_12 hS_9 => ?_)
        have hzf_14 := hF_12.1
        refine W.widen (k := 0) (n := 0) (Nat.le_of_ble_eq_true rfl) (Nat.le_of_ble_eq_true rfl) ?_
        obtain ⟨g2_15, hv_16, ho_17, hM9⟩ := hz_10
        subst z_13
        refine lv_goto (tgt := 60) hx hb dX3_carries_56 (by decide) ?_
        refine lv_istore_n (lv' := [(1, .int (kI (ln_bends (st_ln S fi.toNat) se.toNat))), (2, .int (kI (1))), (0, .ref a)]) hx hb dX3_carries_60 rfl hl (by decide) rfl (fun ls hl => ?_)
        refine lv_iload_n hx hb dX3_carries_61 rfl (lv_at hl 1 rfl) ?_
        exact kx_zret (z := true) hx hb hr hlk (⟨g2_15, by rw [ex_one, if_neg (show ¬ ((108 : Int) = 115) by decide), if_neg (show ¬ ((108 : Int) = 110) by decide), if_neg (show ¬ ((108 : Int) = 119) by decide), if_pos rfl]; first | (rw [if_pos (by first | exact c27 | omega)]; done) | (rw [if_neg (by first | exact c27 | omega)]; done), ho_17, by rw [ex_one, if_neg (show ¬ ((108 : Int) = 115) by decide), if_neg (show ¬ ((108 : Int) = 110) by decide), if_neg (show ¬ ((108 : Int) = 119) by decide), if_pos rfl]; first | (rw [if_pos (by first | exact c27 | omega)]; rw [hse] at hM9; exact hM9) | (rw [if_neg (by first | exact c27 | omega)]; exact hM)⟩) hS_9 dX3_carries_62

set_option maxHeartbeats 4000000 in
set_option maxRecDepth 100000 in
theorem m_carries_u (l : Launch) (D : kG) (H : Heap) (a : Nat) (ra : Nat) (sa : Nat) (ka : Nat) (ta : Nat) (sn : Nat) (ik : Bool) (th : Int) (sp : Int) (iw : Bool) (t : List Int) (gt : Nat → Int) (g : Nat → Int) (S : Ls) (gap : Int) (fi : Int) (se : Int) (hO_a : kO D H a 2 [.ref ra, .ref sa, .int (kI ((sn : Nat) : Int)), .ref ka, .int (kI (kb (ik))), .ref ta, .int (kI ((t.length : Nat) : Int)), .int (kI (th)), .int (kI (sp)), .int (kI (kb (iw))), .int (kI (117)), .int (kI (fi)), .int (kI (se))]) (hA_ra : kAi D H ra 514 g) (hA_ta : kAi D H ta 60 gt) (hM : MRow g S gap) (hok : LsOK S gap) (hT : MTx gt t) (ht60 : t.length ≤ 60) (ne_a_ra : a ≠ ra) (ne_ra_ta : ra ≠ ta) (bs_ra : kBase D ≤ ra) (hr_fi : -2147483648 ≤ fi ∧ fi ≤ 2147483647) (hr_se : -2147483648 ≤ se ∧ se ≤ 2147483647) : Met l yX3_carries (ws_ yX3_carries cX3_carries 4 (some .boolean)) ({ frames := 11, cells := 0, slots := 0, locals := 254 } : Room) (kPre D H [.ref a]) (kQb (fun (r : Bool) H' => ∃ (g2 : Nat → Int), (r = (ex_one t 117 fi se S gap).1) ∧ (kAi D H' ra 514 g2) ∧ (MRow g2 (ex_one t 117 fi se S gap).2.1 (ex_one t 117 fi se S gap).2.2)) (fun q : Nat => q = ra)) (0) (0) ((fun q : Nat => q = ra)) := by
  refine Met.ofW (cc := cX3_carries) (maxL := 4) (ret := (some .boolean)) (by decide) rfl ?_
  intro p e s m args below meth c s₁ B hml hv
  obtain ⟨rfl, hH, hK⟩ := hv
  subst hH
  have hx := B.exec
  have hb := B.bytes
  have hr := B.returns
  have hts := atoms_spec (ws := ws_ yX3_carries cX3_carries 4 (some .boolean)) B.pre
  have hts : ∀ w ∈ lw_all, w.before _ s = true := fun w h => hts w (List.mem_cons_of_mem _ h)
  have hown : s.vm.findClass RX3 = some m.cls := findClass_of_methodNamed B.named
  have hlk := B.notSynchronized
  have hS : va_S (fun q : Nat => q = ra) s.heap s.heap [] := va_S.rf
  have hB : ∀ q, (fun q : Nat => q = ra) q → kBase D ≤ q := fun q h => by (try dsimp only at h); (try simp only [kNW] at h); have hks := hK.size; omega
  have hl := lv_entry ([.ref a]) (n := 4) (Nat.le_of_ble_eq_true rfl)
  rw [lg_entry_eq]
  generalize (lg_sl ([.ref a]) ++ List.replicate (4 - (lg_sl ([.ref a])).length) Slot.unset).toArray = ls at hl ⊢
  have hl : lv_has ls 4 [(0, .ref a)] := hl
  refine kx_iconst hx hb dX3_carries_0 ?_
  refine lv_istore_n (lv' := [(1, .int (kI (0))), (0, .ref a)]) hx hb dX3_carries_1 rfl hl (by decide) rfl (fun ls hl => ?_)
  refine lv_aload_n hx hb dX3_carries_2 rfl (lv_at hl 1 rfl) ?_
  refine kx_get (v := .int (kI (117))) (C := RX3) (T := TX3) (N := 13) hx hb hts in_X3 hown hK hO_a rfl 10 (by decide) q2248 (fun _ h9 => h9) rfl dX3_carries_3 ?_
  refine kx_bipush hx hb (by decide) dX3_carries_6 ?_
  refine kx_icmp_eq (x := 117) (y := 115) (tgt := 63) hx hb dX3_carries_8 (by decide) (by omega) (by omega) (by omega) (by omega) (fun c_8_1 => ?_) (fun c_8_1 => ?_)
  · -- taken at 8
    exfalso; omega
  · -- not taken at 8
    refine lv_aload_n hx hb dX3_carries_11 rfl (lv_at hl 1 rfl) ?_
    refine lv_aload_n hx hb dX3_carries_12 rfl (lv_at hl 1 rfl) ?_
    refine kx_get (v := .int (kI (117))) (C := RX3) (T := TX3) (N := 13) hx hb hts in_X3 hown hK hO_a rfl 10 (by decide) q2248 (fun _ h9 => h9) rfl dX3_carries_13 ?_
    refine lv_aload_n hx hb dX3_carries_16 rfl (lv_at hl 1 rfl) ?_
    refine kx_get (v := .int (kI (fi))) (C := RX3) (T := TX3) (N := 13) hx hb hts in_X3 hown hK hO_a rfl 11 (by decide) q2249 (fun _ h9 => h9) rfl dX3_carries_17 ?_
    refine lv_aload_n hx hb dX3_carries_20 rfl (lv_at hl 1 rfl) ?_
    refine kx_get (v := .int (kI (se))) (C := RX3) (T := TX3) (N := 13) hx hb hts in_X3 hown hK hO_a rfl 12 (by decide) q2250 (fun _ h9 => h9) rfl dX3_carries_21 ?_
    refine kx_ci0 (va_runV (As := [.int (kI (117)), .int (kI (fi)), .int (kI (se))]) (rest := []) ⟨hx, hb, hml, hown, hts⟩ (m_ref_u l D s.heap a ([.ref ra, .ref sa, .int (kI ((sn : Nat) : Int)), .ref ka, .int (kI (kb (ik))), .ref ta, .int (kI ((t.length : Nat) : Int)), .int (kI (th)), .int (kI (sp)), .int (kI (kb (iw))), .int (kI (117)), .int (kI (fi)), .int (kI (se))]) ra g S gap fi se hO_a rfl hA_ra (by first | assumption | omega) (by first | assumption | omega) (by first | assumption | omega) (by first | assumption | omega)) (cwV 3 hts (lw_V q2290 q2292 qs38 q89 q2293) rfl rfl rfl (by decide +kernel) ⟨Nat.le_of_ble_eq_true rfl, Nat.le_of_ble_eq_true rfl⟩) (kx_pv hK hS hB (kx_rc hK hO_a (C := RX3) (T := TX3) (N := 13) rfl)) rfl rfl hl.1 rfl (lv_room (Nat.le_of_ble_eq_true rfl)) dX3_carries_24 ⟨by first | exact Nat.le_of_ble_eq_true rfl | omega | (show _ ≤ _; omega) | (dsimp only [headSpec]; omega), by first | exact Nat.le_of_ble_eq_true rfl | omega | (show _ ≤ _; omega) | (dsimp only [headSpec]; omega)⟩) hS (fun z_5 locs_2 hz_4 hS_3 => ?_)
    subst z_5
    refine kx_if_ne (x := ref_u S fi) (tgt := 34) hx hb dX3_carries_27 (by decide) (by have := ref_rng_u S fi; omega) (by have := ref_rng_u S fi; omega) (fun c27 => ?_) (fun c27 => ?_)
    · -- taken at 27
      refine kx_iconst hx hb dX3_carries_34 ?_
      refine lv_istore_n (lv' := [(2, .int (kI (0))), (1, .int (kI (0))), (0, .ref a)]) hx hb dX3_carries_35 rfl hl (by decide) rfl (fun ls hl => ?_)
      refine lv_iload_n hx hb dX3_carries_36 rfl (lv_at hl 0 rfl) ?_
      refine kx_if_eq (x := 0) (tgt := 59) hx hb dX3_carries_37 (by decide) (by omega) (by omega) (fun c_37_6 => ?_) (fun c_37_6 => ?_)
      · -- taken at 37
        refine kx_iconst hx hb dX3_carries_59 ?_
        refine lv_istore_n (lv' := [(1, .int (kI (0))), (2, .int (kI (0))), (0, .ref a)]) hx hb dX3_carries_60 rfl hl (by decide) rfl (fun ls hl => ?_)
        refine lv_iload_n hx hb dX3_carries_61 rfl (lv_at hl 1 rfl) ?_
        exact kx_zret (z := false) hx hb hr hlk (⟨g, by rw [ex_one, if_neg (show ¬ ((117 : Int) = 115) by decide), if_neg (show ¬ ((117 : Int) = 110) by decide), if_neg (show ¬ ((117 : Int) = 119) by decide), if_neg (show ¬ ((117 : Int) = 108) by decide), if_pos rfl]; first | (rw [if_pos (by first | exact c27 | omega)]; done) | (rw [if_neg (by first | exact c27 | omega)]; done), hA_ra, by rw [ex_one, if_neg (show ¬ ((117 : Int) = 115) by decide), if_neg (show ¬ ((117 : Int) = 110) by decide), if_neg (show ¬ ((117 : Int) = 119) by decide), if_neg (show ¬ ((117 : Int) = 108) by decide), if_pos rfl]; first | (rw [if_pos (by first | exact c27 | omega)]; exact hM9) | (rw [if_neg (by first | exact c27 | omega)]; exact hM)⟩) hS_3 dX3_carries_62
      · -- not taken at 37
        exfalso; omega
    · -- not taken at 27
      refine kx_iconst hx hb dX3_carries_30 ?_
      refine lv_goto (tgt := 35) hx hb dX3_carries_31 (by decide) ?_
      refine lv_istore_n (lv' := [(2, .int (kI (1))), (1, .int (kI (0))), (0, .ref a)]) hx hb dX3_carries_35 rfl hl (by decide) rfl (fun ls hl => ?_)
      refine lv_iload_n hx hb dX3_carries_36 rfl (lv_at hl 0 rfl) ?_
      refine kx_if_eq (x := 1) (tgt := 59) hx hb dX3_carries_37 (by decide) (by omega) (by omega) (fun c_37_7 => ?_) (fun c_37_7 => ?_)
      · -- taken at 37
        exfalso; omega
      · -- not taken at 37
        have hz0 := ref_u_0 (by first | exact c27 | omega)
        refine lv_aload_n hx hb dX3_carries_40 rfl (lv_at hl 2 rfl) ?_
        refine lv_aload_n hx hb dX3_carries_41 rfl (lv_at hl 2 rfl) ?_
        refine kx_get (v := .int (kI (117))) (C := RX3) (T := TX3) (N := 13) hx hb hts in_X3 hown hK hO_a rfl 10 (by decide) q2248 (fun _ h9 => h9) rfl dX3_carries_42 ?_
        refine lv_aload_n hx hb dX3_carries_45 rfl (lv_at hl 2 rfl) ?_
        refine kx_get (v := .int (kI (fi))) (C := RX3) (T := TX3) (N := 13) hx hb hts in_X3 hown hK hO_a rfl 11 (by decide) q2249 (fun _ h9 => h9) rfl dX3_carries_46 ?_
        refine kx_eqi (((fi.toNat : Nat) : Int)) (by omega) ?_
        refine lv_aload_n hx hb dX3_carries_49 rfl (lv_at hl 2 rfl) ?_
        refine kx_get (v := .int (kI (se))) (C := RX3) (T := TX3) (N := 13) hx hb hts in_X3 hown hK hO_a rfl 12 (by decide) q2250 (fun _ h9 => h9) rfl dX3_carries_50 ?_
        refine kx_ci (va_runV (As := [.int (kI (117)), .int (kI ((fi.toNat : Nat) : Int)), .int (kI (se))]) (rest := []) ⟨hx, hb, hml, hown, hts⟩ (m_do_u l D s.heap a ([.ref ra, .ref sa, .int (kI ((sn : Nat) : Int)), .ref ka, .int (kI (kb (ik))), .ref ta, .int (kI ((t.length : Nat) : Int)), .int (kI (th)), .int (kI (sp)), .int (kI (kb (iw))), .int (kI (117)), .int (kI (fi)), .int (kI (se))]) ra g S gap fi.toNat se hO_a rfl hA_ra (by first | assumption | omega) (by first | assumption | omega) (by first | assumption | omega) (by first | assumption | omega) (by first | assumption | omega)) (cwV 3 hts (lw_V q2387 q2389 qs57 q89 q2390) rfl rfl rfl (by decide +kernel) ⟨Nat.le_of_ble_eq_true rfl, Nat.le_of_ble_eq_true rfl⟩) (kx_pv hK hS_3 hB (kx_rc hK hO_a (C := RX3) (T := TX3) (N := 13) rfl)) rfl rfl hl.1 rfl (lv_room (Nat.le_of_ble_eq_true rfl)) dX3_carries_53 ⟨by first | exact Nat.le_of_ble_eq_true rfl | omega | (show _ ≤ _; omega) | (dsimp only [headSpec]; omega), by first | exact Nat.le_of_ble_eq_true rfl | omega | (show _ ≤ _; omega) | (dsimp only [headSpec]; omega)⟩) hS_3 (fun q _ h => by (try dsimp only at h); (try dsimp only); (try simp only [kNW] at h); (try simp only [kNW]); omega) (fun q h => by (try dsimp only at h); (try dsimp only); (try simp only [kNW] at h); (try simp only [kNW]); omega) (fun z_13 H_11 locs_8 hz_10 hF_12 hS_9 => ?_)
        have hzf_14 := hF_12.1
        refine W.widen (k := 0) (n := 0) (Nat.le_of_ble_eq_true rfl) (Nat.le_of_ble_eq_true rfl) ?_
        obtain ⟨g2_15, hv_16, ho_17, hM9⟩ := hz_10
        subst z_13
        refine lv_goto (tgt := 60) hx hb dX3_carries_56 (by decide) ?_
        refine lv_istore_n (lv' := [(1, .int (kI (ln_lb (st_ln S fi.toNat)))), (2, .int (kI (1))), (0, .ref a)]) hx hb dX3_carries_60 rfl hl (by decide) rfl (fun ls hl => ?_)
        refine lv_iload_n hx hb dX3_carries_61 rfl (lv_at hl 1 rfl) ?_
        exact kx_zret (z := true) hx hb hr hlk (⟨g2_15, by rw [ex_one, if_neg (show ¬ ((117 : Int) = 115) by decide), if_neg (show ¬ ((117 : Int) = 110) by decide), if_neg (show ¬ ((117 : Int) = 119) by decide), if_neg (show ¬ ((117 : Int) = 108) by decide), if_pos rfl]; first | (rw [if_pos (by first | exact c27 | omega)]; done) | (rw [if_neg (by first | exact c27 | omega)]; done), ho_17, by rw [ex_one, if_neg (show ¬ ((117 : Int) = 115) by decide), if_neg (show ¬ ((117 : Int) = 110) by decide), if_neg (show ¬ ((117 : Int) = 119) by decide), if_neg (show ¬ ((117 : Int) = 108) by decide), if_pos rfl]; first | (rw [if_pos (by first | exact c27 | omega)]; exact hM9) | (rw [if_neg (by first | exact c27 | omega)]; exact hM)⟩) hS_9 dX3_carries_62

set_option maxHeartbeats 4000000 in
set_option maxRecDepth 100000 in
theorem m_carries_best (l : Launch) (D : kG) (H : Heap) (a : Nat) (ra : Nat) (sa : Nat) (ka : Nat) (ta : Nat) (sn : Nat) (ik : Bool) (th : Int) (sp : Int) (iw : Bool) (t : List Int) (gt : Nat → Int) (g : Nat → Int) (S : Ls) (gap : Int) (fi : Int) (se : Int) (hO_a : kO D H a 2 [.ref ra, .ref sa, .int (kI ((sn : Nat) : Int)), .ref ka, .int (kI (kb (ik))), .ref ta, .int (kI ((t.length : Nat) : Int)), .int (kI (th)), .int (kI (sp)), .int (kI (kb (iw))), .int (kI (98)), .int (kI (fi)), .int (kI (se))]) (hA_ra : kAi D H ra 514 g) (hA_ta : kAi D H ta 60 gt) (hM : MRow g S gap) (hok : LsOK S gap) (hT : MTx gt t) (ht60 : t.length ≤ 60) (ne_a_ra : a ≠ ra) (ne_ra_ta : ra ≠ ta) (bs_ra : kBase D ≤ ra) (hr_fi : -2147483648 ≤ fi ∧ fi ≤ 2147483647) (hr_se : -2147483648 ≤ se ∧ se ≤ 2147483647) : Met l yX3_carries (ws_ yX3_carries cX3_carries 4 (some .boolean)) ({ frames := 11, cells := 0, slots := 0, locals := 254 } : Room) (kPre D H [.ref a]) (kQb (fun (r : Bool) H' => ∃ (g2 : Nat → Int), (r = (ex_one t 98 fi se S gap).1) ∧ (kAi D H' ra 514 g2) ∧ (MRow g2 (ex_one t 98 fi se S gap).2.1 (ex_one t 98 fi se S gap).2.2)) (fun q : Nat => q = ra)) (0) (0) ((fun q : Nat => q = ra)) := by
  refine Met.ofW (cc := cX3_carries) (maxL := 4) (ret := (some .boolean)) (by decide) rfl ?_
  intro p e s m args below meth c s₁ B hml hv
  obtain ⟨rfl, hH, hK⟩ := hv
  subst hH
  have hx := B.exec
  have hb := B.bytes
  have hr := B.returns
  have hts := atoms_spec (ws := ws_ yX3_carries cX3_carries 4 (some .boolean)) B.pre
  have hts : ∀ w ∈ lw_all, w.before _ s = true := fun w h => hts w (List.mem_cons_of_mem _ h)
  have hown : s.vm.findClass RX3 = some m.cls := findClass_of_methodNamed B.named
  have hlk := B.notSynchronized
  have hS : va_S (fun q : Nat => q = ra) s.heap s.heap [] := va_S.rf
  have hB : ∀ q, (fun q : Nat => q = ra) q → kBase D ≤ q := fun q h => by (try dsimp only at h); (try simp only [kNW] at h); have hks := hK.size; omega
  have hl := lv_entry ([.ref a]) (n := 4) (Nat.le_of_ble_eq_true rfl)
  rw [lg_entry_eq]
  generalize (lg_sl ([.ref a]) ++ List.replicate (4 - (lg_sl ([.ref a])).length) Slot.unset).toArray = ls at hl ⊢
  have hl : lv_has ls 4 [(0, .ref a)] := hl
  refine kx_iconst hx hb dX3_carries_0 ?_
  refine lv_istore_n (lv' := [(1, .int (kI (0))), (0, .ref a)]) hx hb dX3_carries_1 rfl hl (by decide) rfl (fun ls hl => ?_)
  refine lv_aload_n hx hb dX3_carries_2 rfl (lv_at hl 1 rfl) ?_
  refine kx_get (v := .int (kI (98))) (C := RX3) (T := TX3) (N := 13) hx hb hts in_X3 hown hK hO_a rfl 10 (by decide) q2248 (fun _ h9 => h9) rfl dX3_carries_3 ?_
  refine kx_bipush hx hb (by decide) dX3_carries_6 ?_
  refine kx_icmp_eq (x := 98) (y := 115) (tgt := 63) hx hb dX3_carries_8 (by decide) (by omega) (by omega) (by omega) (by omega) (fun c_8_1 => ?_) (fun c_8_1 => ?_)
  · -- taken at 8
    exfalso; omega
  · -- not taken at 8
    refine lv_aload_n hx hb dX3_carries_11 rfl (lv_at hl 1 rfl) ?_
    refine lv_aload_n hx hb dX3_carries_12 rfl (lv_at hl 1 rfl) ?_
    refine kx_get (v := .int (kI (98))) (C := RX3) (T := TX3) (N := 13) hx hb hts in_X3 hown hK hO_a rfl 10 (by decide) q2248 (fun _ h9 => h9) rfl dX3_carries_13 ?_
    refine lv_aload_n hx hb dX3_carries_16 rfl (lv_at hl 1 rfl) ?_
    refine kx_get (v := .int (kI (fi))) (C := RX3) (T := TX3) (N := 13) hx hb hts in_X3 hown hK hO_a rfl 11 (by decide) q2249 (fun _ h9 => h9) rfl dX3_carries_17 ?_
    refine lv_aload_n hx hb dX3_carries_20 rfl (lv_at hl 1 rfl) ?_
    refine kx_get (v := .int (kI (se))) (C := RX3) (T := TX3) (N := 13) hx hb hts in_X3 hown hK hO_a rfl 12 (by decide) q2250 (fun _ h9 => h9) rfl dX3_carries_21 ?_
    refine kx_ci0 (va_runV (As := [.int (kI (98)), .int (kI (fi)), .int (kI (se))]) (rest := []) ⟨hx, hb, hml, hown, hts⟩ (m_ref_best l D s.heap a ([.ref ra, .ref sa, .int (kI ((sn : Nat) : Int)), .ref ka, .int (kI (kb (ik))), .ref ta, .int (kI ((t.length : Nat) : Int)), .int (kI (th)), .int (kI (sp)), .int (kI (kb (iw))), .int (kI (98)), .int (kI (fi)), .int (kI (se))]) ra g S gap fi se hO_a rfl hA_ra (by first | assumption | omega) (by first | assumption | omega) (by first | assumption | omega) (by first | assumption | omega)) (cwV 3 hts (lw_V q2290 q2292 qs38 q89 q2293) rfl rfl rfl (by decide +kernel) ⟨Nat.le_of_ble_eq_true rfl, Nat.le_of_ble_eq_true rfl⟩) (kx_pv hK hS hB (kx_rc hK hO_a (C := RX3) (T := TX3) (N := 13) rfl)) rfl rfl hl.1 rfl (lv_room (Nat.le_of_ble_eq_true rfl)) dX3_carries_24 ⟨by first | exact Nat.le_of_ble_eq_true rfl | omega | (show _ ≤ _; omega) | (dsimp only [headSpec]; omega), by first | exact Nat.le_of_ble_eq_true rfl | omega | (show _ ≤ _; omega) | (dsimp only [headSpec]; omega)⟩) hS (fun z_5 locs_2 hz_4 hS_3 => ?_)
    subst z_5
    refine kx_if_ne (x := ref_best S gap fi) (tgt := 34) hx hb dX3_carries_27 (by decide) (by have := ref_rng_best S gap fi; omega) (by have := ref_rng_best S gap fi; omega) (fun c27 => ?_) (fun c27 => ?_)
    · -- taken at 27
      refine kx_iconst hx hb dX3_carries_34 ?_
      refine lv_istore_n (lv' := [(2, .int (kI (0))), (1, .int (kI (0))), (0, .ref a)]) hx hb dX3_carries_35 rfl hl (by decide) rfl (fun ls hl => ?_)
      refine lv_iload_n hx hb dX3_carries_36 rfl (lv_at hl 0 rfl) ?_
      refine kx_if_eq (x := 0) (tgt := 59) hx hb dX3_carries_37 (by decide) (by omega) (by omega) (fun c_37_6 => ?_) (fun c_37_6 => ?_)
      · -- taken at 37
        refine kx_iconst hx hb dX3_carries_59 ?_
        refine lv_istore_n (lv' := [(1, .int (kI (0))), (2, .int (kI (0))), (0, .ref a)]) hx hb dX3_carries_60 rfl hl (by decide) rfl (fun ls hl => ?_)
        refine lv_iload_n hx hb dX3_carries_61 rfl (lv_at hl 1 rfl) ?_
        exact kx_zret (z := false) hx hb hr hlk (⟨g, by rw [ex_one, if_neg (show ¬ ((98 : Int) = 115) by decide), if_neg (show ¬ ((98 : Int) = 110) by decide), if_neg (show ¬ ((98 : Int) = 119) by decide), if_neg (show ¬ ((98 : Int) = 108) by decide), if_neg (show ¬ ((98 : Int) = 117) by decide), if_pos rfl]; first | (rw [if_pos (by first | exact c27 | omega)]; done) | (rw [if_neg (by first | exact c27 | omega)]; done), hA_ra, by rw [ex_one, if_neg (show ¬ ((98 : Int) = 115) by decide), if_neg (show ¬ ((98 : Int) = 110) by decide), if_neg (show ¬ ((98 : Int) = 119) by decide), if_neg (show ¬ ((98 : Int) = 108) by decide), if_neg (show ¬ ((98 : Int) = 117) by decide), if_pos rfl]; first | (rw [if_pos (by first | exact c27 | omega)]; exact hM9) | (rw [if_neg (by first | exact c27 | omega)]; exact hM)⟩) hS_3 dX3_carries_62
      · -- not taken at 37
        exfalso; omega
    · -- not taken at 27
      refine kx_iconst hx hb dX3_carries_30 ?_
      refine lv_goto (tgt := 35) hx hb dX3_carries_31 (by decide) ?_
      refine lv_istore_n (lv' := [(2, .int (kI (1))), (1, .int (kI (0))), (0, .ref a)]) hx hb dX3_carries_35 rfl hl (by decide) rfl (fun ls hl => ?_)
      refine lv_iload_n hx hb dX3_carries_36 rfl (lv_at hl 0 rfl) ?_
      refine kx_if_eq (x := 1) (tgt := 59) hx hb dX3_carries_37 (by decide) (by omega) (by omega) (fun c_37_7 => ?_) (fun c_37_7 => ?_)
      · -- taken at 37
        exfalso; omega
      · -- not taken at 37
        have hz0 := ref_best_0 (by first | exact c27 | omega)
        refine lv_aload_n hx hb dX3_carries_40 rfl (lv_at hl 2 rfl) ?_
        refine lv_aload_n hx hb dX3_carries_41 rfl (lv_at hl 2 rfl) ?_
        refine kx_get (v := .int (kI (98))) (C := RX3) (T := TX3) (N := 13) hx hb hts in_X3 hown hK hO_a rfl 10 (by decide) q2248 (fun _ h9 => h9) rfl dX3_carries_42 ?_
        refine lv_aload_n hx hb dX3_carries_45 rfl (lv_at hl 2 rfl) ?_
        refine kx_get (v := .int (kI (fi))) (C := RX3) (T := TX3) (N := 13) hx hb hts in_X3 hown hK hO_a rfl 11 (by decide) q2249 (fun _ h9 => h9) rfl dX3_carries_46 ?_
        refine kx_eqi (((fi.toNat : Nat) : Int)) (by omega) ?_
        refine lv_aload_n hx hb dX3_carries_49 rfl (lv_at hl 2 rfl) ?_
        refine kx_get (v := .int (kI (se))) (C := RX3) (T := TX3) (N := 13) hx hb hts in_X3 hown hK hO_a rfl 12 (by decide) q2250 (fun _ h9 => h9) rfl dX3_carries_50 ?_
        refine kx_ci (va_runV (As := [.int (kI (98)), .int (kI ((fi.toNat : Nat) : Int)), .int (kI (se))]) (rest := []) ⟨hx, hb, hml, hown, hts⟩ (m_do_best l D s.heap a ([.ref ra, .ref sa, .int (kI ((sn : Nat) : Int)), .ref ka, .int (kI (kb (ik))), .ref ta, .int (kI ((t.length : Nat) : Int)), .int (kI (th)), .int (kI (sp)), .int (kI (kb (iw))), .int (kI (98)), .int (kI (fi)), .int (kI (se))]) ra g S gap fi.toNat se hO_a rfl hA_ra (by first | assumption | omega) (by first | assumption | omega) (by first | assumption | omega) (by first | assumption | omega) (by first | assumption | omega)) (cwV 3 hts (lw_V q2387 q2389 qs57 q89 q2390) rfl rfl rfl (by decide +kernel) ⟨Nat.le_of_ble_eq_true rfl, Nat.le_of_ble_eq_true rfl⟩) (kx_pv hK hS_3 hB (kx_rc hK hO_a (C := RX3) (T := TX3) (N := 13) rfl)) rfl rfl hl.1 rfl (lv_room (Nat.le_of_ble_eq_true rfl)) dX3_carries_53 ⟨by first | exact Nat.le_of_ble_eq_true rfl | omega | (show _ ≤ _; omega) | (dsimp only [headSpec]; omega), by first | exact Nat.le_of_ble_eq_true rfl | omega | (show _ ≤ _; omega) | (dsimp only [headSpec]; omega)⟩) hS_3 (fun q _ h => by (try dsimp only at h); (try dsimp only); (try simp only [kNW] at h); (try simp only [kNW]); omega) (fun q h => by (try dsimp only at h); (try dsimp only); (try simp only [kNW] at h); (try simp only [kNW]); omega) (fun z_13 H_11 locs_8 hz_10 hF_12 hS_9 => ?_)
        have hzf_14 := hF_12.1
        refine W.widen (k := 0) (n := 0) (Nat.le_of_ble_eq_true rfl) (Nat.le_of_ble_eq_true rfl) ?_
        obtain ⟨g2_15, hv_16, ho_17, hM9⟩ := hz_10
        subst z_13
        refine lv_goto (tgt := 60) hx hb dX3_carries_56 (by decide) ?_
        refine lv_istore_n (lv' := [(1, .int (kI (st_best S gap fi.toNat))), (2, .int (kI (1))), (0, .ref a)]) hx hb dX3_carries_60 rfl hl (by decide) rfl (fun ls hl => ?_)
        refine lv_iload_n hx hb dX3_carries_61 rfl (lv_at hl 1 rfl) ?_
        exact kx_zret (z := true) hx hb hr hlk (⟨g2_15, by rw [ex_one, if_neg (show ¬ ((98 : Int) = 115) by decide), if_neg (show ¬ ((98 : Int) = 110) by decide), if_neg (show ¬ ((98 : Int) = 119) by decide), if_neg (show ¬ ((98 : Int) = 108) by decide), if_neg (show ¬ ((98 : Int) = 117) by decide), if_pos rfl]; first | (rw [if_pos (by first | exact c27 | omega)]; done) | (rw [if_neg (by first | exact c27 | omega)]; done), ho_17, by rw [ex_one, if_neg (show ¬ ((98 : Int) = 115) by decide), if_neg (show ¬ ((98 : Int) = 110) by decide), if_neg (show ¬ ((98 : Int) = 119) by decide), if_neg (show ¬ ((98 : Int) = 108) by decide), if_neg (show ¬ ((98 : Int) = 117) by decide), if_pos rfl]; first | (rw [if_pos (by first | exact c27 | omega)]; exact hM9) | (rw [if_neg (by first | exact c27 | omega)]; exact hM)⟩) hS_9 dX3_carries_62

set_option maxHeartbeats 4000000 in
set_option maxRecDepth 100000 in
theorem m_carries_g (l : Launch) (D : kG) (H : Heap) (a : Nat) (ra : Nat) (sa : Nat) (ka : Nat) (ta : Nat) (sn : Nat) (ik : Bool) (th : Int) (sp : Int) (iw : Bool) (t : List Int) (gt : Nat → Int) (g : Nat → Int) (S : Ls) (gap : Int) (fi : Int) (se : Int) (hO_a : kO D H a 2 [.ref ra, .ref sa, .int (kI ((sn : Nat) : Int)), .ref ka, .int (kI (kb (ik))), .ref ta, .int (kI ((t.length : Nat) : Int)), .int (kI (th)), .int (kI (sp)), .int (kI (kb (iw))), .int (kI (103)), .int (kI (fi)), .int (kI (se))]) (hA_ra : kAi D H ra 514 g) (hA_ta : kAi D H ta 60 gt) (hM : MRow g S gap) (hok : LsOK S gap) (hT : MTx gt t) (ht60 : t.length ≤ 60) (ne_a_ra : a ≠ ra) (ne_ra_ta : ra ≠ ta) (bs_ra : kBase D ≤ ra) (hr_fi : -2147483648 ≤ fi ∧ fi ≤ 2147483647) (hr_se : -2147483648 ≤ se ∧ se ≤ 2147483647) : Met l yX3_carries (ws_ yX3_carries cX3_carries 4 (some .boolean)) ({ frames := 11, cells := 0, slots := 0, locals := 254 } : Room) (kPre D H [.ref a]) (kQb (fun (r : Bool) H' => ∃ (g2 : Nat → Int), (r = (ex_one t 103 fi se S gap).1) ∧ (kAi D H' ra 514 g2) ∧ (MRow g2 (ex_one t 103 fi se S gap).2.1 (ex_one t 103 fi se S gap).2.2)) (fun q : Nat => q = ra)) (0) (0) ((fun q : Nat => q = ra)) := by
  refine Met.ofW (cc := cX3_carries) (maxL := 4) (ret := (some .boolean)) (by decide) rfl ?_
  intro p e s m args below meth c s₁ B hml hv
  obtain ⟨rfl, hH, hK⟩ := hv
  subst hH
  have hx := B.exec
  have hb := B.bytes
  have hr := B.returns
  have hts := atoms_spec (ws := ws_ yX3_carries cX3_carries 4 (some .boolean)) B.pre
  have hts : ∀ w ∈ lw_all, w.before _ s = true := fun w h => hts w (List.mem_cons_of_mem _ h)
  have hown : s.vm.findClass RX3 = some m.cls := findClass_of_methodNamed B.named
  have hlk := B.notSynchronized
  have hS : va_S (fun q : Nat => q = ra) s.heap s.heap [] := va_S.rf
  have hB : ∀ q, (fun q : Nat => q = ra) q → kBase D ≤ q := fun q h => by (try dsimp only at h); (try simp only [kNW] at h); have hks := hK.size; omega
  have hl := lv_entry ([.ref a]) (n := 4) (Nat.le_of_ble_eq_true rfl)
  rw [lg_entry_eq]
  generalize (lg_sl ([.ref a]) ++ List.replicate (4 - (lg_sl ([.ref a])).length) Slot.unset).toArray = ls at hl ⊢
  have hl : lv_has ls 4 [(0, .ref a)] := hl
  refine kx_iconst hx hb dX3_carries_0 ?_
  refine lv_istore_n (lv' := [(1, .int (kI (0))), (0, .ref a)]) hx hb dX3_carries_1 rfl hl (by decide) rfl (fun ls hl => ?_)
  refine lv_aload_n hx hb dX3_carries_2 rfl (lv_at hl 1 rfl) ?_
  refine kx_get (v := .int (kI (103))) (C := RX3) (T := TX3) (N := 13) hx hb hts in_X3 hown hK hO_a rfl 10 (by decide) q2248 (fun _ h9 => h9) rfl dX3_carries_3 ?_
  refine kx_bipush hx hb (by decide) dX3_carries_6 ?_
  refine kx_icmp_eq (x := 103) (y := 115) (tgt := 63) hx hb dX3_carries_8 (by decide) (by omega) (by omega) (by omega) (by omega) (fun c_8_1 => ?_) (fun c_8_1 => ?_)
  · -- taken at 8
    exfalso; omega
  · -- not taken at 8
    refine lv_aload_n hx hb dX3_carries_11 rfl (lv_at hl 1 rfl) ?_
    refine lv_aload_n hx hb dX3_carries_12 rfl (lv_at hl 1 rfl) ?_
    refine kx_get (v := .int (kI (103))) (C := RX3) (T := TX3) (N := 13) hx hb hts in_X3 hown hK hO_a rfl 10 (by decide) q2248 (fun _ h9 => h9) rfl dX3_carries_13 ?_
    refine lv_aload_n hx hb dX3_carries_16 rfl (lv_at hl 1 rfl) ?_
    refine kx_get (v := .int (kI (fi))) (C := RX3) (T := TX3) (N := 13) hx hb hts in_X3 hown hK hO_a rfl 11 (by decide) q2249 (fun _ h9 => h9) rfl dX3_carries_17 ?_
    refine lv_aload_n hx hb dX3_carries_20 rfl (lv_at hl 1 rfl) ?_
    refine kx_get (v := .int (kI (se))) (C := RX3) (T := TX3) (N := 13) hx hb hts in_X3 hown hK hO_a rfl 12 (by decide) q2250 (fun _ h9 => h9) rfl dX3_carries_21 ?_
    refine kx_ci0 (va_runV (As := [.int (kI (103)), .int (kI (fi)), .int (kI (se))]) (rest := []) ⟨hx, hb, hml, hown, hts⟩ (m_ref_g l D s.heap a ([.ref ra, .ref sa, .int (kI ((sn : Nat) : Int)), .ref ka, .int (kI (kb (ik))), .ref ta, .int (kI ((t.length : Nat) : Int)), .int (kI (th)), .int (kI (sp)), .int (kI (kb (iw))), .int (kI (103)), .int (kI (fi)), .int (kI (se))]) ra g S gap fi se hO_a rfl hA_ra (by first | assumption | omega) (by first | assumption | omega) (by first | assumption | omega) (by first | assumption | omega)) (cwV 3 hts (lw_V q2290 q2292 qs38 q89 q2293) rfl rfl rfl (by decide +kernel) ⟨Nat.le_of_ble_eq_true rfl, Nat.le_of_ble_eq_true rfl⟩) (kx_pv hK hS hB (kx_rc hK hO_a (C := RX3) (T := TX3) (N := 13) rfl)) rfl rfl hl.1 rfl (lv_room (Nat.le_of_ble_eq_true rfl)) dX3_carries_24 ⟨by first | exact Nat.le_of_ble_eq_true rfl | omega | (show _ ≤ _; omega) | (dsimp only [headSpec]; omega), by first | exact Nat.le_of_ble_eq_true rfl | omega | (show _ ≤ _; omega) | (dsimp only [headSpec]; omega)⟩) hS (fun z_5 locs_2 hz_4 hS_3 => ?_)
    subst z_5
    refine kx_if_ne (x := ref_g fi) (tgt := 34) hx hb dX3_carries_27 (by decide) (by have := ref_rng_g fi; omega) (by have := ref_rng_g fi; omega) (fun c27 => ?_) (fun c27 => ?_)
    · -- taken at 27
      refine kx_iconst hx hb dX3_carries_34 ?_
      refine lv_istore_n (lv' := [(2, .int (kI (0))), (1, .int (kI (0))), (0, .ref a)]) hx hb dX3_carries_35 rfl hl (by decide) rfl (fun ls hl => ?_)
      refine lv_iload_n hx hb dX3_carries_36 rfl (lv_at hl 0 rfl) ?_
      refine kx_if_eq (x := 0) (tgt := 59) hx hb dX3_carries_37 (by decide) (by omega) (by omega) (fun c_37_6 => ?_) (fun c_37_6 => ?_)
      · -- taken at 37
        refine kx_iconst hx hb dX3_carries_59 ?_
        refine lv_istore_n (lv' := [(1, .int (kI (0))), (2, .int (kI (0))), (0, .ref a)]) hx hb dX3_carries_60 rfl hl (by decide) rfl (fun ls hl => ?_)
        refine lv_iload_n hx hb dX3_carries_61 rfl (lv_at hl 1 rfl) ?_
        exact kx_zret (z := false) hx hb hr hlk (⟨g, by rw [ex_one, if_neg (show ¬ ((103 : Int) = 115) by decide), if_neg (show ¬ ((103 : Int) = 110) by decide), if_neg (show ¬ ((103 : Int) = 119) by decide), if_neg (show ¬ ((103 : Int) = 108) by decide), if_neg (show ¬ ((103 : Int) = 117) by decide), if_neg (show ¬ ((103 : Int) = 98) by decide), if_neg (show ¬ ((103 : Int) = 97) by decide)]; first | (rw [if_pos (by first | exact c27 | omega)]; done) | (rw [if_neg (by first | exact c27 | omega)]; done), hA_ra, by rw [ex_one, if_neg (show ¬ ((103 : Int) = 115) by decide), if_neg (show ¬ ((103 : Int) = 110) by decide), if_neg (show ¬ ((103 : Int) = 119) by decide), if_neg (show ¬ ((103 : Int) = 108) by decide), if_neg (show ¬ ((103 : Int) = 117) by decide), if_neg (show ¬ ((103 : Int) = 98) by decide), if_neg (show ¬ ((103 : Int) = 97) by decide)]; first | (rw [if_pos (by first | exact c27 | omega)]; exact hM9) | (rw [if_neg (by first | exact c27 | omega)]; exact hM)⟩) hS_3 dX3_carries_62
      · -- not taken at 37
        exfalso; omega
    · -- not taken at 27
      refine kx_iconst hx hb dX3_carries_30 ?_
      refine lv_goto (tgt := 35) hx hb dX3_carries_31 (by decide) ?_
      refine lv_istore_n (lv' := [(2, .int (kI (1))), (1, .int (kI (0))), (0, .ref a)]) hx hb dX3_carries_35 rfl hl (by decide) rfl (fun ls hl => ?_)
      refine lv_iload_n hx hb dX3_carries_36 rfl (lv_at hl 0 rfl) ?_
      refine kx_if_eq (x := 1) (tgt := 59) hx hb dX3_carries_37 (by decide) (by omega) (by omega) (fun c_37_7 => ?_) (fun c_37_7 => ?_)
      · -- taken at 37
        exfalso; omega
      · -- not taken at 37
        have hz0 := ref_g_0 (by first | exact c27 | omega)
        refine lv_aload_n hx hb dX3_carries_40 rfl (lv_at hl 2 rfl) ?_
        refine lv_aload_n hx hb dX3_carries_41 rfl (lv_at hl 2 rfl) ?_
        refine kx_get (v := .int (kI (103))) (C := RX3) (T := TX3) (N := 13) hx hb hts in_X3 hown hK hO_a rfl 10 (by decide) q2248 (fun _ h9 => h9) rfl dX3_carries_42 ?_
        refine lv_aload_n hx hb dX3_carries_45 rfl (lv_at hl 2 rfl) ?_
        refine kx_get (v := .int (kI (fi))) (C := RX3) (T := TX3) (N := 13) hx hb hts in_X3 hown hK hO_a rfl 11 (by decide) q2249 (fun _ h9 => h9) rfl dX3_carries_46 ?_
        refine lv_aload_n hx hb dX3_carries_49 rfl (lv_at hl 2 rfl) ?_
        refine kx_get (v := .int (kI (se))) (C := RX3) (T := TX3) (N := 13) hx hb hts in_X3 hown hK hO_a rfl 12 (by decide) q2250 (fun _ h9 => h9) rfl dX3_carries_50 ?_
        refine kx_ci (va_runV (As := [.int (kI (103)), .int (kI (fi)), .int (kI (se))]) (rest := []) ⟨hx, hb, hml, hown, hts⟩ (m_do_g l D s.heap a ([.ref ra, .ref sa, .int (kI ((sn : Nat) : Int)), .ref ka, .int (kI (kb (ik))), .ref ta, .int (kI ((t.length : Nat) : Int)), .int (kI (th)), .int (kI (sp)), .int (kI (kb (iw))), .int (kI (103)), .int (kI (fi)), .int (kI (se))]) ra g S gap fi se hO_a rfl hA_ra (by first | assumption | omega) (by first | assumption | omega) (by first | assumption | omega) (by first | assumption | omega)) (cwV 3 hts (lw_V q2387 q2389 qs57 q89 q2390) rfl rfl rfl (by decide +kernel) ⟨Nat.le_of_ble_eq_true rfl, Nat.le_of_ble_eq_true rfl⟩) (kx_pv hK hS_3 hB (kx_rc hK hO_a (C := RX3) (T := TX3) (N := 13) rfl)) rfl rfl hl.1 rfl (lv_room (Nat.le_of_ble_eq_true rfl)) dX3_carries_53 ⟨by first | exact Nat.le_of_ble_eq_true rfl | omega | (show _ ≤ _; omega) | (dsimp only [headSpec]; omega), by first | exact Nat.le_of_ble_eq_true rfl | omega | (show _ ≤ _; omega) | (dsimp only [headSpec]; omega)⟩) hS_3 (fun q _ h => by (try dsimp only at h); (try dsimp only); (try simp only [kNW] at h); (try simp only [kNW]); omega) (fun q h => by (try dsimp only at h); (try dsimp only); (try simp only [kNW] at h); (try simp only [kNW]); omega) (fun z_13 H_11 locs_8 hz_10 hF_12 hS_9 => ?_)
        have hzf_14 := hF_12.1
        refine W.widen (k := 0) (n := 0) (Nat.le_of_ble_eq_true rfl) (Nat.le_of_ble_eq_true rfl) ?_
        obtain ⟨g2_15, hv_16, ho_17, hM9⟩ := hz_10
        subst z_13
        refine lv_goto (tgt := 60) hx hb dX3_carries_56 (by decide) ?_
        refine lv_istore_n (lv' := [(1, .int (kI (gap))), (2, .int (kI (1))), (0, .ref a)]) hx hb dX3_carries_60 rfl hl (by decide) rfl (fun ls hl => ?_)
        refine lv_iload_n hx hb dX3_carries_61 rfl (lv_at hl 1 rfl) ?_
        exact kx_zret (z := true) hx hb hr hlk (⟨g2_15, by rw [ex_one, if_neg (show ¬ ((103 : Int) = 115) by decide), if_neg (show ¬ ((103 : Int) = 110) by decide), if_neg (show ¬ ((103 : Int) = 119) by decide), if_neg (show ¬ ((103 : Int) = 108) by decide), if_neg (show ¬ ((103 : Int) = 117) by decide), if_neg (show ¬ ((103 : Int) = 98) by decide), if_neg (show ¬ ((103 : Int) = 97) by decide)]; first | (rw [if_pos (by first | exact c27 | omega)]; done) | (rw [if_neg (by first | exact c27 | omega)]; done), ho_17, by rw [ex_one, if_neg (show ¬ ((103 : Int) = 115) by decide), if_neg (show ¬ ((103 : Int) = 110) by decide), if_neg (show ¬ ((103 : Int) = 119) by decide), if_neg (show ¬ ((103 : Int) = 108) by decide), if_neg (show ¬ ((103 : Int) = 117) by decide), if_neg (show ¬ ((103 : Int) = 98) by decide), if_neg (show ¬ ((103 : Int) = 97) by decide)]; first | (rw [if_pos (by first | exact c27 | omega)]; exact hM9) | (rw [if_neg (by first | exact c27 | omega)]; exact hM)⟩) hS_9 dX3_carries_62

set_option maxHeartbeats 4000000 in
set_option maxRecDepth 100000 in
theorem m_carries_a (l : Launch) (D : kG) (H : Heap) (a : Nat) (ra : Nat) (sa : Nat) (ka : Nat) (ta : Nat) (sn : Nat) (ik : Bool) (th : Int) (sp : Int) (iw : Bool) (t : List Int) (gt : Nat → Int) (g : Nat → Int) (S : Ls) (gap : Int) (fi : Int) (se : Int) (hO_a : kO D H a 2 [.ref ra, .ref sa, .int (kI ((sn : Nat) : Int)), .ref ka, .int (kI (kb (ik))), .ref ta, .int (kI ((t.length : Nat) : Int)), .int (kI (th)), .int (kI (sp)), .int (kI (kb (iw))), .int (kI (97)), .int (kI (fi)), .int (kI (se))]) (hA_ra : kAi D H ra 514 g) (hA_ta : kAi D H ta 60 gt) (hM : MRow g S gap) (hok : LsOK S gap) (hT : MTx gt t) (ht60 : t.length ≤ 60) (ne_a_ra : a ≠ ra) (ne_ra_ta : ra ≠ ta) (bs_ra : kBase D ≤ ra) (hr_fi : -2147483648 ≤ fi ∧ fi ≤ 2147483647) (hr_se : -2147483648 ≤ se ∧ se ≤ 2147483647) : Met l yX3_carries (ws_ yX3_carries cX3_carries 4 (some .boolean)) ({ frames := 11, cells := 0, slots := 0, locals := 254 } : Room) (kPre D H [.ref a]) (kQb (fun (r : Bool) H' => ∃ (g2 : Nat → Int), (r = (ex_one t 97 fi se S gap).1) ∧ (kAi D H' ra 514 g2) ∧ (MRow g2 (ex_one t 97 fi se S gap).2.1 (ex_one t 97 fi se S gap).2.2)) (fun q : Nat => q = ra)) (0) (0) ((fun q : Nat => q = ra)) := by
  refine Met.ofW (cc := cX3_carries) (maxL := 4) (ret := (some .boolean)) (by decide) rfl ?_
  intro p e s m args below meth c s₁ B hml hv
  obtain ⟨rfl, hH, hK⟩ := hv
  subst hH
  have hx := B.exec
  have hb := B.bytes
  have hr := B.returns
  have hts := atoms_spec (ws := ws_ yX3_carries cX3_carries 4 (some .boolean)) B.pre
  have hts : ∀ w ∈ lw_all, w.before _ s = true := fun w h => hts w (List.mem_cons_of_mem _ h)
  have hown : s.vm.findClass RX3 = some m.cls := findClass_of_methodNamed B.named
  have hlk := B.notSynchronized
  have hS : va_S (fun q : Nat => q = ra) s.heap s.heap [] := va_S.rf
  have hB : ∀ q, (fun q : Nat => q = ra) q → kBase D ≤ q := fun q h => by (try dsimp only at h); (try simp only [kNW] at h); have hks := hK.size; omega
  have hl := lv_entry ([.ref a]) (n := 4) (Nat.le_of_ble_eq_true rfl)
  rw [lg_entry_eq]
  generalize (lg_sl ([.ref a]) ++ List.replicate (4 - (lg_sl ([.ref a])).length) Slot.unset).toArray = ls at hl ⊢
  have hl : lv_has ls 4 [(0, .ref a)] := hl
  refine kx_iconst hx hb dX3_carries_0 ?_
  refine lv_istore_n (lv' := [(1, .int (kI (0))), (0, .ref a)]) hx hb dX3_carries_1 rfl hl (by decide) rfl (fun ls hl => ?_)
  refine lv_aload_n hx hb dX3_carries_2 rfl (lv_at hl 1 rfl) ?_
  refine kx_get (v := .int (kI (97))) (C := RX3) (T := TX3) (N := 13) hx hb hts in_X3 hown hK hO_a rfl 10 (by decide) q2248 (fun _ h9 => h9) rfl dX3_carries_3 ?_
  refine kx_bipush hx hb (by decide) dX3_carries_6 ?_
  refine kx_icmp_eq (x := 97) (y := 115) (tgt := 63) hx hb dX3_carries_8 (by decide) (by omega) (by omega) (by omega) (by omega) (fun c_8_1 => ?_) (fun c_8_1 => ?_)
  · -- taken at 8
    exfalso; omega
  · -- not taken at 8
    refine lv_aload_n hx hb dX3_carries_11 rfl (lv_at hl 1 rfl) ?_
    refine lv_aload_n hx hb dX3_carries_12 rfl (lv_at hl 1 rfl) ?_
    refine kx_get (v := .int (kI (97))) (C := RX3) (T := TX3) (N := 13) hx hb hts in_X3 hown hK hO_a rfl 10 (by decide) q2248 (fun _ h9 => h9) rfl dX3_carries_13 ?_
    refine lv_aload_n hx hb dX3_carries_16 rfl (lv_at hl 1 rfl) ?_
    refine kx_get (v := .int (kI (fi))) (C := RX3) (T := TX3) (N := 13) hx hb hts in_X3 hown hK hO_a rfl 11 (by decide) q2249 (fun _ h9 => h9) rfl dX3_carries_17 ?_
    refine lv_aload_n hx hb dX3_carries_20 rfl (lv_at hl 1 rfl) ?_
    refine kx_get (v := .int (kI (se))) (C := RX3) (T := TX3) (N := 13) hx hb hts in_X3 hown hK hO_a rfl 12 (by decide) q2250 (fun _ h9 => h9) rfl dX3_carries_21 ?_
    refine kx_ci0 (va_runV (As := [.int (kI (97)), .int (kI (fi)), .int (kI (se))]) (rest := []) ⟨hx, hb, hml, hown, hts⟩ (m_ref_a l D s.heap a ([.ref ra, .ref sa, .int (kI ((sn : Nat) : Int)), .ref ka, .int (kI (kb (ik))), .ref ta, .int (kI ((t.length : Nat) : Int)), .int (kI (th)), .int (kI (sp)), .int (kI (kb (iw))), .int (kI (97)), .int (kI (fi)), .int (kI (se))]) ra g S gap fi se hO_a rfl hA_ra (by first | assumption | omega) (by first | assumption | omega) (by first | assumption | omega) (by first | assumption | omega)) (cwV 3 hts (lw_V q2290 q2292 qs38 q89 q2293) rfl rfl rfl (by decide +kernel) ⟨Nat.le_of_ble_eq_true rfl, Nat.le_of_ble_eq_true rfl⟩) (kx_pv hK hS hB (kx_rc hK hO_a (C := RX3) (T := TX3) (N := 13) rfl)) rfl rfl hl.1 rfl (lv_room (Nat.le_of_ble_eq_true rfl)) dX3_carries_24 ⟨by first | exact Nat.le_of_ble_eq_true rfl | omega | (show _ ≤ _; omega) | (dsimp only [headSpec]; omega), by first | exact Nat.le_of_ble_eq_true rfl | omega | (show _ ≤ _; omega) | (dsimp only [headSpec]; omega)⟩) hS (fun z_5 locs_2 hz_4 hS_3 => ?_)
    subst z_5
    refine kx_if_ne (x := 0) (tgt := 34) hx hb dX3_carries_27 (by decide) (by omega) (by omega) (fun c_27_6 => ?_) (fun c_27_6 => ?_)
    · -- taken at 27
      exfalso; omega
    · -- not taken at 27
      refine kx_iconst hx hb dX3_carries_30 ?_
      refine lv_goto (tgt := 35) hx hb dX3_carries_31 (by decide) ?_
      refine lv_istore_n (lv' := [(2, .int (kI (1))), (1, .int (kI (0))), (0, .ref a)]) hx hb dX3_carries_35 rfl hl (by decide) rfl (fun ls hl => ?_)
      refine lv_iload_n hx hb dX3_carries_36 rfl (lv_at hl 0 rfl) ?_
      refine kx_if_eq (x := 1) (tgt := 59) hx hb dX3_carries_37 (by decide) (by omega) (by omega) (fun c_37_7 => ?_) (fun c_37_7 => ?_)
      · -- taken at 37
        exfalso; omega
      · -- not taken at 37
        refine lv_aload_n hx hb dX3_carries_40 rfl (lv_at hl 2 rfl) ?_
        refine lv_aload_n hx hb dX3_carries_41 rfl (lv_at hl 2 rfl) ?_
        refine kx_get (v := .int (kI (97))) (C := RX3) (T := TX3) (N := 13) hx hb hts in_X3 hown hK hO_a rfl 10 (by decide) q2248 (fun _ h9 => h9) rfl dX3_carries_42 ?_
        refine lv_aload_n hx hb dX3_carries_45 rfl (lv_at hl 2 rfl) ?_
        refine kx_get (v := .int (kI (fi))) (C := RX3) (T := TX3) (N := 13) hx hb hts in_X3 hown hK hO_a rfl 11 (by decide) q2249 (fun _ h9 => h9) rfl dX3_carries_46 ?_
        refine lv_aload_n hx hb dX3_carries_49 rfl (lv_at hl 2 rfl) ?_
        refine kx_get (v := .int (kI (se))) (C := RX3) (T := TX3) (N := 13) hx hb hts in_X3 hown hK hO_a rfl 12 (by decide) q2250 (fun _ h9 => h9) rfl dX3_carries_50 ?_
        refine kx_ci (va_runV (As := [.int (kI (97)), .int (kI (fi)), .int (kI (se))]) (rest := []) ⟨hx, hb, hml, hown, hts⟩ (m_do_a l D s.heap a ([.ref ra, .ref sa, .int (kI ((sn : Nat) : Int)), .ref ka, .int (kI (kb (ik))), .ref ta, .int (kI ((t.length : Nat) : Int)), .int (kI (th)), .int (kI (sp)), .int (kI (kb (iw))), .int (kI (97)), .int (kI (fi)), .int (kI (se))]) ra g S gap fi se hO_a rfl hA_ra (by first | assumption | omega) (by first | assumption | omega) (by first | assumption | omega) (by first | assumption | omega)) (cwV 3 hts (lw_V q2387 q2389 qs57 q89 q2390) rfl rfl rfl (by decide +kernel) ⟨Nat.le_of_ble_eq_true rfl, Nat.le_of_ble_eq_true rfl⟩) (kx_pv hK hS_3 hB (kx_rc hK hO_a (C := RX3) (T := TX3) (N := 13) rfl)) rfl rfl hl.1 rfl (lv_room (Nat.le_of_ble_eq_true rfl)) dX3_carries_53 ⟨by first | exact Nat.le_of_ble_eq_true rfl | omega | (show _ ≤ _; omega) | (dsimp only [headSpec]; omega), by first | exact Nat.le_of_ble_eq_true rfl | omega | (show _ ≤ _; omega) | (dsimp only [headSpec]; omega)⟩) hS_3 (fun q _ h => by (try dsimp only at h); (try dsimp only); (try simp only [kNW] at h); (try simp only [kNW]); omega) (fun q h => by (try dsimp only at h); (try dsimp only); (try simp only [kNW] at h); (try simp only [kNW]); omega) (fun z_13 H_11 locs_8 hz_10 hF_12 hS_9 => ?_)
        have hzf_14 := hF_12.1
        refine W.widen (k := 0) (n := 0) (Nat.le_of_ble_eq_true rfl) (Nat.le_of_ble_eq_true rfl) ?_
        obtain ⟨g2_15, hv_16, ho_17, hM9⟩ := hz_10
        subst z_13
        refine lv_goto (tgt := 60) hx hb dX3_carries_56 (by decide) ?_
        refine lv_istore_n (lv' := [(1, .int (kI (st_lab (st_la S gap)))), (2, .int (kI (1))), (0, .ref a)]) hx hb dX3_carries_60 rfl hl (by decide) rfl (fun ls hl => ?_)
        refine lv_iload_n hx hb dX3_carries_61 rfl (lv_at hl 1 rfl) ?_
        exact kx_zret (z := true) hx hb hr hlk (⟨g2_15, by rw [ex_one, if_neg (show ¬ ((97 : Int) = 115) by decide), if_neg (show ¬ ((97 : Int) = 110) by decide), if_neg (show ¬ ((97 : Int) = 119) by decide), if_neg (show ¬ ((97 : Int) = 108) by decide), if_neg (show ¬ ((97 : Int) = 117) by decide), if_neg (show ¬ ((97 : Int) = 98) by decide), if_pos rfl], ho_17, by rw [ex_one, if_neg (show ¬ ((97 : Int) = 115) by decide), if_neg (show ¬ ((97 : Int) = 110) by decide), if_neg (show ¬ ((97 : Int) = 119) by decide), if_neg (show ¬ ((97 : Int) = 108) by decide), if_neg (show ¬ ((97 : Int) = 117) by decide), if_neg (show ¬ ((97 : Int) = 98) by decide), if_pos rfl]; exact hM9⟩) hS_9 dX3_carries_62

