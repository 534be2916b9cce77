set_option maxHeartbeats 4000000 in
set_option maxRecDepth 100000 in
theorem m_reads_w (l : Launch) (D : kG) (H : Heap) (a : Nat) (ra : Nat) (sa : Nat) (ka : Nat) (ta : Nat) (sn : Nat) (ik : Bool) (th : Int) (spn : Nat) (gt : Nat → Int) (t : List Int) (iw : Bool) (le : Int) (fi : Int) (se : Int) (hO_a : kO D H a 2 [.ref ra, .ref sa, .int (kI ((sn : Nat) : Int)), .ref ka, .int (kI (kb (ik))), .ref ta, .int (kI ((t.length : Nat) : Int)), .int (kI (th)), .int (kI ((spn : Nat) : Int)), .int (kI (kb (iw))), .int (kI (le)), .int (kI (fi)), .int (kI (se))]) (hA_ta : kAi D H ta 60 gt) (hsp : spn ≤ 1000) (hT : MTx gt t) (ht60 : t.length ≤ 60) (ne_a_ta : a ≠ ta) (bs_a : kBase D ≤ a) (hlt9 : tsg t spn = 119) : Met l yX3_reads (ws_ yX3_reads cX3_reads 1 none) ({ frames := 2, cells := 0, slots := 0, locals := 45 } : Room) (kPre D H [.ref a]) (kQv (fun H' => (kO D H' a 2 [.ref ra, .ref sa, .int (kI ((sn : Nat) : Int)), .ref ka, .int (kI (kb (ik))), .ref ta, .int (kI ((t.length : Nat) : Int)), .int (kI (th)), .int (kI (((rdW t spn).2.1 : Nat) : Int)), .int (kI (kb ((rdW t spn).1))), .int (kI (tsg t spn)), .int (kI ((rdW t spn).2.2.1)), .int (kI ((rdW t spn).2.2.2))])) (fun q : Nat => q = a)) (0) (0) ((fun q : Nat => q = a)) := by
  refine Met.ofW (cc := cX3_reads) (maxL := 1) (ret := none) (by decide) rfl ?_
  intro p e s m args below meth c s₁ B hml hv
  obtain ⟨rfl, hH, hK⟩ := hv
  subst hH
  have hx := B.exec
  have hb := B.bytes
  have hr := B.returns
  have hts := atoms_spec (ws := ws_ yX3_reads cX3_reads 1 none) B.pre
  have hts : ∀ w ∈ lw_all, w.before _ s = true := fun w h => hts w (List.mem_cons_of_mem _ h)
  have hown : s.vm.findClass RX3 = some m.cls := findClass_of_methodNamed B.named
  have hlk := B.notSynchronized
  have hS : va_S (fun q : Nat => q = a) s.heap s.heap [] := va_S.rf
  have hB : ∀ q, (fun q : Nat => q = a) q → kBase D ≤ q := fun q h => by (try dsimp only at h); (try simp only [kNW] at h); have hks := hK.size; omega
  have hl := lv_entry ([.ref a]) (n := 1) (Nat.le_of_ble_eq_true rfl)
  rw [lg_entry_eq]
  generalize (lg_sl ([.ref a]) ++ List.replicate (1 - (lg_sl ([.ref a])).length) Slot.unset).toArray = ls at hl ⊢
  have hl : lv_has ls 1 [(0, .ref a)] := hl
  have hlt := hT.lt (i := spn) (by omega)
  refine lv_aload_n hx hb dX3_reads_0 rfl (lv_at hl 0 rfl) ?_
  refine lv_aload_n hx hb dX3_reads_1 rfl (lv_at hl 0 rfl) ?_
  refine kx_ci0 (va_runV (As := []) (rest := [.ref a]) ⟨hx, hb, hml, hown, hts⟩ (m_X3_sign l D s.heap a ra sa ka ta sn ik th iw le fi se spn gt t hO_a hA_ta (by first | assumption | omega) (by first | assumption | omega) (by first | assumption | omega) (by first | assumption | omega) (by first | assumption | omega)) (cwV 0 hts (lw_V q2609 q2611 qs74 q89 q2612) rfl rfl rfl (by decide +kernel) ⟨Nat.le_of_ble_eq_true rfl, Nat.le_of_ble_eq_true rfl⟩) (kx_pv hK hS hB (kx_rc hK hO_a (C := RX3) (T := TX3) (N := 13) rfl)) rfl rfl hl.1 rfl (lv_room (Nat.le_of_ble_eq_true rfl)) dX3_reads_2 ⟨by first | exact Nat.le_of_ble_eq_true rfl | omega | (show _ ≤ _; omega) | (dsimp only [headSpec]; omega), by first | exact Nat.le_of_ble_eq_true rfl | omega | (show _ ≤ _; omega) | (dsimp only [headSpec]; omega)⟩) hS (fun z_4 locs_1 hz_3 hS_2 => ?_)
  subst z_4
  refine kx_eqi (119) (hlt9) ?_
  refine kx_put (v := .int (kI (119))) (C := RX3) (T := TX3) (N := 13) hx hb hts in_X3 hown hK hO_a rfl 10 (by decide) tyX3 tyX3_ok nmX3 hS_2 (by first | rfl | exact Or.inl rfl | exact Or.inr rfl | exact Or.inr (Or.inl rfl) | exact Or.inr (Or.inr rfl) | exact Or.inr (Or.inr (Or.inl rfl)) | exact Or.inr (Or.inr (Or.inr rfl)) | ((try dsimp only); (try simp only [kNW]); omega)) q2248 (fun _ h9 => h9) rfl rfl rfl rfl (Nat.le_of_ble_eq_true rfl) dX3_reads_5 (fun H_7 locs_8 hO_6 hU_5 hS_9 => ?_)
  have hO_6 : kO D H_7 a 2 [.ref ra, .ref sa, .int (kI ((sn : Nat) : Int)), .ref ka, .int (kI (kb (ik))), .ref ta, .int (kI ((t.length : Nat) : Int)), .int (kI (th)), .int (kI ((spn : Nat) : Int)), .int (kI (kb (iw))), .int (kI (119)), .int (kI (fi)), .int (kI (se))] := hO_6
  have hzu_10 := hU_5.1
  refine lv_aload_n hx hb dX3_reads_8 rfl (lv_at hl 0 rfl) ?_
  refine lv_aload_n hx hb dX3_reads_9 rfl (lv_at hl 0 rfl) ?_
  refine kx_get (v := .int (kI (119))) (C := RX3) (T := TX3) (N := 13) hx hb hts in_X3 hown hK hO_6 rfl 10 (by decide) q2248 (fun _ h9 => h9) rfl dX3_reads_10 ?_
  refine kx_bipush hx hb (by decide) dX3_reads_13 ?_
  refine kx_icmp_eq (x := 119) (y := 110) (tgt := 81) hx hb dX3_reads_15 (by decide) (by omega) (by omega) (by omega) (by omega) (fun c_15_11 => ?_) (fun c_15_11 => ?_)
  · -- taken at 15
    exfalso; omega
  · -- not taken at 15
    refine lv_aload_n hx hb dX3_reads_18 rfl (lv_at hl 0 rfl) ?_
    refine kx_get (v := .int (kI (119))) (C := RX3) (T := TX3) (N := 13) hx hb hts in_X3 hown hK hO_6 rfl 10 (by decide) q2248 (fun _ h9 => h9) rfl dX3_reads_19 ?_
    refine kx_bipush hx hb (by decide) dX3_reads_22 ?_
    refine kx_icmp_eq (x := 119) (y := 115) (tgt := 81) hx hb dX3_reads_24 (by decide) (by omega) (by omega) (by omega) (by omega) (fun c_24_12 => ?_) (fun c_24_12 => ?_)
    · -- taken at 24
      exfalso; omega
    · -- not taken at 24
      refine lv_aload_n hx hb dX3_reads_27 rfl (lv_at hl 0 rfl) ?_
      refine kx_get (v := .int (kI (119))) (C := RX3) (T := TX3) (N := 13) hx hb hts in_X3 hown hK hO_6 rfl 10 (by decide) q2248 (fun _ h9 => h9) rfl dX3_reads_28 ?_
      refine kx_bipush hx hb (by decide) dX3_reads_31 ?_
      refine kx_icmp_eq (x := 119) (y := 119) (tgt := 81) hx hb dX3_reads_33 (by decide) (by omega) (by omega) (by omega) (by omega) (fun c_33_13 => ?_) (fun c_33_13 => ?_)
      · -- taken at 33
        refine kx_iconst hx hb dX3_reads_81 ?_
        refine lv_goto (tgt := 86) hx hb dX3_reads_82 (by decide) ?_
        refine kx_put (v := .int (kI (kb (true)))) (C := RX3) (T := TX3) (N := 13) hx hb hts in_X3 hown hK hO_6 rfl 9 (by decide) tyX3 tyX3_ok nmX3 hS_9 (by first | rfl | exact Or.inl rfl | exact Or.inr rfl | exact Or.inr (Or.inl rfl) | exact Or.inr (Or.inr rfl) | exact Or.inr (Or.inr (Or.inl rfl)) | exact Or.inr (Or.inr (Or.inr rfl)) | ((try dsimp only); (try simp only [kNW]); omega)) q2247 (fun _ h9 => h9) rfl rfl (kb_narZ _) (kb_fitZ _) (Nat.le_of_ble_eq_true rfl) dX3_reads_86 (fun H_16 locs_17 hO_15 hU_14 hS_18 => ?_)
        have hO_15 : kO D H_16 a 2 [.ref ra, .ref sa, .int (kI ((sn : Nat) : Int)), .ref ka, .int (kI (kb (ik))), .ref ta, .int (kI ((t.length : Nat) : Int)), .int (kI (th)), .int (kI ((spn : Nat) : Int)), .int (kI (kb (true))), .int (kI (119)), .int (kI (fi)), .int (kI (se))] := hO_15
        have hzu_19 := hU_14.1
        refine lv_aload_n hx hb dX3_reads_89 rfl (lv_at hl 0 rfl) ?_
        refine lv_dup hx hb dX3_reads_90 rfl ?_
        refine kx_get (v := .int (kI ((spn : Nat) : Int))) (C := RX3) (T := TX3) (N := 13) hx hb hts in_X3 hown hK hO_15 rfl 8 (by decide) q2246 (fun _ h9 => h9) rfl dX3_reads_91 ?_
        refine lv_aload_n hx hb dX3_reads_94 rfl (lv_at hl 0 rfl) ?_
        refine kx_get (v := .int (kI (kb (true)))) (C := RX3) (T := TX3) (N := 13) hx hb hts in_X3 hown hK hO_15 rfl 9 (by decide) q2247 (fun _ h9 => h9) rfl dX3_reads_95 ?_
        refine kx_ifz (tgt := 105) hx hb dX3_reads_98 (by decide) (fun c_98_20 => ?_) (fun c_98_20 => ?_)
        · -- taken at 98
          exact absurd c_98_20 (by decide)
        · -- not taken at 98
          refine kx_iconst hx hb dX3_reads_101 ?_
          refine lv_goto (tgt := 106) hx hb dX3_reads_102 (by decide) ?_
          refine kx_iadd hx hb dX3_reads_106 ?_
          refine kx_eqi (((spn + 1 : Nat) : Int)) (by omega) ?_
          refine kx_put (v := .int (kI ((spn + 1 : Nat) : Int))) (C := RX3) (T := TX3) (N := 13) hx hb hts in_X3 hown hK hO_15 rfl 8 (by decide) tyX3 tyX3_ok nmX3 hS_18 (by first | rfl | exact Or.inl rfl | exact Or.inr rfl | exact Or.inr (Or.inl rfl) | exact Or.inr (Or.inr rfl) | exact Or.inr (Or.inr (Or.inl rfl)) | exact Or.inr (Or.inr (Or.inr rfl)) | ((try dsimp only); (try simp only [kNW]); omega)) q2246 (fun _ h9 => h9) rfl rfl rfl rfl (Nat.le_of_ble_eq_true rfl) dX3_reads_107 (fun H_23 locs_24 hO_22 hU_21 hS_25 => ?_)
          have hO_22 : kO D H_23 a 2 [.ref ra, .ref sa, .int (kI ((sn : Nat) : Int)), .ref ka, .int (kI (kb (ik))), .ref ta, .int (kI ((t.length : Nat) : Int)), .int (kI (th)), .int (kI ((spn + 1 : Nat) : Int)), .int (kI (kb (true))), .int (kI (119)), .int (kI (fi)), .int (kI (se))] := hO_22
          have hzu_26 := hU_21.1
          refine lv_aload_n hx hb dX3_reads_110 rfl (lv_at hl 0 rfl) ?_
          refine lv_aload_n hx hb dX3_reads_111 rfl (lv_at hl 0 rfl) ?_
          refine kx_get (v := .int (kI ((spn + 1 : Nat) : Int))) (C := RX3) (T := TX3) (N := 13) hx hb hts in_X3 hown hK hO_22 rfl 8 (by decide) q2246 (fun _ h9 => h9) rfl dX3_reads_112 ?_
          refine kx_put (v := .int (kI ((spn + 1 : Nat) : Int))) (C := RX3) (T := TX3) (N := 13) hx hb hts in_X3 hown hK hO_22 rfl 11 (by decide) tyX3 tyX3_ok nmX3 hS_25 (by first | rfl | exact Or.inl rfl | exact Or.inr rfl | exact Or.inr (Or.inl rfl) | exact Or.inr (Or.inr rfl) | exact Or.inr (Or.inr (Or.inl rfl)) | exact Or.inr (Or.inr (Or.inr rfl)) | ((try dsimp only); (try simp only [kNW]); omega)) q2249 (fun _ h9 => h9) rfl rfl rfl rfl (Nat.le_of_ble_eq_true rfl) dX3_reads_115 (fun H_29 locs_30 hO_28 hU_27 hS_31 => ?_)
          have hO_28 : kO D H_29 a 2 [.ref ra, .ref sa, .int (kI ((sn : Nat) : Int)), .ref ka, .int (kI (kb (ik))), .ref ta, .int (kI ((t.length : Nat) : Int)), .int (kI (th)), .int (kI ((spn + 1 : Nat) : Int)), .int (kI (kb (true))), .int (kI (119)), .int (kI ((spn + 1 : Nat) : Int)), .int (kI (se))] := hO_28
          have hzu_32 := hU_27.1
          refine lv_aload_n hx hb dX3_reads_118 rfl (lv_at hl 0 rfl) ?_
          refine kx_iconst hx hb dX3_reads_119 ?_
          refine kx_put (v := .int (kI (0))) (C := RX3) (T := TX3) (N := 13) hx hb hts in_X3 hown hK hO_28 rfl 12 (by decide) tyX3 tyX3_ok nmX3 hS_31 (by first | rfl | exact Or.inl rfl | exact Or.inr rfl | exact Or.inr (Or.inl rfl) | exact Or.inr (Or.inr rfl) | exact Or.inr (Or.inr (Or.inl rfl)) | exact Or.inr (Or.inr (Or.inr rfl)) | ((try dsimp only); (try simp only [kNW]); omega)) q2250 (fun _ h9 => h9) rfl rfl rfl rfl (Nat.le_of_ble_eq_true rfl) dX3_reads_120 (fun H_35 locs_36 hO_34 hU_33 hS_37 => ?_)
          have hO_34 : kO D H_35 a 2 [.ref ra, .ref sa, .int (kI ((sn : Nat) : Int)), .ref ka, .int (kI (kb (ik))), .ref ta, .int (kI ((t.length : Nat) : Int)), .int (kI (th)), .int (kI ((spn + 1 : Nat) : Int)), .int (kI (kb (true))), .int (kI (119)), .int (kI ((spn + 1 : Nat) : Int)), .int (kI (0))] := hO_34
          have hzu_38 := hU_33.1
          refine lv_aload_n hx hb dX3_reads_123 rfl (lv_at hl 0 rfl) ?_
          refine kx_get (v := .int (kI (119))) (C := RX3) (T := TX3) (N := 13) hx hb hts in_X3 hown hK hO_34 rfl 10 (by decide) q2248 (fun _ h9 => h9) rfl dX3_reads_124 ?_
          refine kx_bipush hx hb (by decide) dX3_reads_127 ?_
          refine kx_icmp_ne (x := 119) (y := 115) (tgt := 193) hx hb dX3_reads_129 (by decide) (by omega) (by omega) (by omega) (by omega) (fun c_129_39 => ?_) (fun c_129_39 => ?_)
          · -- taken at 129
            refine lv_aload_n hx hb dX3_reads_193 rfl (lv_at hl 0 rfl) ?_
            refine kx_get (v := .int (kI (119))) (C := RX3) (T := TX3) (N := 13) hx hb hts in_X3 hown hK hO_34 rfl 10 (by decide) q2248 (fun _ h9 => h9) rfl dX3_reads_194 ?_
            refine kx_bipush hx hb (by decide) dX3_reads_197 ?_
            refine kx_icmp_eq (x := 119) (y := 97) (tgt := 336) hx hb dX3_reads_199 (by decide) (by omega) (by omega) (by omega) (by omega) (fun c_199_40 => ?_) (fun c_199_40 => ?_)
            · -- taken at 199
              exfalso; omega
            · -- not taken at 199
              refine lv_aload_n hx hb dX3_reads_202 rfl (lv_at hl 0 rfl) ?_
              refine kx_get (v := .int (kI (kb (true)))) (C := RX3) (T := TX3) (N := 13) hx hb hts in_X3 hown hK hO_34 rfl 9 (by decide) q2247 (fun _ h9 => h9) rfl dX3_reads_203 ?_
              refine kx_ifz (tgt := 336) hx hb dX3_reads_206 (by decide) (fun c_206_41 => ?_) (fun c_206_41 => ?_)
              · -- taken at 206
                exact absurd c_206_41 (by decide)
              · -- not taken at 206
                refine lv_aload_n hx hb dX3_reads_209 rfl (lv_at hl 0 rfl) ?_
                refine lv_aload_n hx hb dX3_reads_210 rfl (lv_at hl 0 rfl) ?_
                refine lv_aload_n hx hb dX3_reads_211 rfl (lv_at hl 0 rfl) ?_
                refine kx_get (v := .int (kI (119))) (C := RX3) (T := TX3) (N := 13) hx hb hts in_X3 hown hK hO_34 rfl 10 (by decide) q2248 (fun _ h9 => h9) rfl dX3_reads_212 ?_
                refine kx_bipush hx hb (by decide) dX3_reads_215 ?_
                refine kx_icmp_ne (x := 119) (y := 103) (tgt := 224) hx hb dX3_reads_217 (by decide) (by omega) (by omega) (by omega) (by omega) (fun c_217_42 => ?_) (fun c_217_42 => ?_)
                · -- taken at 217
                  refine kx_iconst hx hb dX3_reads_224 ?_
                  refine lv_aload_n hx hb dX3_reads_225 rfl (lv_at hl 0 rfl) ?_
                  refine kx_get (v := .int (kI (119))) (C := RX3) (T := TX3) (N := 13) hx hb hts in_X3 hown hK hO_34 rfl 10 (by decide) q2248 (fun _ h9 => h9) rfl dX3_reads_226 ?_
                  refine kx_bipush hx hb (by decide) dX3_reads_229 ?_
                  refine kx_icmp_ne (x := 119) (y := 110) (tgt := 239) hx hb dX3_reads_231 (by decide) (by omega) (by omega) (by omega) (by omega) (fun c_231_43 => ?_) (fun c_231_43 => ?_)
                  · -- taken at 231
                    refine lv_aload_n hx hb dX3_reads_239 rfl (lv_at hl 0 rfl) ?_
                    refine kx_get (v := .int (kI (119))) (C := RX3) (T := TX3) (N := 13) hx hb hts in_X3 hown hK hO_34 rfl 10 (by decide) q2248 (fun _ h9 => h9) rfl dX3_reads_240 ?_
                    refine kx_bipush hx hb (by decide) dX3_reads_243 ?_
                    refine kx_icmp_ne (x := 119) (y := 103) (tgt := 253) hx hb dX3_reads_245 (by decide) (by omega) (by omega) (by omega) (by omega) (fun c_245_44 => ?_) (fun c_245_44 => ?_)
                    · -- taken at 245
                      refine kx_bipush hx hb (by decide) dX3_reads_253 ?_
                      by_cases hq : tx_numOK t 0 7 (spn + 1)
                      · -- hq t
                        have h_45 := hA_ta.up hU_5 (by first | assumption | exact Ne.symm (by assumption) | omega | (have h9 := hA_ta.lt; omega))
                        have h_46 := h_45.up hU_14 (by first | assumption | exact Ne.symm (by assumption) | omega | (have h9 := h_45.lt; omega))
                        have h_47 := h_46.up hU_21 (by first | assumption | exact Ne.symm (by assumption) | omega | (have h9 := h_46.lt; omega))
                        have h_48 := h_47.up hU_27 (by first | assumption | exact Ne.symm (by assumption) | omega | (have h9 := h_47.lt; omega))
                        have h_49 := h_48.up hU_33 (by first | assumption | exact Ne.symm (by assumption) | omega | (have h9 := h_48.lt; omega))
                        refine kx_ci (va_runV (As := [.int (kI (0)), .int (kI (7))]) (rest := [.ref a]) ⟨hx, hb, hml, hown, hts⟩ (m_num_t l D H_35 a ra sa ka ta sn ik th 119 (((spn + 1 : Nat) : Int)) 0 (spn + 1) gt t 0 7 hO_34 h_49 (by first | assumption | omega) (by first | assumption | omega) (by first | assumption | omega) (by first | assumption | omega) (by first | assumption | omega) (by first | assumption | omega) (by first | assumption | omega)) (cwV 2 hts (lw_V q2613 q2615 qs75 q89 q2616) rfl rfl rfl (by decide +kernel) ⟨Nat.le_of_ble_eq_true rfl, Nat.le_of_ble_eq_true rfl⟩) (kx_pv hK hS_37 hB (kx_rc hK hO_34 (C := RX3) (T := TX3) (N := 13) rfl)) rfl rfl hl.1 rfl (lv_room (Nat.le_of_ble_eq_true rfl)) dX3_reads_255 ⟨by first | exact Nat.le_of_ble_eq_true rfl | omega | (show _ ≤ _; omega) | (dsimp only [headSpec]; omega), by first | exact Nat.le_of_ble_eq_true rfl | omega | (show _ ≤ _; omega) | (dsimp only [headSpec]; omega)⟩) hS_37 (fun q _ h => by (try dsimp only at h); (try dsimp only); (try simp only [kNW] at h); (try simp only [kNW]); omega) (fun q h => by (try dsimp only at h); (try dsimp only); (try simp only [kNW] at h); (try simp only [kNW]); omega) (fun z_55 H_53 locs_50 hz_52 hF_54 hS_51 => ?_)
                        have hzf_56 := hF_54.1
                        refine W.widen (k := 0) (n := 0) (Nat.le_of_ble_eq_true rfl) (Nat.le_of_ble_eq_true rfl) ?_
                        obtain ⟨hv_57, ho_58⟩ := hz_52
                        subst z_55
                        refine kx_put (v := .int (kI ((tx_num t 7 (spn + 1)).1))) (C := RX3) (T := TX3) (N := 13) hx hb hts in_X3 hown hK ho_58 rfl 11 (by decide) tyX3 tyX3_ok nmX3 hS_51 (by first | rfl | exact Or.inl rfl | exact Or.inr rfl | exact Or.inr (Or.inl rfl) | exact Or.inr (Or.inr rfl) | exact Or.inr (Or.inr (Or.inl rfl)) | exact Or.inr (Or.inr (Or.inr rfl)) | ((try dsimp only); (try simp only [kNW]); omega)) q2249 (fun _ h9 => h9) rfl rfl rfl rfl (Nat.le_of_ble_eq_true rfl) dX3_reads_258 (fun H_61 locs_62 hO_60 hU_59 hS_63 => ?_)
                        have hO_60 : kO D H_61 a 2 [.ref ra, .ref sa, .int (kI ((sn : Nat) : Int)), .ref ka, .int (kI (kb (ik))), .ref ta, .int (kI ((t.length : Nat) : Int)), .int (kI (th)), .int (kI (((tx_num t 7 (spn + 1)).2 : Nat) : Int)), .int (kI (kb (true))), .int (kI (119)), .int (kI ((tx_num t 7 (spn + 1)).1)), .int (kI (0))] := hO_60
                        have hzu_64 := hU_59.1
                        refine lv_aload_n hx hb dX3_reads_261 rfl (lv_at hl 0 rfl) ?_
                        refine kx_get (v := .int (kI (119))) (C := RX3) (T := TX3) (N := 13) hx hb hts in_X3 hown hK hO_60 rfl 10 (by decide) q2248 (fun _ h9 => h9) rfl dX3_reads_262 ?_
                        refine kx_bipush hx hb (by decide) dX3_reads_265 ?_
                        refine kx_icmp_eq (x := 119) (y := 110) (tgt := 279) hx hb dX3_reads_267 (by decide) (by omega) (by omega) (by omega) (by omega) (fun c_267_65 => ?_) (fun c_267_65 => ?_)
                        · -- taken at 267
                          exfalso; omega
                        · -- not taken at 267
                          refine lv_aload_n hx hb dX3_reads_270 rfl (lv_at hl 0 rfl) ?_
                          refine kx_get (v := .int (kI (119))) (C := RX3) (T := TX3) (N := 13) hx hb hts in_X3 hown hK hO_60 rfl 10 (by decide) q2248 (fun _ h9 => h9) rfl dX3_reads_271 ?_
                          refine kx_bipush hx hb (by decide) dX3_reads_274 ?_
                          refine kx_icmp_ne (x := 119) (y := 108) (tgt := 336) hx hb dX3_reads_276 (by decide) (by omega) (by omega) (by omega) (by omega) (fun c_276_66 => ?_) (fun c_276_66 => ?_)
                          · -- taken at 276
                            have hrd_67 : rdW t spn = (true, (tx_num t 7 (spn + 1)).2, (tx_num t 7 (spn + 1)).1, 0) := by rw [rdW, if_neg (by omega), if_neg (by omega), if_neg (by omega), if_neg (by omega), if_pos (by omega), rdW.rdOne, if_pos hq]
                            have hOz_68 : kO D H_61 a 2 [.ref ra, .ref sa, .int (kI ((sn : Nat) : Int)), .ref ka, .int (kI (kb (ik))), .ref ta, .int (kI ((t.length : Nat) : Int)), .int (kI (th)), .int (kI (((rdW t spn).2.1 : Nat) : Int)), .int (kI (kb ((rdW t spn).1))), .int (kI (tsg t spn)), .int (kI ((rdW t spn).2.2.1)), .int (kI ((rdW t spn).2.2.2))] := by rw [hrd_67, hlt9]; exact hO_60
                            exact kx_vret hx hb hr hlk (hOz_68) hS_63 dX3_reads_336
                          · -- not taken at 276
                            exfalso; omega
                      · -- hq f
                        have h_69 := hA_ta.up hU_5 (by first | assumption | exact Ne.symm (by assumption) | omega | (have h9 := hA_ta.lt; omega))
                        have h_70 := h_69.up hU_14 (by first | assumption | exact Ne.symm (by assumption) | omega | (have h9 := h_69.lt; omega))
                        have h_71 := h_70.up hU_21 (by first | assumption | exact Ne.symm (by assumption) | omega | (have h9 := h_70.lt; omega))
                        have h_72 := h_71.up hU_27 (by first | assumption | exact Ne.symm (by assumption) | omega | (have h9 := h_71.lt; omega))
                        have h_73 := h_72.up hU_33 (by first | assumption | exact Ne.symm (by assumption) | omega | (have h9 := h_72.lt; omega))
                        refine kx_ci (va_runV (As := [.int (kI (0)), .int (kI (7))]) (rest := [.ref a]) ⟨hx, hb, hml, hown, hts⟩ (m_num_f l D H_35 a ra sa ka ta sn ik th 119 (((spn + 1 : Nat) : Int)) 0 (spn + 1) gt t 0 7 hO_34 h_73 (by first | assumption | omega) (by first | assumption | omega) (by first | assumption | omega) (by first | assumption | omega) (by first | assumption | omega) (by first | assumption | omega) (by first | assumption | omega)) (cwV 2 hts (lw_V q2613 q2615 qs75 q89 q2616) rfl rfl rfl (by decide +kernel) ⟨Nat.le_of_ble_eq_true rfl, Nat.le_of_ble_eq_true rfl⟩) (kx_pv hK hS_37 hB (kx_rc hK hO_34 (C := RX3) (T := TX3) (N := 13) rfl)) rfl rfl hl.1 rfl (lv_room (Nat.le_of_ble_eq_true rfl)) dX3_reads_255 ⟨by first | exact Nat.le_of_ble_eq_true rfl | omega | (show _ ≤ _; omega) | (dsimp only [headSpec]; omega), by first | exact Nat.le_of_ble_eq_true rfl | omega | (show _ ≤ _; omega) | (dsimp only [headSpec]; omega)⟩) hS_37 (fun q _ h => by (try dsimp only at h); (try dsimp only); (try simp only [kNW] at h); (try simp only [kNW]); omega) (fun q h => by (try dsimp only at h); (try dsimp only); (try simp only [kNW] at h); (try simp only [kNW]); omega) (fun z_79 H_77 locs_74 hz_76 hF_78 hS_75 => ?_)
                        have hzf_80 := hF_78.1
                        refine W.widen (k := 0) (n := 0) (Nat.le_of_ble_eq_true rfl) (Nat.le_of_ble_eq_true rfl) ?_
                        obtain ⟨hv_81, ho_82⟩ := hz_76
                        subst z_79
                        refine kx_put (v := .int (kI (tsg t (spn + 1) - 48))) (C := RX3) (T := TX3) (N := 13) hx hb hts in_X3 hown hK ho_82 rfl 11 (by decide) tyX3 tyX3_ok nmX3 hS_75 (by first | rfl | exact Or.inl rfl | exact Or.inr rfl | exact Or.inr (Or.inl rfl) | exact Or.inr (Or.inr rfl) | exact Or.inr (Or.inr (Or.inl rfl)) | exact Or.inr (Or.inr (Or.inr rfl)) | ((try dsimp only); (try simp only [kNW]); omega)) q2249 (fun _ h9 => h9) rfl rfl rfl rfl (Nat.le_of_ble_eq_true rfl) dX3_reads_258 (fun H_85 locs_86 hO_84 hU_83 hS_87 => ?_)
                        have hO_84 : kO D H_85 a 2 [.ref ra, .ref sa, .int (kI ((sn : Nat) : Int)), .ref ka, .int (kI (kb (ik))), .ref ta, .int (kI ((t.length : Nat) : Int)), .int (kI (th)), .int (kI (((spn + 1) : Nat) : Int)), .int (kI (kb (false))), .int (kI (119)), .int (kI (tsg t (spn + 1) - 48)), .int (kI (0))] := hO_84
                        have hzu_88 := hU_83.1
                        refine lv_aload_n hx hb dX3_reads_261 rfl (lv_at hl 0 rfl) ?_
                        refine kx_get (v := .int (kI (119))) (C := RX3) (T := TX3) (N := 13) hx hb hts in_X3 hown hK hO_84 rfl 10 (by decide) q2248 (fun _ h9 => h9) rfl dX3_reads_262 ?_
                        refine kx_bipush hx hb (by decide) dX3_reads_265 ?_
                        refine kx_icmp_eq (x := 119) (y := 110) (tgt := 279) hx hb dX3_reads_267 (by decide) (by omega) (by omega) (by omega) (by omega) (fun c_267_89 => ?_) (fun c_267_89 => ?_)
                        · -- taken at 267
                          exfalso; omega
                        · -- not taken at 267
                          refine lv_aload_n hx hb dX3_reads_270 rfl (lv_at hl 0 rfl) ?_
                          refine kx_get (v := .int (kI (119))) (C := RX3) (T := TX3) (N := 13) hx hb hts in_X3 hown hK hO_84 rfl 10 (by decide) q2248 (fun _ h9 => h9) rfl dX3_reads_271 ?_
                          refine kx_bipush hx hb (by decide) dX3_reads_274 ?_
                          refine kx_icmp_ne (x := 119) (y := 108) (tgt := 336) hx hb dX3_reads_276 (by decide) (by omega) (by omega) (by omega) (by omega) (fun c_276_90 => ?_) (fun c_276_90 => ?_)
                          · -- taken at 276
                            have hrd_91 : rdW t spn = (false, (spn + 1), tsg t (spn + 1) - 48, 0) := by rw [rdW, if_neg (by omega), if_neg (by omega), if_neg (by omega), if_neg (by omega), if_pos (by omega), rdW.rdOne, if_neg hq]
                            have hOz_92 : kO D H_85 a 2 [.ref ra, .ref sa, .int (kI ((sn : Nat) : Int)), .ref ka, .int (kI (kb (ik))), .ref ta, .int (kI ((t.length : Nat) : Int)), .int (kI (th)), .int (kI (((rdW t spn).2.1 : Nat) : Int)), .int (kI (kb ((rdW t spn).1))), .int (kI (tsg t spn)), .int (kI ((rdW t spn).2.2.1)), .int (kI ((rdW t spn).2.2.2))] := by rw [hrd_91, hlt9]; exact hO_84
                            exact kx_vret hx hb hr hlk (hOz_92) hS_87 dX3_reads_336
                          · -- not taken at 276
                            exfalso; omega
                    · -- not taken at 245
                      exfalso; omega
                  · -- not taken at 231
                    exfalso; omega
                · -- not taken at 217
                  exfalso; omega
          · -- not taken at 129
            exfalso; omega
      · -- not taken at 33
        exfalso; omega

set_option maxHeartbeats 4000000 in
set_option maxRecDepth 100000 in
theorem m_reads_u (l : Launch) (D : kG) (H : Heap) (a : Nat) (ra : Nat) (sa : Nat) (ka : Nat) (ta : Nat) (sn : Nat) (ik : Bool) (th : Int) (spn : Nat) (gt : Nat → Int) (t : List Int) (iw : Bool) (le : Int) (fi : Int) (se : Int) (hO_a : kO D H a 2 [.ref ra, .ref sa, .int (kI ((sn : Nat) : Int)), .ref ka, .int (kI (kb (ik))), .ref ta, .int (kI ((t.length : Nat) : Int)), .int (kI (th)), .int (kI ((spn : Nat) : Int)), .int (kI (kb (iw))), .int (kI (le)), .int (kI (fi)), .int (kI (se))]) (hA_ta : kAi D H ta 60 gt) (hsp : spn ≤ 1000) (hT : MTx gt t) (ht60 : t.length ≤ 60) (ne_a_ta : a ≠ ta) (bs_a : kBase D ≤ a) (hlt9 : tsg t spn = 117) : Met l yX3_reads (ws_ yX3_reads cX3_reads 1 none) ({ frames := 2, cells := 0, slots := 0, locals := 45 } : Room) (kPre D H [.ref a]) (kQv (fun H' => (kO D H' a 2 [.ref ra, .ref sa, .int (kI ((sn : Nat) : Int)), .ref ka, .int (kI (kb (ik))), .ref ta, .int (kI ((t.length : Nat) : Int)), .int (kI (th)), .int (kI (((rdW t spn).2.1 : Nat) : Int)), .int (kI (kb ((rdW t spn).1))), .int (kI (tsg t spn)), .int (kI ((rdW t spn).2.2.1)), .int (kI ((rdW t spn).2.2.2))])) (fun q : Nat => q = a)) (0) (0) ((fun q : Nat => q = a)) := by
  refine Met.ofW (cc := cX3_reads) (maxL := 1) (ret := none) (by decide) rfl ?_
  intro p e s m args below meth c s₁ B hml hv
  obtain ⟨rfl, hH, hK⟩ := hv
  subst hH
  have hx := B.exec
  have hb := B.bytes
  have hr := B.returns
  have hts := atoms_spec (ws := ws_ yX3_reads cX3_reads 1 none) B.pre
  have hts : ∀ w ∈ lw_all, w.before _ s = true := fun w h => hts w (List.mem_cons_of_mem _ h)
  have hown : s.vm.findClass RX3 = some m.cls := findClass_of_methodNamed B.named
  have hlk := B.notSynchronized
  have hS : va_S (fun q : Nat => q = a) s.heap s.heap [] := va_S.rf
  have hB : ∀ q, (fun q : Nat => q = a) q → kBase D ≤ q := fun q h => by (try dsimp only at h); (try simp only [kNW] at h); have hks := hK.size; omega
  have hl := lv_entry ([.ref a]) (n := 1) (Nat.le_of_ble_eq_true rfl)
  rw [lg_entry_eq]
  generalize (lg_sl ([.ref a]) ++ List.replicate (1 - (lg_sl ([.ref a])).length) Slot.unset).toArray = ls at hl ⊢
  have hl : lv_has ls 1 [(0, .ref a)] := hl
  have hlt := hT.lt (i := spn) (by omega)
  refine lv_aload_n hx hb dX3_reads_0 rfl (lv_at hl 0 rfl) ?_
  refine lv_aload_n hx hb dX3_reads_1 rfl (lv_at hl 0 rfl) ?_
  refine kx_ci0 (va_runV (As := []) (rest := [.ref a]) ⟨hx, hb, hml, hown, hts⟩ (m_X3_sign l D s.heap a ra sa ka ta sn ik th iw le fi se spn gt t hO_a hA_ta (by first | assumption | omega) (by first | assumption | omega) (by first | assumption | omega) (by first | assumption | omega) (by first | assumption | omega)) (cwV 0 hts (lw_V q2609 q2611 qs74 q89 q2612) rfl rfl rfl (by decide +kernel) ⟨Nat.le_of_ble_eq_true rfl, Nat.le_of_ble_eq_true rfl⟩) (kx_pv hK hS hB (kx_rc hK hO_a (C := RX3) (T := TX3) (N := 13) rfl)) rfl rfl hl.1 rfl (lv_room (Nat.le_of_ble_eq_true rfl)) dX3_reads_2 ⟨by first | exact Nat.le_of_ble_eq_true rfl | omega | (show _ ≤ _; omega) | (dsimp only [headSpec]; omega), by first | exact Nat.le_of_ble_eq_true rfl | omega | (show _ ≤ _; omega) | (dsimp only [headSpec]; omega)⟩) hS (fun z_4 locs_1 hz_3 hS_2 => ?_)
  subst z_4
  refine kx_eqi (117) (hlt9) ?_
  refine kx_put (v := .int (kI (117))) (C := RX3) (T := TX3) (N := 13) hx hb hts in_X3 hown hK hO_a rfl 10 (by decide) tyX3 tyX3_ok nmX3 hS_2 (by first | rfl | exact Or.inl rfl | exact Or.inr rfl | exact Or.inr (Or.inl rfl) | exact Or.inr (Or.inr rfl) | exact Or.inr (Or.inr (Or.inl rfl)) | exact Or.inr (Or.inr (Or.inr rfl)) | ((try dsimp only); (try simp only [kNW]); omega)) q2248 (fun _ h9 => h9) rfl rfl rfl rfl (Nat.le_of_ble_eq_true rfl) dX3_reads_5 (fun H_7 locs_8 hO_6 hU_5 hS_9 => ?_)
  have hO_6 : kO D H_7 a 2 [.ref ra, .ref sa, .int (kI ((sn : Nat) : Int)), .ref ka, .int (kI (kb (ik))), .ref ta, .int (kI ((t.length : Nat) : Int)), .int (kI (th)), .int (kI ((spn : Nat) : Int)), .int (kI (kb (iw))), .int (kI (117)), .int (kI (fi)), .int (kI (se))] := hO_6
  have hzu_10 := hU_5.1
  refine lv_aload_n hx hb dX3_reads_8 rfl (lv_at hl 0 rfl) ?_
  refine lv_aload_n hx hb dX3_reads_9 rfl (lv_at hl 0 rfl) ?_
  refine kx_get (v := .int (kI (117))) (C := RX3) (T := TX3) (N := 13) hx hb hts in_X3 hown hK hO_6 rfl 10 (by decide) q2248 (fun _ h9 => h9) rfl dX3_reads_10 ?_
  refine kx_bipush hx hb (by decide) dX3_reads_13 ?_
  refine kx_icmp_eq (x := 117) (y := 110) (tgt := 81) hx hb dX3_reads_15 (by decide) (by omega) (by omega) (by omega) (by omega) (fun c_15_11 => ?_) (fun c_15_11 => ?_)
  · -- taken at 15
    exfalso; omega
  · -- not taken at 15
    refine lv_aload_n hx hb dX3_reads_18 rfl (lv_at hl 0 rfl) ?_
    refine kx_get (v := .int (kI (117))) (C := RX3) (T := TX3) (N := 13) hx hb hts in_X3 hown hK hO_6 rfl 10 (by decide) q2248 (fun _ h9 => h9) rfl dX3_reads_19 ?_
    refine kx_bipush hx hb (by decide) dX3_reads_22 ?_
    refine kx_icmp_eq (x := 117) (y := 115) (tgt := 81) hx hb dX3_reads_24 (by decide) (by omega) (by omega) (by omega) (by omega) (fun c_24_12 => ?_) (fun c_24_12 => ?_)
    · -- taken at 24
      exfalso; omega
    · -- not taken at 24
      refine lv_aload_n hx hb dX3_reads_27 rfl (lv_at hl 0 rfl) ?_
      refine kx_get (v := .int (kI (117))) (C := RX3) (T := TX3) (N := 13) hx hb hts in_X3 hown hK hO_6 rfl 10 (by decide) q2248 (fun _ h9 => h9) rfl dX3_reads_28 ?_
      refine kx_bipush hx hb (by decide) dX3_reads_31 ?_
      refine kx_icmp_eq (x := 117) (y := 119) (tgt := 81) hx hb dX3_reads_33 (by decide) (by omega) (by omega) (by omega) (by omega) (fun c_33_13 => ?_) (fun c_33_13 => ?_)
      · -- taken at 33
        exfalso; omega
      · -- not taken at 33
        refine lv_aload_n hx hb dX3_reads_36 rfl (lv_at hl 0 rfl) ?_
        refine kx_get (v := .int (kI (117))) (C := RX3) (T := TX3) (N := 13) hx hb hts in_X3 hown hK hO_6 rfl 10 (by decide) q2248 (fun _ h9 => h9) rfl dX3_reads_37 ?_
        refine kx_bipush hx hb (by decide) dX3_reads_40 ?_
        refine kx_icmp_eq (x := 117) (y := 108) (tgt := 81) hx hb dX3_reads_42 (by decide) (by omega) (by omega) (by omega) (by omega) (fun c_42_14 => ?_) (fun c_42_14 => ?_)
        · -- taken at 42
          exfalso; omega
        · -- not taken at 42
          refine lv_aload_n hx hb dX3_reads_45 rfl (lv_at hl 0 rfl) ?_
          refine kx_get (v := .int (kI (117))) (C := RX3) (T := TX3) (N := 13) hx hb hts in_X3 hown hK hO_6 rfl 10 (by decide) q2248 (fun _ h9 => h9) rfl dX3_reads_46 ?_
          refine kx_bipush hx hb (by decide) dX3_reads_49 ?_
          refine kx_icmp_eq (x := 117) (y := 117) (tgt := 81) hx hb dX3_reads_51 (by decide) (by omega) (by omega) (by omega) (by omega) (fun c_51_15 => ?_) (fun c_51_15 => ?_)
          · -- taken at 51
            refine kx_iconst hx hb dX3_reads_81 ?_
            refine lv_goto (tgt := 86) hx hb dX3_reads_82 (by decide) ?_
            refine kx_put (v := .int (kI (kb (true)))) (C := RX3) (T := TX3) (N := 13) hx hb hts in_X3 hown hK hO_6 rfl 9 (by decide) tyX3 tyX3_ok nmX3 hS_9 (by first | rfl | exact Or.inl rfl | exact Or.inr rfl | exact Or.inr (Or.inl rfl) | exact Or.inr (Or.inr rfl) | exact Or.inr (Or.inr (Or.inl rfl)) | exact Or.inr (Or.inr (Or.inr rfl)) | ((try dsimp only); (try simp only [kNW]); omega)) q2247 (fun _ h9 => h9) rfl rfl (kb_narZ _) (kb_fitZ _) (Nat.le_of_ble_eq_true rfl) dX3_reads_86 (fun H_18 locs_19 hO_17 hU_16 hS_20 => ?_)
            have hO_17 : kO D H_18 a 2 [.ref ra, .ref sa, .int (kI ((sn : Nat) : Int)), .ref ka, .int (kI (kb (ik))), .ref ta, .int (kI ((t.length : Nat) : Int)), .int (kI (th)), .int (kI ((spn : Nat) : Int)), .int (kI (kb (true))), .int (kI (117)), .int (kI (fi)), .int (kI (se))] := hO_17
            have hzu_21 := hU_16.1
            refine lv_aload_n hx hb dX3_reads_89 rfl (lv_at hl 0 rfl) ?_
            refine lv_dup hx hb dX3_reads_90 rfl ?_
            refine kx_get (v := .int (kI ((spn : Nat) : Int))) (C := RX3) (T := TX3) (N := 13) hx hb hts in_X3 hown hK hO_17 rfl 8 (by decide) q2246 (fun _ h9 => h9) rfl dX3_reads_91 ?_
            refine lv_aload_n hx hb dX3_reads_94 rfl (lv_at hl 0 rfl) ?_
            refine kx_get (v := .int (kI (kb (true)))) (C := RX3) (T := TX3) (N := 13) hx hb hts in_X3 hown hK hO_17 rfl 9 (by decide) q2247 (fun _ h9 => h9) rfl dX3_reads_95 ?_
            refine kx_ifz (tgt := 105) hx hb dX3_reads_98 (by decide) (fun c_98_22 => ?_) (fun c_98_22 => ?_)
            · -- taken at 98
              exact absurd c_98_22 (by decide)
            · -- not taken at 98
              refine kx_iconst hx hb dX3_reads_101 ?_
              refine lv_goto (tgt := 106) hx hb dX3_reads_102 (by decide) ?_
              refine kx_iadd hx hb dX3_reads_106 ?_
              refine kx_eqi (((spn + 1 : Nat) : Int)) (by omega) ?_
              refine kx_put (v := .int (kI ((spn + 1 : Nat) : Int))) (C := RX3) (T := TX3) (N := 13) hx hb hts in_X3 hown hK hO_17 rfl 8 (by decide) tyX3 tyX3_ok nmX3 hS_20 (by first | rfl | exact Or.inl rfl | exact Or.inr rfl | exact Or.inr (Or.inl rfl) | exact Or.inr (Or.inr rfl) | exact Or.inr (Or.inr (Or.inl rfl)) | exact Or.inr (Or.inr (Or.inr rfl)) | ((try dsimp only); (try simp only [kNW]); omega)) q2246 (fun _ h9 => h9) rfl rfl rfl rfl (Nat.le_of_ble_eq_true rfl) dX3_reads_107 (fun H_25 locs_26 hO_24 hU_23 hS_27 => ?_)
              have hO_24 : kO D H_25 a 2 [.ref ra, .ref sa, .int (kI ((sn : Nat) : Int)), .ref ka, .int (kI (kb (ik))), .ref ta, .int (kI ((t.length : Nat) : Int)), .int (kI (th)), .int (kI ((spn + 1 : Nat) : Int)), .int (kI (kb (true))), .int (kI (117)), .int (kI (fi)), .int (kI (se))] := hO_24
              have hzu_28 := hU_23.1
              refine lv_aload_n hx hb dX3_reads_110 rfl (lv_at hl 0 rfl) ?_
              refine lv_aload_n hx hb dX3_reads_111 rfl (lv_at hl 0 rfl) ?_
              refine kx_get (v := .int (kI ((spn + 1 : Nat) : Int))) (C := RX3) (T := TX3) (N := 13) hx hb hts in_X3 hown hK hO_24 rfl 8 (by decide) q2246 (fun _ h9 => h9) rfl dX3_reads_112 ?_
              refine kx_put (v := .int (kI ((spn + 1 : Nat) : Int))) (C := RX3) (T := TX3) (N := 13) hx hb hts in_X3 hown hK hO_24 rfl 11 (by decide) tyX3 tyX3_ok nmX3 hS_27 (by first | rfl | exact Or.inl rfl | exact Or.inr rfl | exact Or.inr (Or.inl rfl) | exact Or.inr (Or.inr rfl) | exact Or.inr (Or.inr (Or.inl rfl)) | exact Or.inr (Or.inr (Or.inr rfl)) | ((try dsimp only); (try simp only [kNW]); omega)) q2249 (fun _ h9 => h9) rfl rfl rfl rfl (Nat.le_of_ble_eq_true rfl) dX3_reads_115 (fun H_31 locs_32 hO_30 hU_29 hS_33 => ?_)
              have hO_30 : kO D H_31 a 2 [.ref ra, .ref sa, .int (kI ((sn : Nat) : Int)), .ref ka, .int (kI (kb (ik))), .ref ta, .int (kI ((t.length : Nat) : Int)), .int (kI (th)), .int (kI ((spn + 1 : Nat) : Int)), .int (kI (kb (true))), .int (kI (117)), .int (kI ((spn + 1 : Nat) : Int)), .int (kI (se))] := hO_30
              have hzu_34 := hU_29.1
              refine lv_aload_n hx hb dX3_reads_118 rfl (lv_at hl 0 rfl) ?_
              refine kx_iconst hx hb dX3_reads_119 ?_
              refine kx_put (v := .int (kI (0))) (C := RX3) (T := TX3) (N := 13) hx hb hts in_X3 hown hK hO_30 rfl 12 (by decide) tyX3 tyX3_ok nmX3 hS_33 (by first | rfl | exact Or.inl rfl | exact Or.inr rfl | exact Or.inr (Or.inl rfl) | exact Or.inr (Or.inr rfl) | exact Or.inr (Or.inr (Or.inl rfl)) | exact Or.inr (Or.inr (Or.inr rfl)) | ((try dsimp only); (try simp only [kNW]); omega)) q2250 (fun _ h9 => h9) rfl rfl rfl rfl (Nat.le_of_ble_eq_true rfl) dX3_reads_120 (fun H_37 locs_38 hO_36 hU_35 hS_39 => ?_)
              have hO_36 : kO D H_37 a 2 [.ref ra, .ref sa, .int (kI ((sn : Nat) : Int)), .ref ka, .int (kI (kb (ik))), .ref ta, .int (kI ((t.length : Nat) : Int)), .int (kI (th)), .int (kI ((spn + 1 : Nat) : Int)), .int (kI (kb (true))), .int (kI (117)), .int (kI ((spn + 1 : Nat) : Int)), .int (kI (0))] := hO_36
              have hzu_40 := hU_35.1
              refine lv_aload_n hx hb dX3_reads_123 rfl (lv_at hl 0 rfl) ?_
              refine kx_get (v := .int (kI (117))) (C := RX3) (T := TX3) (N := 13) hx hb hts in_X3 hown hK hO_36 rfl 10 (by decide) q2248 (fun _ h9 => h9) rfl dX3_reads_124 ?_
              refine kx_bipush hx hb (by decide) dX3_reads_127 ?_
              refine kx_icmp_ne (x := 117) (y := 115) (tgt := 193) hx hb dX3_reads_129 (by decide) (by omega) (by omega) (by omega) (by omega) (fun c_129_41 => ?_) (fun c_129_41 => ?_)
              · -- taken at 129
                refine lv_aload_n hx hb dX3_reads_193 rfl (lv_at hl 0 rfl) ?_
                refine kx_get (v := .int (kI (117))) (C := RX3) (T := TX3) (N := 13) hx hb hts in_X3 hown hK hO_36 rfl 10 (by decide) q2248 (fun _ h9 => h9) rfl dX3_reads_194 ?_
                refine kx_bipush hx hb (by decide) dX3_reads_197 ?_
                refine kx_icmp_eq (x := 117) (y := 97) (tgt := 336) hx hb dX3_reads_199 (by decide) (by omega) (by omega) (by omega) (by omega) (fun c_199_42 => ?_) (fun c_199_42 => ?_)
                · -- taken at 199
                  exfalso; omega
                · -- not taken at 199
                  refine lv_aload_n hx hb dX3_reads_202 rfl (lv_at hl 0 rfl) ?_
                  refine kx_get (v := .int (kI (kb (true)))) (C := RX3) (T := TX3) (N := 13) hx hb hts in_X3 hown hK hO_36 rfl 9 (by decide) q2247 (fun _ h9 => h9) rfl dX3_reads_203 ?_
                  refine kx_ifz (tgt := 336) hx hb dX3_reads_206 (by decide) (fun c_206_43 => ?_) (fun c_206_43 => ?_)
                  · -- taken at 206
                    exact absurd c_206_43 (by decide)
                  · -- not taken at 206
                    refine lv_aload_n hx hb dX3_reads_209 rfl (lv_at hl 0 rfl) ?_
                    refine lv_aload_n hx hb dX3_reads_210 rfl (lv_at hl 0 rfl) ?_
                    refine lv_aload_n hx hb dX3_reads_211 rfl (lv_at hl 0 rfl) ?_
                    refine kx_get (v := .int (kI (117))) (C := RX3) (T := TX3) (N := 13) hx hb hts in_X3 hown hK hO_36 rfl 10 (by decide) q2248 (fun _ h9 => h9) rfl dX3_reads_212 ?_
                    refine kx_bipush hx hb (by decide) dX3_reads_215 ?_
                    refine kx_icmp_ne (x := 117) (y := 103) (tgt := 224) hx hb dX3_reads_217 (by decide) (by omega) (by omega) (by omega) (by omega) (fun c_217_44 => ?_) (fun c_217_44 => ?_)
                    · -- taken at 217
                      refine kx_iconst hx hb dX3_reads_224 ?_
                      refine lv_aload_n hx hb dX3_reads_225 rfl (lv_at hl 0 rfl) ?_
                      refine kx_get (v := .int (kI (117))) (C := RX3) (T := TX3) (N := 13) hx hb hts in_X3 hown hK hO_36 rfl 10 (by decide) q2248 (fun _ h9 => h9) rfl dX3_reads_226 ?_
                      refine kx_bipush hx hb (by decide) dX3_reads_229 ?_
                      refine kx_icmp_ne (x := 117) (y := 110) (tgt := 239) hx hb dX3_reads_231 (by decide) (by omega) (by omega) (by omega) (by omega) (fun c_231_45 => ?_) (fun c_231_45 => ?_)
                      · -- taken at 231
                        refine lv_aload_n hx hb dX3_reads_239 rfl (lv_at hl 0 rfl) ?_
                        refine kx_get (v := .int (kI (117))) (C := RX3) (T := TX3) (N := 13) hx hb hts in_X3 hown hK hO_36 rfl 10 (by decide) q2248 (fun _ h9 => h9) rfl dX3_reads_240 ?_
                        refine kx_bipush hx hb (by decide) dX3_reads_243 ?_
                        refine kx_icmp_ne (x := 117) (y := 103) (tgt := 253) hx hb dX3_reads_245 (by decide) (by omega) (by omega) (by omega) (by omega) (fun c_245_46 => ?_) (fun c_245_46 => ?_)
                        · -- taken at 245
                          refine kx_bipush hx hb (by decide) dX3_reads_253 ?_
                          by_cases hq : tx_numOK t 0 7 (spn + 1)
                          · -- hq t
                            have h_47 := hA_ta.up hU_5 (by first | assumption | exact Ne.symm (by assumption) | omega | (have h9 := hA_ta.lt; omega))
                            have h_48 := h_47.up hU_16 (by first | assumption | exact Ne.symm (by assumption) | omega | (have h9 := h_47.lt; omega))
                            have h_49 := h_48.up hU_23 (by first | assumption | exact Ne.symm (by assumption) | omega | (have h9 := h_48.lt; omega))
                            have h_50 := h_49.up hU_29 (by first | assumption | exact Ne.symm (by assumption) | omega | (have h9 := h_49.lt; omega))
                            have h_51 := h_50.up hU_35 (by first | assumption | exact Ne.symm (by assumption) | omega | (have h9 := h_50.lt; omega))
                            refine kx_ci (va_runV (As := [.int (kI (0)), .int (kI (7))]) (rest := [.ref a]) ⟨hx, hb, hml, hown, hts⟩ (m_num_t l D H_37 a ra sa ka ta sn ik th 117 (((spn + 1 : Nat) : Int)) 0 (spn + 1) gt t 0 7 hO_36 h_51 (by first | assumption | omega) (by first | assumption | omega) (by first | assumption | omega) (by first | assumption | omega) (by first | assumption | omega) (by first | assumption | omega) (by first | assumption | omega)) (cwV 2 hts (lw_V q2613 q2615 qs75 q89 q2616) rfl rfl rfl (by decide +kernel) ⟨Nat.le_of_ble_eq_true rfl, Nat.le_of_ble_eq_true rfl⟩) (kx_pv hK hS_39 hB (kx_rc hK hO_36 (C := RX3) (T := TX3) (N := 13) rfl)) rfl rfl hl.1 rfl (lv_room (Nat.le_of_ble_eq_true rfl)) dX3_reads_255 ⟨by first | exact Nat.le_of_ble_eq_true rfl | omega | (show _ ≤ _; omega) | (dsimp only [headSpec]; omega), by first | exact Nat.le_of_ble_eq_true rfl | omega | (show _ ≤ _; omega) | (dsimp only [headSpec]; omega)⟩) hS_39 (fun q _ h => by (try dsimp only at h); (try dsimp only); (try simp only [kNW] at h); (try simp only [kNW]); omega) (fun q h => by (try dsimp only at h); (try dsimp only); (try simp only [kNW] at h); (try simp only [kNW]); omega) (fun z_57 H_55 locs_52 hz_54 hF_56 hS_53 => ?_)
                            have hzf_58 := hF_56.1
                            refine W.widen (k := 0) (n := 0) (Nat.le_of_ble_eq_true rfl) (Nat.le_of_ble_eq_true rfl) ?_
                            obtain ⟨hv_59, ho_60⟩ := hz_54
                            subst z_57
                            refine kx_put (v := .int (kI ((tx_num t 7 (spn + 1)).1))) (C := RX3) (T := TX3) (N := 13) hx hb hts in_X3 hown hK ho_60 rfl 11 (by decide) tyX3 tyX3_ok nmX3 hS_53 (by first | rfl | exact Or.inl rfl | exact Or.inr rfl | exact Or.inr (Or.inl rfl) | exact Or.inr (Or.inr rfl) | exact Or.inr (Or.inr (Or.inl rfl)) | exact Or.inr (Or.inr (Or.inr rfl)) | ((try dsimp only); (try simp only [kNW]); omega)) q2249 (fun _ h9 => h9) rfl rfl rfl rfl (Nat.le_of_ble_eq_true rfl) dX3_reads_258 (fun H_63 locs_64 hO_62 hU_61 hS_65 => ?_)
                            have hO_62 : kO D H_63 a 2 [.ref ra, .ref sa, .int (kI ((sn : Nat) : Int)), .ref ka, .int (kI (kb (ik))), .ref ta, .int (kI ((t.length : Nat) : Int)), .int (kI (th)), .int (kI (((tx_num t 7 (spn + 1)).2 : Nat) : Int)), .int (kI (kb (true))), .int (kI (117)), .int (kI ((tx_num t 7 (spn + 1)).1)), .int (kI (0))] := hO_62
                            have hzu_66 := hU_61.1
                            refine lv_aload_n hx hb dX3_reads_261 rfl (lv_at hl 0 rfl) ?_
                            refine kx_get (v := .int (kI (117))) (C := RX3) (T := TX3) (N := 13) hx hb hts in_X3 hown hK hO_62 rfl 10 (by decide) q2248 (fun _ h9 => h9) rfl dX3_reads_262 ?_
                            refine kx_bipush hx hb (by decide) dX3_reads_265 ?_
                            refine kx_icmp_eq (x := 117) (y := 110) (tgt := 279) hx hb dX3_reads_267 (by decide) (by omega) (by omega) (by omega) (by omega) (fun c_267_67 => ?_) (fun c_267_67 => ?_)
                            · -- taken at 267
                              exfalso; omega
                            · -- not taken at 267
                              refine lv_aload_n hx hb dX3_reads_270 rfl (lv_at hl 0 rfl) ?_
                              refine kx_get (v := .int (kI (117))) (C := RX3) (T := TX3) (N := 13) hx hb hts in_X3 hown hK hO_62 rfl 10 (by decide) q2248 (fun _ h9 => h9) rfl dX3_reads_271 ?_
                              refine kx_bipush hx hb (by decide) dX3_reads_274 ?_
                              refine kx_icmp_ne (x := 117) (y := 108) (tgt := 336) hx hb dX3_reads_276 (by decide) (by omega) (by omega) (by omega) (by omega) (fun c_276_68 => ?_) (fun c_276_68 => ?_)
                              · -- taken at 276
                                have hrd_69 : rdW t spn = (true, (tx_num t 7 (spn + 1)).2, (tx_num t 7 (spn + 1)).1, 0) := by rw [rdW, if_neg (by omega), if_neg (by omega), if_neg (by omega), if_neg (by omega), if_pos (by omega), rdW.rdOne, if_pos hq]
                                have hOz_70 : kO D H_63 a 2 [.ref ra, .ref sa, .int (kI ((sn : Nat) : Int)), .ref ka, .int (kI (kb (ik))), .ref ta, .int (kI ((t.length : Nat) : Int)), .int (kI (th)), .int (kI (((rdW t spn).2.1 : Nat) : Int)), .int (kI (kb ((rdW t spn).1))), .int (kI (tsg t spn)), .int (kI ((rdW t spn).2.2.1)), .int (kI ((rdW t spn).2.2.2))] := by rw [hrd_69, hlt9]; exact hO_62
                                exact kx_vret hx hb hr hlk (hOz_70) hS_65 dX3_reads_336
                              · -- not taken at 276
                                exfalso; omega
                          · -- hq f
                            have h_71 := hA_ta.up hU_5 (by first | assumption | exact Ne.symm (by assumption) | omega | (have h9 := hA_ta.lt; omega))
                            have h_72 := h_71.up hU_16 (by first | assumption | exact Ne.symm (by assumption) | omega | (have h9 := h_71.lt; omega))
                            have h_73 := h_72.up hU_23 (by first | assumption | exact Ne.symm (by assumption) | omega | (have h9 := h_72.lt; omega))
                            have h_74 := h_73.up hU_29 (by first | assumption | exact Ne.symm (by assumption) | omega | (have h9 := h_73.lt; omega))
                            have h_75 := h_74.up hU_35 (by first | assumption | exact Ne.symm (by assumption) | omega | (have h9 := h_74.lt; omega))
                            refine kx_ci (va_runV (As := [.int (kI (0)), .int (kI (7))]) (rest := [.ref a]) ⟨hx, hb, hml, hown, hts⟩ (m_num_f l D H_37 a ra sa ka ta sn ik th 117 (((spn + 1 : Nat) : Int)) 0 (spn + 1) gt t 0 7 hO_36 h_75 (by first | assumption | omega) (by first | assumption | omega) (by first | assumption | omega) (by first | assumption | omega) (by first | assumption | omega) (by first | assumption | omega) (by first | assumption | omega)) (cwV 2 hts (lw_V q2613 q2615 qs75 q89 q2616) rfl rfl rfl (by decide +kernel) ⟨Nat.le_of_ble_eq_true rfl, Nat.le_of_ble_eq_true rfl⟩) (kx_pv hK hS_39 hB (kx_rc hK hO_36 (C := RX3) (T := TX3) (N := 13) rfl)) rfl rfl hl.1 rfl (lv_room (Nat.le_of_ble_eq_true rfl)) dX3_reads_255 ⟨by first | exact Nat.le_of_ble_eq_true rfl | omega | (show _ ≤ _; omega) | (dsimp only [headSpec]; omega), by first | exact Nat.le_of_ble_eq_true rfl | omega | (show _ ≤ _; omega) | (dsimp only [headSpec]; omega)⟩) hS_39 (fun q _ h => by (try dsimp only at h); (try dsimp only); (try simp only [kNW] at h); (try simp only [kNW]); omega) (fun q h => by (try dsimp only at h); (try dsimp only); (try simp only [kNW] at h); (try simp only [kNW]); omega) (fun z_81 H_79 locs_76 hz_78 hF_80 hS_77 => ?_)
                            have hzf_82 := hF_80.1
                            refine W.widen (k := 0) (n := 0) (Nat.le_of_ble_eq_true rfl) (Nat.le_of_ble_eq_true rfl) ?_
                            obtain ⟨hv_83, ho_84⟩ := hz_78
                            subst z_81
                            refine kx_put (v := .int (kI (tsg t (spn + 1) - 48))) (C := RX3) (T := TX3) (N := 13) hx hb hts in_X3 hown hK ho_84 rfl 11 (by decide) tyX3 tyX3_ok nmX3 hS_77 (by first | rfl | exact Or.inl rfl | exact Or.inr rfl | exact Or.inr (Or.inl rfl) | exact Or.inr (Or.inr rfl) | exact Or.inr (Or.inr (Or.inl rfl)) | exact Or.inr (Or.inr (Or.inr rfl)) | ((try dsimp only); (try simp only [kNW]); omega)) q2249 (fun _ h9 => h9) rfl rfl rfl rfl (Nat.le_of_ble_eq_true rfl) dX3_reads_258 (fun H_87 locs_88 hO_86 hU_85 hS_89 => ?_)
                            have hO_86 : kO D H_87 a 2 [.ref ra, .ref sa, .int (kI ((sn : Nat) : Int)), .ref ka, .int (kI (kb (ik))), .ref ta, .int (kI ((t.length : Nat) : Int)), .int (kI (th)), .int (kI (((spn + 1) : Nat) : Int)), .int (kI (kb (false))), .int (kI (117)), .int (kI (tsg t (spn + 1) - 48)), .int (kI (0))] := hO_86
                            have hzu_90 := hU_85.1
                            refine lv_aload_n hx hb dX3_reads_261 rfl (lv_at hl 0 rfl) ?_
                            refine kx_get (v := .int (kI (117))) (C := RX3) (T := TX3) (N := 13) hx hb hts in_X3 hown hK hO_86 rfl 10 (by decide) q2248 (fun _ h9 => h9) rfl dX3_reads_262 ?_
                            refine kx_bipush hx hb (by decide) dX3_reads_265 ?_
                            refine kx_icmp_eq (x := 117) (y := 110) (tgt := 279) hx hb dX3_reads_267 (by decide) (by omega) (by omega) (by omega) (by omega) (fun c_267_91 => ?_) (fun c_267_91 => ?_)
                            · -- taken at 267
                              exfalso; omega
                            · -- not taken at 267
                              refine lv_aload_n hx hb dX3_reads_270 rfl (lv_at hl 0 rfl) ?_
                              refine kx_get (v := .int (kI (117))) (C := RX3) (T := TX3) (N := 13) hx hb hts in_X3 hown hK hO_86 rfl 10 (by decide) q2248 (fun _ h9 => h9) rfl dX3_reads_271 ?_
                              refine kx_bipush hx hb (by decide) dX3_reads_274 ?_
                              refine kx_icmp_ne (x := 117) (y := 108) (tgt := 336) hx hb dX3_reads_276 (by decide) (by omega) (by omega) (by omega) (by omega) (fun c_276_92 => ?_) (fun c_276_92 => ?_)
                              · -- taken at 276
                                have hrd_93 : rdW t spn = (false, (spn + 1), tsg t (spn + 1) - 48, 0) := by rw [rdW, if_neg (by omega), if_neg (by omega), if_neg (by omega), if_neg (by omega), if_pos (by omega), rdW.rdOne, if_neg hq]
                                have hOz_94 : kO D H_87 a 2 [.ref ra, .ref sa, .int (kI ((sn : Nat) : Int)), .ref ka, .int (kI (kb (ik))), .ref ta, .int (kI ((t.length : Nat) : Int)), .int (kI (th)), .int (kI (((rdW t spn).2.1 : Nat) : Int)), .int (kI (kb ((rdW t spn).1))), .int (kI (tsg t spn)), .int (kI ((rdW t spn).2.2.1)), .int (kI ((rdW t spn).2.2.2))] := by rw [hrd_93, hlt9]; exact hO_86
                                exact kx_vret hx hb hr hlk (hOz_94) hS_89 dX3_reads_336
                              · -- not taken at 276
                                exfalso; omega
                        · -- not taken at 245
                          exfalso; omega
                      · -- not taken at 231
                        exfalso; omega
                    · -- not taken at 217
                      exfalso; omega
              · -- not taken at 129
                exfalso; omega
          · -- not taken at 51
            exfalso; omega

set_option maxHeartbeats 4000000 in
set_option maxRecDepth 100000 in
theorem m_reads_b (l : Launch) (D : kG) (H : Heap) (a : Nat) (ra : Nat) (sa : Nat) (ka : Nat) (ta : Nat) (sn : Nat) (ik : Bool) (th : Int) (spn : Nat) (gt : Nat → Int) (t : List Int) (iw : Bool) (le : Int) (fi : Int) (se : Int) (hO_a : kO D H a 2 [.ref ra, .ref sa, .int (kI ((sn : Nat) : Int)), .ref ka, .int (kI (kb (ik))), .ref ta, .int (kI ((t.length : Nat) : Int)), .int (kI (th)), .int (kI ((spn : Nat) : Int)), .int (kI (kb (iw))), .int (kI (le)), .int (kI (fi)), .int (kI (se))]) (hA_ta : kAi D H ta 60 gt) (hsp : spn ≤ 1000) (hT : MTx gt t) (ht60 : t.length ≤ 60) (ne_a_ta : a ≠ ta) (bs_a : kBase D ≤ a) (hlt9 : tsg t spn = 98) : Met l yX3_reads (ws_ yX3_reads cX3_reads 1 none) ({ frames := 2, cells := 0, slots := 0, locals := 45 } : Room) (kPre D H [.ref a]) (kQv (fun H' => (kO D H' a 2 [.ref ra, .ref sa, .int (kI ((sn : Nat) : Int)), .ref ka, .int (kI (kb (ik))), .ref ta, .int (kI ((t.length : Nat) : Int)), .int (kI (th)), .int (kI (((rdW t spn).2.1 : Nat) : Int)), .int (kI (kb ((rdW t spn).1))), .int (kI (tsg t spn)), .int (kI ((rdW t spn).2.2.1)), .int (kI ((rdW t spn).2.2.2))])) (fun q : Nat => q = a)) (0) (0) ((fun q : Nat => q = a)) := by
  refine Met.ofW (cc := cX3_reads) (maxL := 1) (ret := none) (by decide) rfl ?_
  intro p e s m args below meth c s₁ B hml hv
  obtain ⟨rfl, hH, hK⟩ := hv
  subst hH
  have hx := B.exec
  have hb := B.bytes
  have hr := B.returns
  have hts := atoms_spec (ws := ws_ yX3_reads cX3_reads 1 none) B.pre
  have hts : ∀ w ∈ lw_all, w.before _ s = true := fun w h => hts w (List.mem_cons_of_mem _ h)
  have hown : s.vm.findClass RX3 = some m.cls := findClass_of_methodNamed B.named
  have hlk := B.notSynchronized
  have hS : va_S (fun q : Nat => q = a) s.heap s.heap [] := va_S.rf
  have hB : ∀ q, (fun q : Nat => q = a) q → kBase D ≤ q := fun q h => by (try dsimp only at h); (try simp only [kNW] at h); have hks := hK.size; omega
  have hl := lv_entry ([.ref a]) (n := 1) (Nat.le_of_ble_eq_true rfl)
  rw [lg_entry_eq]
  generalize (lg_sl ([.ref a]) ++ List.replicate (1 - (lg_sl ([.ref a])).length) Slot.unset).toArray = ls at hl ⊢
  have hl : lv_has ls 1 [(0, .ref a)] := hl
  have hlt := hT.lt (i := spn) (by omega)
  refine lv_aload_n hx hb dX3_reads_0 rfl (lv_at hl 0 rfl) ?_
  refine lv_aload_n hx hb dX3_reads_1 rfl (lv_at hl 0 rfl) ?_
  refine kx_ci0 (va_runV (As := []) (rest := [.ref a]) ⟨hx, hb, hml, hown, hts⟩ (m_X3_sign l D s.heap a ra sa ka ta sn ik th iw le fi se spn gt t hO_a hA_ta (by first | assumption | omega) (by first | assumption | omega) (by first | assumption | omega) (by first | assumption | omega) (by first | assumption | omega)) (cwV 0 hts (lw_V q2609 q2611 qs74 q89 q2612) rfl rfl rfl (by decide +kernel) ⟨Nat.le_of_ble_eq_true rfl, Nat.le_of_ble_eq_true rfl⟩) (kx_pv hK hS hB (kx_rc hK hO_a (C := RX3) (T := TX3) (N := 13) rfl)) rfl rfl hl.1 rfl (lv_room (Nat.le_of_ble_eq_true rfl)) dX3_reads_2 ⟨by first | exact Nat.le_of_ble_eq_true rfl | omega | (show _ ≤ _; omega) | (dsimp only [headSpec]; omega), by first | exact Nat.le_of_ble_eq_true rfl | omega | (show _ ≤ _; omega) | (dsimp only [headSpec]; omega)⟩) hS (fun z_4 locs_1 hz_3 hS_2 => ?_)
  subst z_4
  refine kx_eqi (98) (hlt9) ?_
  refine kx_put (v := .int (kI (98))) (C := RX3) (T := TX3) (N := 13) hx hb hts in_X3 hown hK hO_a rfl 10 (by decide) tyX3 tyX3_ok nmX3 hS_2 (by first | rfl | exact Or.inl rfl | exact Or.inr rfl | exact Or.inr (Or.inl rfl) | exact Or.inr (Or.inr rfl) | exact Or.inr (Or.inr (Or.inl rfl)) | exact Or.inr (Or.inr (Or.inr rfl)) | ((try dsimp only); (try simp only [kNW]); omega)) q2248 (fun _ h9 => h9) rfl rfl rfl rfl (Nat.le_of_ble_eq_true rfl) dX3_reads_5 (fun H_7 locs_8 hO_6 hU_5 hS_9 => ?_)
  have hO_6 : kO D H_7 a 2 [.ref ra, .ref sa, .int (kI ((sn : Nat) : Int)), .ref ka, .int (kI (kb (ik))), .ref ta, .int (kI ((t.length : Nat) : Int)), .int (kI (th)), .int (kI ((spn : Nat) : Int)), .int (kI (kb (iw))), .int (kI (98)), .int (kI (fi)), .int (kI (se))] := hO_6
  have hzu_10 := hU_5.1
  refine lv_aload_n hx hb dX3_reads_8 rfl (lv_at hl 0 rfl) ?_
  refine lv_aload_n hx hb dX3_reads_9 rfl (lv_at hl 0 rfl) ?_
  refine kx_get (v := .int (kI (98))) (C := RX3) (T := TX3) (N := 13) hx hb hts in_X3 hown hK hO_6 rfl 10 (by decide) q2248 (fun _ h9 => h9) rfl dX3_reads_10 ?_
  refine kx_bipush hx hb (by decide) dX3_reads_13 ?_
  refine kx_icmp_eq (x := 98) (y := 110) (tgt := 81) hx hb dX3_reads_15 (by decide) (by omega) (by omega) (by omega) (by omega) (fun c_15_11 => ?_) (fun c_15_11 => ?_)
  · -- taken at 15
    exfalso; omega
  · -- not taken at 15
    refine lv_aload_n hx hb dX3_reads_18 rfl (lv_at hl 0 rfl) ?_
    refine kx_get (v := .int (kI (98))) (C := RX3) (T := TX3) (N := 13) hx hb hts in_X3 hown hK hO_6 rfl 10 (by decide) q2248 (fun _ h9 => h9) rfl dX3_reads_19 ?_
    refine kx_bipush hx hb (by decide) dX3_reads_22 ?_
    refine kx_icmp_eq (x := 98) (y := 115) (tgt := 81) hx hb dX3_reads_24 (by decide) (by omega) (by omega) (by omega) (by omega) (fun c_24_12 => ?_) (fun c_24_12 => ?_)
    · -- taken at 24
      exfalso; omega
    · -- not taken at 24
      refine lv_aload_n hx hb dX3_reads_27 rfl (lv_at hl 0 rfl) ?_
      refine kx_get (v := .int (kI (98))) (C := RX3) (T := TX3) (N := 13) hx hb hts in_X3 hown hK hO_6 rfl 10 (by decide) q2248 (fun _ h9 => h9) rfl dX3_reads_28 ?_
      refine kx_bipush hx hb (by decide) dX3_reads_31 ?_
      refine kx_icmp_eq (x := 98) (y := 119) (tgt := 81) hx hb dX3_reads_33 (by decide) (by omega) (by omega) (by omega) (by omega) (fun c_33_13 => ?_) (fun c_33_13 => ?_)
      · -- taken at 33
        exfalso; omega
      · -- not taken at 33
        refine lv_aload_n hx hb dX3_reads_36 rfl (lv_at hl 0 rfl) ?_
        refine kx_get (v := .int (kI (98))) (C := RX3) (T := TX3) (N := 13) hx hb hts in_X3 hown hK hO_6 rfl 10 (by decide) q2248 (fun _ h9 => h9) rfl dX3_reads_37 ?_
        refine kx_bipush hx hb (by decide) dX3_reads_40 ?_
        refine kx_icmp_eq (x := 98) (y := 108) (tgt := 81) hx hb dX3_reads_42 (by decide) (by omega) (by omega) (by omega) (by omega) (fun c_42_14 => ?_) (fun c_42_14 => ?_)
        · -- taken at 42
          exfalso; omega
        · -- not taken at 42
          refine lv_aload_n hx hb dX3_reads_45 rfl (lv_at hl 0 rfl) ?_
          refine kx_get (v := .int (kI (98))) (C := RX3) (T := TX3) (N := 13) hx hb hts in_X3 hown hK hO_6 rfl 10 (by decide) q2248 (fun _ h9 => h9) rfl dX3_reads_46 ?_
          refine kx_bipush hx hb (by decide) dX3_reads_49 ?_
          refine kx_icmp_eq (x := 98) (y := 117) (tgt := 81) hx hb dX3_reads_51 (by decide) (by omega) (by omega) (by omega) (by omega) (fun c_51_15 => ?_) (fun c_51_15 => ?_)
          · -- taken at 51
            exfalso; omega
          · -- not taken at 51
            refine lv_aload_n hx hb dX3_reads_54 rfl (lv_at hl 0 rfl) ?_
            refine kx_get (v := .int (kI (98))) (C := RX3) (T := TX3) (N := 13) hx hb hts in_X3 hown hK hO_6 rfl 10 (by decide) q2248 (fun _ h9 => h9) rfl dX3_reads_55 ?_
            refine kx_bipush hx hb (by decide) dX3_reads_58 ?_
            refine kx_icmp_eq (x := 98) (y := 98) (tgt := 81) hx hb dX3_reads_60 (by decide) (by omega) (by omega) (by omega) (by omega) (fun c_60_16 => ?_) (fun c_60_16 => ?_)
            · -- taken at 60
              refine kx_iconst hx hb dX3_reads_81 ?_
              refine lv_goto (tgt := 86) hx hb dX3_reads_82 (by decide) ?_
              refine kx_put (v := .int (kI (kb (true)))) (C := RX3) (T := TX3) (N := 13) hx hb hts in_X3 hown hK hO_6 rfl 9 (by decide) tyX3 tyX3_ok nmX3 hS_9 (by first | rfl | exact Or.inl rfl | exact Or.inr rfl | exact Or.inr (Or.inl rfl) | exact Or.inr (Or.inr rfl) | exact Or.inr (Or.inr (Or.inl rfl)) | exact Or.inr (Or.inr (Or.inr rfl)) | ((try dsimp only); (try simp only [kNW]); omega)) q2247 (fun _ h9 => h9) rfl rfl (kb_narZ _) (kb_fitZ _) (Nat.le_of_ble_eq_true rfl) dX3_reads_86 (fun H_19 locs_20 hO_18 hU_17 hS_21 => ?_)
              have hO_18 : kO D H_19 a 2 [.ref ra, .ref sa, .int (kI ((sn : Nat) : Int)), .ref ka, .int (kI (kb (ik))), .ref ta, .int (kI ((t.length : Nat) : Int)), .int (kI (th)), .int (kI ((spn : Nat) : Int)), .int (kI (kb (true))), .int (kI (98)), .int (kI (fi)), .int (kI (se))] := hO_18
              have hzu_22 := hU_17.1
              refine lv_aload_n hx hb dX3_reads_89 rfl (lv_at hl 0 rfl) ?_
              refine lv_dup hx hb dX3_reads_90 rfl ?_
              refine kx_get (v := .int (kI ((spn : Nat) : Int))) (C := RX3) (T := TX3) (N := 13) hx hb hts in_X3 hown hK hO_18 rfl 8 (by decide) q2246 (fun _ h9 => h9) rfl dX3_reads_91 ?_
              refine lv_aload_n hx hb dX3_reads_94 rfl (lv_at hl 0 rfl) ?_
              refine kx_get (v := .int (kI (kb (true)))) (C := RX3) (T := TX3) (N := 13) hx hb hts in_X3 hown hK hO_18 rfl 9 (by decide) q2247 (fun _ h9 => h9) rfl dX3_reads_95 ?_
              refine kx_ifz (tgt := 105) hx hb dX3_reads_98 (by decide) (fun c_98_23 => ?_) (fun c_98_23 => ?_)
              · -- taken at 98
                exact absurd c_98_23 (by decide)
              · -- not taken at 98
                refine kx_iconst hx hb dX3_reads_101 ?_
                refine lv_goto (tgt := 106) hx hb dX3_reads_102 (by decide) ?_
                refine kx_iadd hx hb dX3_reads_106 ?_
                refine kx_eqi (((spn + 1 : Nat) : Int)) (by omega) ?_
                refine kx_put (v := .int (kI ((spn + 1 : Nat) : Int))) (C := RX3) (T := TX3) (N := 13) hx hb hts in_X3 hown hK hO_18 rfl 8 (by decide) tyX3 tyX3_ok nmX3 hS_21 (by first | rfl | exact Or.inl rfl | exact Or.inr rfl | exact Or.inr (Or.inl rfl) | exact Or.inr (Or.inr rfl) | exact Or.inr (Or.inr (Or.inl rfl)) | exact Or.inr (Or.inr (Or.inr rfl)) | ((try dsimp only); (try simp only [kNW]); omega)) q2246 (fun _ h9 => h9) rfl rfl rfl rfl (Nat.le_of_ble_eq_true rfl) dX3_reads_107 (fun H_26 locs_27 hO_25 hU_24 hS_28 => ?_)
                have hO_25 : kO D H_26 a 2 [.ref ra, .ref sa, .int (kI ((sn : Nat) : Int)), .ref ka, .int (kI (kb (ik))), .ref ta, .int (kI ((t.length : Nat) : Int)), .int (kI (th)), .int (kI ((spn + 1 : Nat) : Int)), .int (kI (kb (true))), .int (kI (98)), .int (kI (fi)), .int (kI (se))] := hO_25
                have hzu_29 := hU_24.1
                refine lv_aload_n hx hb dX3_reads_110 rfl (lv_at hl 0 rfl) ?_
                refine lv_aload_n hx hb dX3_reads_111 rfl (lv_at hl 0 rfl) ?_
                refine kx_get (v := .int (kI ((spn + 1 : Nat) : Int))) (C := RX3) (T := TX3) (N := 13) hx hb hts in_X3 hown hK hO_25 rfl 8 (by decide) q2246 (fun _ h9 => h9) rfl dX3_reads_112 ?_
                refine kx_put (v := .int (kI ((spn + 1 : Nat) : Int))) (C := RX3) (T := TX3) (N := 13) hx hb hts in_X3 hown hK hO_25 rfl 11 (by decide) tyX3 tyX3_ok nmX3 hS_28 (by first | rfl | exact Or.inl rfl | exact Or.inr rfl | exact Or.inr (Or.inl rfl) | exact Or.inr (Or.inr rfl) | exact Or.inr (Or.inr (Or.inl rfl)) | exact Or.inr (Or.inr (Or.inr rfl)) | ((try dsimp only); (try simp only [kNW]); omega)) q2249 (fun _ h9 => h9) rfl rfl rfl rfl (Nat.le_of_ble_eq_true rfl) dX3_reads_115 (fun H_32 locs_33 hO_31 hU_30 hS_34 => ?_)
                have hO_31 : kO D H_32 a 2 [.ref ra, .ref sa, .int (kI ((sn : Nat) : Int)), .ref ka, .int (kI (kb (ik))), .ref ta, .int (kI ((t.length : Nat) : Int)), .int (kI (th)), .int (kI ((spn + 1 : Nat) : Int)), .int (kI (kb (true))), .int (kI (98)), .int (kI ((spn + 1 : Nat) : Int)), .int (kI (se))] := hO_31
                have hzu_35 := hU_30.1
                refine lv_aload_n hx hb dX3_reads_118 rfl (lv_at hl 0 rfl) ?_
                refine kx_iconst hx hb dX3_reads_119 ?_
                refine kx_put (v := .int (kI (0))) (C := RX3) (T := TX3) (N := 13) hx hb hts in_X3 hown hK hO_31 rfl 12 (by decide) tyX3 tyX3_ok nmX3 hS_34 (by first | rfl | exact Or.inl rfl | exact Or.inr rfl | exact Or.inr (Or.inl rfl) | exact Or.inr (Or.inr rfl) | exact Or.inr (Or.inr (Or.inl rfl)) | exact Or.inr (Or.inr (Or.inr rfl)) | ((try dsimp only); (try simp only [kNW]); omega)) q2250 (fun _ h9 => h9) rfl rfl rfl rfl (Nat.le_of_ble_eq_true rfl) dX3_reads_120 (fun H_38 locs_39 hO_37 hU_36 hS_40 => ?_)
                have hO_37 : kO D H_38 a 2 [.ref ra, .ref sa, .int (kI ((sn : Nat) : Int)), .ref ka, .int (kI (kb (ik))), .ref ta, .int (kI ((t.length : Nat) : Int)), .int (kI (th)), .int (kI ((spn + 1 : Nat) : Int)), .int (kI (kb (true))), .int (kI (98)), .int (kI ((spn + 1 : Nat) : Int)), .int (kI (0))] := hO_37
                have hzu_41 := hU_36.1
                refine lv_aload_n hx hb dX3_reads_123 rfl (lv_at hl 0 rfl) ?_
                refine kx_get (v := .int (kI (98))) (C := RX3) (T := TX3) (N := 13) hx hb hts in_X3 hown hK hO_37 rfl 10 (by decide) q2248 (fun _ h9 => h9) rfl dX3_reads_124 ?_
                refine kx_bipush hx hb (by decide) dX3_reads_127 ?_
                refine kx_icmp_ne (x := 98) (y := 115) (tgt := 193) hx hb dX3_reads_129 (by decide) (by omega) (by omega) (by omega) (by omega) (fun c_129_42 => ?_) (fun c_129_42 => ?_)
                · -- taken at 129
                  refine lv_aload_n hx hb dX3_reads_193 rfl (lv_at hl 0 rfl) ?_
                  refine kx_get (v := .int (kI (98))) (C := RX3) (T := TX3) (N := 13) hx hb hts in_X3 hown hK hO_37 rfl 10 (by decide) q2248 (fun _ h9 => h9) rfl dX3_reads_194 ?_
                  refine kx_bipush hx hb (by decide) dX3_reads_197 ?_
                  refine kx_icmp_eq (x := 98) (y := 97) (tgt := 336) hx hb dX3_reads_199 (by decide) (by omega) (by omega) (by omega) (by omega) (fun c_199_43 => ?_) (fun c_199_43 => ?_)
                  · -- taken at 199
                    exfalso; omega
                  · -- not taken at 199
                    refine lv_aload_n hx hb dX3_reads_202 rfl (lv_at hl 0 rfl) ?_
                    refine kx_get (v := .int (kI (kb (true)))) (C := RX3) (T := TX3) (N := 13) hx hb hts in_X3 hown hK hO_37 rfl 9 (by decide) q2247 (fun _ h9 => h9) rfl dX3_reads_203 ?_
                    refine kx_ifz (tgt := 336) hx hb dX3_reads_206 (by decide) (fun c_206_44 => ?_) (fun c_206_44 => ?_)
                    · -- taken at 206
                      exact absurd c_206_44 (by decide)
                    · -- not taken at 206
                      refine lv_aload_n hx hb dX3_reads_209 rfl (lv_at hl 0 rfl) ?_
                      refine lv_aload_n hx hb dX3_reads_210 rfl (lv_at hl 0 rfl) ?_
                      refine lv_aload_n hx hb dX3_reads_211 rfl (lv_at hl 0 rfl) ?_
                      refine kx_get (v := .int (kI (98))) (C := RX3) (T := TX3) (N := 13) hx hb hts in_X3 hown hK hO_37 rfl 10 (by decide) q2248 (fun _ h9 => h9) rfl dX3_reads_212 ?_
                      refine kx_bipush hx hb (by decide) dX3_reads_215 ?_
                      refine kx_icmp_ne (x := 98) (y := 103) (tgt := 224) hx hb dX3_reads_217 (by decide) (by omega) (by omega) (by omega) (by omega) (fun c_217_45 => ?_) (fun c_217_45 => ?_)
                      · -- taken at 217
                        refine kx_iconst hx hb dX3_reads_224 ?_
                        refine lv_aload_n hx hb dX3_reads_225 rfl (lv_at hl 0 rfl) ?_
                        refine kx_get (v := .int (kI (98))) (C := RX3) (T := TX3) (N := 13) hx hb hts in_X3 hown hK hO_37 rfl 10 (by decide) q2248 (fun _ h9 => h9) rfl dX3_reads_226 ?_
                        refine kx_bipush hx hb (by decide) dX3_reads_229 ?_
                        refine kx_icmp_ne (x := 98) (y := 110) (tgt := 239) hx hb dX3_reads_231 (by decide) (by omega) (by omega) (by omega) (by omega) (fun c_231_46 => ?_) (fun c_231_46 => ?_)
                        · -- taken at 231
                          refine lv_aload_n hx hb dX3_reads_239 rfl (lv_at hl 0 rfl) ?_
                          refine kx_get (v := .int (kI (98))) (C := RX3) (T := TX3) (N := 13) hx hb hts in_X3 hown hK hO_37 rfl 10 (by decide) q2248 (fun _ h9 => h9) rfl dX3_reads_240 ?_
                          refine kx_bipush hx hb (by decide) dX3_reads_243 ?_
                          refine kx_icmp_ne (x := 98) (y := 103) (tgt := 253) hx hb dX3_reads_245 (by decide) (by omega) (by omega) (by omega) (by omega) (fun c_245_47 => ?_) (fun c_245_47 => ?_)
                          · -- taken at 245
                            refine kx_bipush hx hb (by decide) dX3_reads_253 ?_
                            by_cases hq : tx_numOK t 0 7 (spn + 1)
                            · -- hq t
                              have h_48 := hA_ta.up hU_5 (by first | assumption | exact Ne.symm (by assumption) | omega | (have h9 := hA_ta.lt; omega))
                              have h_49 := h_48.up hU_17 (by first | assumption | exact Ne.symm (by assumption) | omega | (have h9 := h_48.lt; omega))
                              have h_50 := h_49.up hU_24 (by first | assumption | exact Ne.symm (by assumption) | omega | (have h9 := h_49.lt; omega))
                              have h_51 := h_50.up hU_30 (by first | assumption | exact Ne.symm (by assumption) | omega | (have h9 := h_50.lt; omega))
                              have h_52 := h_51.up hU_36 (by first | assumption | exact Ne.symm (by assumption) | omega | (have h9 := h_51.lt; omega))
                              refine kx_ci (va_runV (As := [.int (kI (0)), .int (kI (7))]) (rest := [.ref a]) ⟨hx, hb, hml, hown, hts⟩ (m_num_t l D H_38 a ra sa ka ta sn ik th 98 (((spn + 1 : Nat) : Int)) 0 (spn + 1) gt t 0 7 hO_37 h_52 (by first | assumption | omega) (by first | assumption | omega) (by first | assumption | omega) (by first | assumption | omega) (by first | assumption | omega) (by first | assumption | omega) (by first | assumption | omega)) (cwV 2 hts (lw_V q2613 q2615 qs75 q89 q2616) rfl rfl rfl (by decide +kernel) ⟨Nat.le_of_ble_eq_true rfl, Nat.le_of_ble_eq_true rfl⟩) (kx_pv hK hS_40 hB (kx_rc hK hO_37 (C := RX3) (T := TX3) (N := 13) rfl)) rfl rfl hl.1 rfl (lv_room (Nat.le_of_ble_eq_true rfl)) dX3_reads_255 ⟨by first | exact Nat.le_of_ble_eq_true rfl | omega | (show _ ≤ _; omega) | (dsimp only [headSpec]; omega), by first | exact Nat.le_of_ble_eq_true rfl | omega | (show _ ≤ _; omega) | (dsimp only [headSpec]; omega)⟩) hS_40 (fun q _ h => by (try dsimp only at h); (try dsimp only); (try simp only [kNW] at h); (try simp only [kNW]); omega) (fun q h => by (try dsimp only at h); (try dsimp only); (try simp only [kNW] at h); (try simp only [kNW]); omega) (fun z_58 H_56 locs_53 hz_55 hF_57 hS_54 => ?_)
                              have hzf_59 := hF_57.1
                              refine W.widen (k := 0) (n := 0) (Nat.le_of_ble_eq_true rfl) (Nat.le_of_ble_eq_true rfl) ?_
                              obtain ⟨hv_60, ho_61⟩ := hz_55
                              subst z_58
                              refine kx_put (v := .int (kI ((tx_num t 7 (spn + 1)).1))) (C := RX3) (T := TX3) (N := 13) hx hb hts in_X3 hown hK ho_61 rfl 11 (by decide) tyX3 tyX3_ok nmX3 hS_54 (by first | rfl | exact Or.inl rfl | exact Or.inr rfl | exact Or.inr (Or.inl rfl) | exact Or.inr (Or.inr rfl) | exact Or.inr (Or.inr (Or.inl rfl)) | exact Or.inr (Or.inr (Or.inr rfl)) | ((try dsimp only); (try simp only [kNW]); omega)) q2249 (fun _ h9 => h9) rfl rfl rfl rfl (Nat.le_of_ble_eq_true rfl) dX3_reads_258 (fun H_64 locs_65 hO_63 hU_62 hS_66 => ?_)
                              have hO_63 : kO D H_64 a 2 [.ref ra, .ref sa, .int (kI ((sn : Nat) : Int)), .ref ka, .int (kI (kb (ik))), .ref ta, .int (kI ((t.length : Nat) : Int)), .int (kI (th)), .int (kI (((tx_num t 7 (spn + 1)).2 : Nat) : Int)), .int (kI (kb (true))), .int (kI (98)), .int (kI ((tx_num t 7 (spn + 1)).1)), .int (kI (0))] := hO_63
                              have hzu_67 := hU_62.1
                              refine lv_aload_n hx hb dX3_reads_261 rfl (lv_at hl 0 rfl) ?_
                              refine kx_get (v := .int (kI (98))) (C := RX3) (T := TX3) (N := 13) hx hb hts in_X3 hown hK hO_63 rfl 10 (by decide) q2248 (fun _ h9 => h9) rfl dX3_reads_262 ?_
                              refine kx_bipush hx hb (by decide) dX3_reads_265 ?_
                              refine kx_icmp_eq (x := 98) (y := 110) (tgt := 279) hx hb dX3_reads_267 (by decide) (by omega) (by omega) (by omega) (by omega) (fun c_267_68 => ?_) (fun c_267_68 => ?_)
                              · -- taken at 267
                                exfalso; omega
                              · -- not taken at 267
                                refine lv_aload_n hx hb dX3_reads_270 rfl (lv_at hl 0 rfl) ?_
                                refine kx_get (v := .int (kI (98))) (C := RX3) (T := TX3) (N := 13) hx hb hts in_X3 hown hK hO_63 rfl 10 (by decide) q2248 (fun _ h9 => h9) rfl dX3_reads_271 ?_
                                refine kx_bipush hx hb (by decide) dX3_reads_274 ?_
                                refine kx_icmp_ne (x := 98) (y := 108) (tgt := 336) hx hb dX3_reads_276 (by decide) (by omega) (by omega) (by omega) (by omega) (fun c_276_69 => ?_) (fun c_276_69 => ?_)
                                · -- taken at 276
                                  have hrd_70 : rdW t spn = (true, (tx_num t 7 (spn + 1)).2, (tx_num t 7 (spn + 1)).1, 0) := by rw [rdW, if_neg (by omega), if_neg (by omega), if_neg (by omega), if_neg (by omega), if_pos (by omega), rdW.rdOne, if_pos hq]
                                  have hOz_71 : kO D H_64 a 2 [.ref ra, .ref sa, .int (kI ((sn : Nat) : Int)), .ref ka, .int (kI (kb (ik))), .ref ta, .int (kI ((t.length : Nat) : Int)), .int (kI (th)), .int (kI (((rdW t spn).2.1 : Nat) : Int)), .int (kI (kb ((rdW t spn).1))), .int (kI (tsg t spn)), .int (kI ((rdW t spn).2.2.1)), .int (kI ((rdW t spn).2.2.2))] := by rw [hrd_70, hlt9]; exact hO_63
                                  exact kx_vret hx hb hr hlk (hOz_71) hS_66 dX3_reads_336
                                · -- not taken at 276
                                  exfalso; omega
                            · -- hq f
                              have h_72 := hA_ta.up hU_5 (by first | assumption | exact Ne.symm (by assumption) | omega | (have h9 := hA_ta.lt; omega))
                              have h_73 := h_72.up hU_17 (by first | assumption | exact Ne.symm (by assumption) | omega | (have h9 := h_72.lt; omega))
                              have h_74 := h_73.up hU_24 (by first | assumption | exact Ne.symm (by assumption) | omega | (have h9 := h_73.lt; omega))
                              have h_75 := h_74.up hU_30 (by first | assumption | exact Ne.symm (by assumption) | omega | (have h9 := h_74.lt; omega))
                              have h_76 := h_75.up hU_36 (by first | assumption | exact Ne.symm (by assumption) | omega | (have h9 := h_75.lt; omega))
                              refine kx_ci (va_runV (As := [.int (kI (0)), .int (kI (7))]) (rest := [.ref a]) ⟨hx, hb, hml, hown, hts⟩ (m_num_f l D H_38 a ra sa ka ta sn ik th 98 (((spn + 1 : Nat) : Int)) 0 (spn + 1) gt t 0 7 hO_37 h_76 (by first | assumption | omega) (by first | assumption | omega) (by first | assumption | omega) (by first | assumption | omega) (by first | assumption | omega) (by first | assumption | omega) (by first | assumption | omega)) (cwV 2 hts (lw_V q2613 q2615 qs75 q89 q2616) rfl rfl rfl (by decide +kernel) ⟨Nat.le_of_ble_eq_true rfl, Nat.le_of_ble_eq_true rfl⟩) (kx_pv hK hS_40 hB (kx_rc hK hO_37 (C := RX3) (T := TX3) (N := 13) rfl)) rfl rfl hl.1 rfl (lv_room (Nat.le_of_ble_eq_true rfl)) dX3_reads_255 ⟨by first | exact Nat.le_of_ble_eq_true rfl | omega | (show _ ≤ _; omega) | (dsimp only [headSpec]; omega), by first | exact Nat.le_of_ble_eq_true rfl | omega | (show _ ≤ _; omega) | (dsimp only [headSpec]; omega)⟩) hS_40 (fun q _ h => by (try dsimp only at h); (try dsimp only); (try simp only [kNW] at h); (try simp only [kNW]); omega) (fun q h => by (try dsimp only at h); (try dsimp only); (try simp only [kNW] at h); (try simp only [kNW]); omega) (fun z_82 H_80 locs_77 hz_79 hF_81 hS_78 => ?_)
                              have hzf_83 := hF_81.1
                              refine W.widen (k := 0) (n := 0) (Nat.le_of_ble_eq_true rfl) (Nat.le_of_ble_eq_true rfl) ?_
                              obtain ⟨hv_84, ho_85⟩ := hz_79
                              subst z_82
                              refine kx_put (v := .int (kI (tsg t (spn + 1) - 48))) (C := RX3) (T := TX3) (N := 13) hx hb hts in_X3 hown hK ho_85 rfl 11 (by decide) tyX3 tyX3_ok nmX3 hS_78 (by first | rfl | exact Or.inl rfl | exact Or.inr rfl | exact Or.inr (Or.inl rfl) | exact Or.inr (Or.inr rfl) | exact Or.inr (Or.inr (Or.inl rfl)) | exact Or.inr (Or.inr (Or.inr rfl)) | ((try dsimp only); (try simp only [kNW]); omega)) q2249 (fun _ h9 => h9) rfl rfl rfl rfl (Nat.le_of_ble_eq_true rfl) dX3_reads_258 (fun H_88 locs_89 hO_87 hU_86 hS_90 => ?_)
                              have hO_87 : kO D H_88 a 2 [.ref ra, .ref sa, .int (kI ((sn : Nat) : Int)), .ref ka, .int (kI (kb (ik))), .ref ta, .int (kI ((t.length : Nat) : Int)), .int (kI (th)), .int (kI (((spn + 1) : Nat) : Int)), .int (kI (kb (false))), .int (kI (98)), .int (kI (tsg t (spn + 1) - 48)), .int (kI (0))] := hO_87
                              have hzu_91 := hU_86.1
                              refine lv_aload_n hx hb dX3_reads_261 rfl (lv_at hl 0 rfl) ?_
                              refine kx_get (v := .int (kI (98))) (C := RX3) (T := TX3) (N := 13) hx hb hts in_X3 hown hK hO_87 rfl 10 (by decide) q2248 (fun _ h9 => h9) rfl dX3_reads_262 ?_
                              refine kx_bipush hx hb (by decide) dX3_reads_265 ?_
                              refine kx_icmp_eq (x := 98) (y := 110) (tgt := 279) hx hb dX3_reads_267 (by decide) (by omega) (by omega) (by omega) (by omega) (fun c_267_92 => ?_) (fun c_267_92 => ?_)
                              · -- taken at 267
                                exfalso; omega
                              · -- not taken at 267
                                refine lv_aload_n hx hb dX3_reads_270 rfl (lv_at hl 0 rfl) ?_
                                refine kx_get (v := .int (kI (98))) (C := RX3) (T := TX3) (N := 13) hx hb hts in_X3 hown hK hO_87 rfl 10 (by decide) q2248 (fun _ h9 => h9) rfl dX3_reads_271 ?_
                                refine kx_bipush hx hb (by decide) dX3_reads_274 ?_
                                refine kx_icmp_ne (x := 98) (y := 108) (tgt := 336) hx hb dX3_reads_276 (by decide) (by omega) (by omega) (by omega) (by omega) (fun c_276_93 => ?_) (fun c_276_93 => ?_)
                                · -- taken at 276
                                  have hrd_94 : rdW t spn = (false, (spn + 1), tsg t (spn + 1) - 48, 0) := by rw [rdW, if_neg (by omega), if_neg (by omega), if_neg (by omega), if_neg (by omega), if_pos (by omega), rdW.rdOne, if_neg hq]
                                  have hOz_95 : kO D H_88 a 2 [.ref ra, .ref sa, .int (kI ((sn : Nat) : Int)), .ref ka, .int (kI (kb (ik))), .ref ta, .int (kI ((t.length : Nat) : Int)), .int (kI (th)), .int (kI (((rdW t spn).2.1 : Nat) : Int)), .int (kI (kb ((rdW t spn).1))), .int (kI (tsg t spn)), .int (kI ((rdW t spn).2.2.1)), .int (kI ((rdW t spn).2.2.2))] := by rw [hrd_94, hlt9]; exact hO_87
                                  exact kx_vret hx hb hr hlk (hOz_95) hS_90 dX3_reads_336
                                · -- not taken at 276
                                  exfalso; omega
                          · -- not taken at 245
                            exfalso; omega
                        · -- not taken at 231
                          exfalso; omega
                      · -- not taken at 217
                        exfalso; omega
                · -- not taken at 129
                  exfalso; omega
            · -- not taken at 60
              exfalso; omega

set_option maxHeartbeats 4000000 in
set_option maxRecDepth 100000 in
theorem m_reads_g (l : Launch) (D : kG) (H : Heap) (a : Nat) (ra : Nat) (sa : Nat) (ka : Nat) (ta : Nat) (sn : Nat) (ik : Bool) (th : Int) (spn : Nat) (gt : Nat → Int) (t : List Int) (iw : Bool) (le : Int) (fi : Int) (se : Int) (hO_a : kO D H a 2 [.ref ra, .ref sa, .int (kI ((sn : Nat) : Int)), .ref ka, .int (kI (kb (ik))), .ref ta, .int (kI ((t.length : Nat) : Int)), .int (kI (th)), .int (kI ((spn : Nat) : Int)), .int (kI (kb (iw))), .int (kI (le)), .int (kI (fi)), .int (kI (se))]) (hA_ta : kAi D H ta 60 gt) (hsp : spn ≤ 1000) (hT : MTx gt t) (ht60 : t.length ≤ 60) (ne_a_ta : a ≠ ta) (bs_a : kBase D ≤ a) (hlt9 : tsg t spn = 103) : Met l yX3_reads (ws_ yX3_reads cX3_reads 1 none) ({ frames := 2, cells := 0, slots := 0, locals := 45 } : Room) (kPre D H [.ref a]) (kQv (fun H' => (kO D H' a 2 [.ref ra, .ref sa, .int (kI ((sn : Nat) : Int)), .ref ka, .int (kI (kb (ik))), .ref ta, .int (kI ((t.length : Nat) : Int)), .int (kI (th)), .int (kI (((rdW t spn).2.1 : Nat) : Int)), .int (kI (kb ((rdW t spn).1))), .int (kI (tsg t spn)), .int (kI ((rdW t spn).2.2.1)), .int (kI ((rdW t spn).2.2.2))])) (fun q : Nat => q = a)) (0) (0) ((fun q : Nat => q = a)) := by
  refine Met.ofW (cc := cX3_reads) (maxL := 1) (ret := none) (by decide) rfl ?_
  intro p e s m args below meth c s₁ B hml hv
  obtain ⟨rfl, hH, hK⟩ := hv
  subst hH
  have hx := B.exec
  have hb := B.bytes
  have hr := B.returns
  have hts := atoms_spec (ws := ws_ yX3_reads cX3_reads 1 none) B.pre
  have hts : ∀ w ∈ lw_all, w.before _ s = true := fun w h => hts w (List.mem_cons_of_mem _ h)
  have hown : s.vm.findClass RX3 = some m.cls := findClass_of_methodNamed B.named
  have hlk := B.notSynchronized
  have hS : va_S (fun q : Nat => q = a) s.heap s.heap [] := va_S.rf
  have hB : ∀ q, (fun q : Nat => q = a) q → kBase D ≤ q := fun q h => by (try dsimp only at h); (try simp only [kNW] at h); have hks := hK.size; omega
  have hl := lv_entry ([.ref a]) (n := 1) (Nat.le_of_ble_eq_true rfl)
  rw [lg_entry_eq]
  generalize (lg_sl ([.ref a]) ++ List.replicate (1 - (lg_sl ([.ref a])).length) Slot.unset).toArray = ls at hl ⊢
  have hl : lv_has ls 1 [(0, .ref a)] := hl
  have hlt := hT.lt (i := spn) (by omega)
  refine lv_aload_n hx hb dX3_reads_0 rfl (lv_at hl 0 rfl) ?_
  refine lv_aload_n hx hb dX3_reads_1 rfl (lv_at hl 0 rfl) ?_
  refine kx_ci0 (va_runV (As := []) (rest := [.ref a]) ⟨hx, hb, hml, hown, hts⟩ (m_X3_sign l D s.heap a ra sa ka ta sn ik th iw le fi se spn gt t hO_a hA_ta (by first | assumption | omega) (by first | assumption | omega) (by first | assumption | omega) (by first | assumption | omega) (by first | assumption | omega)) (cwV 0 hts (lw_V q2609 q2611 qs74 q89 q2612) rfl rfl rfl (by decide +kernel) ⟨Nat.le_of_ble_eq_true rfl, Nat.le_of_ble_eq_true rfl⟩) (kx_pv hK hS hB (kx_rc hK hO_a (C := RX3) (T := TX3) (N := 13) rfl)) rfl rfl hl.1 rfl (lv_room (Nat.le_of_ble_eq_true rfl)) dX3_reads_2 ⟨by first | exact Nat.le_of_ble_eq_true rfl | omega | (show _ ≤ _; omega) | (dsimp only [headSpec]; omega), by first | exact Nat.le_of_ble_eq_true rfl | omega | (show _ ≤ _; omega) | (dsimp only [headSpec]; omega)⟩) hS (fun z_4 locs_1 hz_3 hS_2 => ?_)
  subst z_4
  refine kx_eqi (103) (hlt9) ?_
  refine kx_put (v := .int (kI (103))) (C := RX3) (T := TX3) (N := 13) hx hb hts in_X3 hown hK hO_a rfl 10 (by decide) tyX3 tyX3_ok nmX3 hS_2 (by first | rfl | exact Or.inl rfl | exact Or.inr rfl | exact Or.inr (Or.inl rfl) | exact Or.inr (Or.inr rfl) | exact Or.inr (Or.inr (Or.inl rfl)) | exact Or.inr (Or.inr (Or.inr rfl)) | ((try dsimp only); (try simp only [kNW]); omega)) q2248 (fun _ h9 => h9) rfl rfl rfl rfl (Nat.le_of_ble_eq_true rfl) dX3_reads_5 (fun H_7 locs_8 hO_6 hU_5 hS_9 => ?_)
  have hO_6 : kO D H_7 a 2 [.ref ra, .ref sa, .int (kI ((sn : Nat) : Int)), .ref ka, .int (kI (kb (ik))), .ref ta, .int (kI ((t.length : Nat) : Int)), .int (kI (th)), .int (kI ((spn : Nat) : Int)), .int (kI (kb (iw))), .int (kI (103)), .int (kI (fi)), .int (kI (se))] := hO_6
  have hzu_10 := hU_5.1
  refine lv_aload_n hx hb dX3_reads_8 rfl (lv_at hl 0 rfl) ?_
  refine lv_aload_n hx hb dX3_reads_9 rfl (lv_at hl 0 rfl) ?_
  refine kx_get (v := .int (kI (103))) (C := RX3) (T := TX3) (N := 13) hx hb hts in_X3 hown hK hO_6 rfl 10 (by decide) q2248 (fun _ h9 => h9) rfl dX3_reads_10 ?_
  refine kx_bipush hx hb (by decide) dX3_reads_13 ?_
  refine kx_icmp_eq (x := 103) (y := 110) (tgt := 81) hx hb dX3_reads_15 (by decide) (by omega) (by omega) (by omega) (by omega) (fun c_15_11 => ?_) (fun c_15_11 => ?_)
  · -- taken at 15
    exfalso; omega
  · -- not taken at 15
    refine lv_aload_n hx hb dX3_reads_18 rfl (lv_at hl 0 rfl) ?_
    refine kx_get (v := .int (kI (103))) (C := RX3) (T := TX3) (N := 13) hx hb hts in_X3 hown hK hO_6 rfl 10 (by decide) q2248 (fun _ h9 => h9) rfl dX3_reads_19 ?_
    refine kx_bipush hx hb (by decide) dX3_reads_22 ?_
    refine kx_icmp_eq (x := 103) (y := 115) (tgt := 81) hx hb dX3_reads_24 (by decide) (by omega) (by omega) (by omega) (by omega) (fun c_24_12 => ?_) (fun c_24_12 => ?_)
    · -- taken at 24
      exfalso; omega
    · -- not taken at 24
      refine lv_aload_n hx hb dX3_reads_27 rfl (lv_at hl 0 rfl) ?_
      refine kx_get (v := .int (kI (103))) (C := RX3) (T := TX3) (N := 13) hx hb hts in_X3 hown hK hO_6 rfl 10 (by decide) q2248 (fun _ h9 => h9) rfl dX3_reads_28 ?_
      refine kx_bipush hx hb (by decide) dX3_reads_31 ?_
      refine kx_icmp_eq (x := 103) (y := 119) (tgt := 81) hx hb dX3_reads_33 (by decide) (by omega) (by omega) (by omega) (by omega) (fun c_33_13 => ?_) (fun c_33_13 => ?_)
      · -- taken at 33
        exfalso; omega
      · -- not taken at 33
        refine lv_aload_n hx hb dX3_reads_36 rfl (lv_at hl 0 rfl) ?_
        refine kx_get (v := .int (kI (103))) (C := RX3) (T := TX3) (N := 13) hx hb hts in_X3 hown hK hO_6 rfl 10 (by decide) q2248 (fun _ h9 => h9) rfl dX3_reads_37 ?_
        refine kx_bipush hx hb (by decide) dX3_reads_40 ?_
        refine kx_icmp_eq (x := 103) (y := 108) (tgt := 81) hx hb dX3_reads_42 (by decide) (by omega) (by omega) (by omega) (by omega) (fun c_42_14 => ?_) (fun c_42_14 => ?_)
        · -- taken at 42
          exfalso; omega
        · -- not taken at 42
          refine lv_aload_n hx hb dX3_reads_45 rfl (lv_at hl 0 rfl) ?_
          refine kx_get (v := .int (kI (103))) (C := RX3) (T := TX3) (N := 13) hx hb hts in_X3 hown hK hO_6 rfl 10 (by decide) q2248 (fun _ h9 => h9) rfl dX3_reads_46 ?_
          refine kx_bipush hx hb (by decide) dX3_reads_49 ?_
          refine kx_icmp_eq (x := 103) (y := 117) (tgt := 81) hx hb dX3_reads_51 (by decide) (by omega) (by omega) (by omega) (by omega) (fun c_51_15 => ?_) (fun c_51_15 => ?_)
          · -- taken at 51
            exfalso; omega
          · -- not taken at 51
            refine lv_aload_n hx hb dX3_reads_54 rfl (lv_at hl 0 rfl) ?_
            refine kx_get (v := .int (kI (103))) (C := RX3) (T := TX3) (N := 13) hx hb hts in_X3 hown hK hO_6 rfl 10 (by decide) q2248 (fun _ h9 => h9) rfl dX3_reads_55 ?_
            refine kx_bipush hx hb (by decide) dX3_reads_58 ?_
            refine kx_icmp_eq (x := 103) (y := 98) (tgt := 81) hx hb dX3_reads_60 (by decide) (by omega) (by omega) (by omega) (by omega) (fun c_60_16 => ?_) (fun c_60_16 => ?_)
            · -- taken at 60
              exfalso; omega
            · -- not taken at 60
              refine lv_aload_n hx hb dX3_reads_63 rfl (lv_at hl 0 rfl) ?_
              refine kx_get (v := .int (kI (103))) (C := RX3) (T := TX3) (N := 13) hx hb hts in_X3 hown hK hO_6 rfl 10 (by decide) q2248 (fun _ h9 => h9) rfl dX3_reads_64 ?_
              refine kx_bipush hx hb (by decide) dX3_reads_67 ?_
              refine kx_icmp_eq (x := 103) (y := 97) (tgt := 81) hx hb dX3_reads_69 (by decide) (by omega) (by omega) (by omega) (by omega) (fun c_69_17 => ?_) (fun c_69_17 => ?_)
              · -- taken at 69
                exfalso; omega
              · -- not taken at 69
                refine lv_aload_n hx hb dX3_reads_72 rfl (lv_at hl 0 rfl) ?_
                refine kx_get (v := .int (kI (103))) (C := RX3) (T := TX3) (N := 13) hx hb hts in_X3 hown hK hO_6 rfl 10 (by decide) q2248 (fun _ h9 => h9) rfl dX3_reads_73 ?_
                refine kx_bipush hx hb (by decide) dX3_reads_76 ?_
                refine kx_icmp_ne (x := 103) (y := 103) (tgt := 85) hx hb dX3_reads_78 (by decide) (by omega) (by omega) (by omega) (by omega) (fun c_78_18 => ?_) (fun c_78_18 => ?_)
                · -- taken at 78
                  exfalso; omega
                · -- not taken at 78
                  refine kx_iconst hx hb dX3_reads_81 ?_
                  refine lv_goto (tgt := 86) hx hb dX3_reads_82 (by decide) ?_
                  refine kx_put (v := .int (kI (kb (true)))) (C := RX3) (T := TX3) (N := 13) hx hb hts in_X3 hown hK hO_6 rfl 9 (by decide) tyX3 tyX3_ok nmX3 hS_9 (by first | rfl | exact Or.inl rfl | exact Or.inr rfl | exact Or.inr (Or.inl rfl) | exact Or.inr (Or.inr rfl) | exact Or.inr (Or.inr (Or.inl rfl)) | exact Or.inr (Or.inr (Or.inr rfl)) | ((try dsimp only); (try simp only [kNW]); omega)) q2247 (fun _ h9 => h9) rfl rfl (kb_narZ _) (kb_fitZ _) (Nat.le_of_ble_eq_true rfl) dX3_reads_86 (fun H_21 locs_22 hO_20 hU_19 hS_23 => ?_)
                  have hO_20 : kO D H_21 a 2 [.ref ra, .ref sa, .int (kI ((sn : Nat) : Int)), .ref ka, .int (kI (kb (ik))), .ref ta, .int (kI ((t.length : Nat) : Int)), .int (kI (th)), .int (kI ((spn : Nat) : Int)), .int (kI (kb (true))), .int (kI (103)), .int (kI (fi)), .int (kI (se))] := hO_20
                  have hzu_24 := hU_19.1
                  refine lv_aload_n hx hb dX3_reads_89 rfl (lv_at hl 0 rfl) ?_
                  refine lv_dup hx hb dX3_reads_90 rfl ?_
                  refine kx_get (v := .int (kI ((spn : Nat) : Int))) (C := RX3) (T := TX3) (N := 13) hx hb hts in_X3 hown hK hO_20 rfl 8 (by decide) q2246 (fun _ h9 => h9) rfl dX3_reads_91 ?_
                  refine lv_aload_n hx hb dX3_reads_94 rfl (lv_at hl 0 rfl) ?_
                  refine kx_get (v := .int (kI (kb (true)))) (C := RX3) (T := TX3) (N := 13) hx hb hts in_X3 hown hK hO_20 rfl 9 (by decide) q2247 (fun _ h9 => h9) rfl dX3_reads_95 ?_
                  refine kx_ifz (tgt := 105) hx hb dX3_reads_98 (by decide) (fun c_98_25 => ?_) (fun c_98_25 => ?_)
                  · -- taken at 98
                    exact absurd c_98_25 (by decide)
                  · -- not taken at 98
                    refine kx_iconst hx hb dX3_reads_101 ?_
                    refine lv_goto (tgt := 106) hx hb dX3_reads_102 (by decide) ?_
                    refine kx_iadd hx hb dX3_reads_106 ?_
                    refine kx_eqi (((spn + 1 : Nat) : Int)) (by omega) ?_
                    refine kx_put (v := .int (kI ((spn + 1 : Nat) : Int))) (C := RX3) (T := TX3) (N := 13) hx hb hts in_X3 hown hK hO_20 rfl 8 (by decide) tyX3 tyX3_ok nmX3 hS_23 (by first | rfl | exact Or.inl rfl | exact Or.inr rfl | exact Or.inr (Or.inl rfl) | exact Or.inr (Or.inr rfl) | exact Or.inr (Or.inr (Or.inl rfl)) | exact Or.inr (Or.inr (Or.inr rfl)) | ((try dsimp only); (try simp only [kNW]); omega)) q2246 (fun _ h9 => h9) rfl rfl rfl rfl (Nat.le_of_ble_eq_true rfl) dX3_reads_107 (fun H_28 locs_29 hO_27 hU_26 hS_30 => ?_)
                    have hO_27 : kO D H_28 a 2 [.ref ra, .ref sa, .int (kI ((sn : Nat) : Int)), .ref ka, .int (kI (kb (ik))), .ref ta, .int (kI ((t.length : Nat) : Int)), .int (kI (th)), .int (kI ((spn + 1 : Nat) : Int)), .int (kI (kb (true))), .int (kI (103)), .int (kI (fi)), .int (kI (se))] := hO_27
                    have hzu_31 := hU_26.1
                    refine lv_aload_n hx hb dX3_reads_110 rfl (lv_at hl 0 rfl) ?_
                    refine lv_aload_n hx hb dX3_reads_111 rfl (lv_at hl 0 rfl) ?_
                    refine kx_get (v := .int (kI ((spn + 1 : Nat) : Int))) (C := RX3) (T := TX3) (N := 13) hx hb hts in_X3 hown hK hO_27 rfl 8 (by decide) q2246 (fun _ h9 => h9) rfl dX3_reads_112 ?_
                    refine kx_put (v := .int (kI ((spn + 1 : Nat) : Int))) (C := RX3) (T := TX3) (N := 13) hx hb hts in_X3 hown hK hO_27 rfl 11 (by decide) tyX3 tyX3_ok nmX3 hS_30 (by first | rfl | exact Or.inl rfl | exact Or.inr rfl | exact Or.inr (Or.inl rfl) | exact Or.inr (Or.inr rfl) | exact Or.inr (Or.inr (Or.inl rfl)) | exact Or.inr (Or.inr (Or.inr rfl)) | ((try dsimp only); (try simp only [kNW]); omega)) q2249 (fun _ h9 => h9) rfl rfl rfl rfl (Nat.le_of_ble_eq_true rfl) dX3_reads_115 (fun H_34 locs_35 hO_33 hU_32 hS_36 => ?_)
                    have hO_33 : kO D H_34 a 2 [.ref ra, .ref sa, .int (kI ((sn : Nat) : Int)), .ref ka, .int (kI (kb (ik))), .ref ta, .int (kI ((t.length : Nat) : Int)), .int (kI (th)), .int (kI ((spn + 1 : Nat) : Int)), .int (kI (kb (true))), .int (kI (103)), .int (kI ((spn + 1 : Nat) : Int)), .int (kI (se))] := hO_33
                    have hzu_37 := hU_32.1
                    refine lv_aload_n hx hb dX3_reads_118 rfl (lv_at hl 0 rfl) ?_
                    refine kx_iconst hx hb dX3_reads_119 ?_
                    refine kx_put (v := .int (kI (0))) (C := RX3) (T := TX3) (N := 13) hx hb hts in_X3 hown hK hO_33 rfl 12 (by decide) tyX3 tyX3_ok nmX3 hS_36 (by first | rfl | exact Or.inl rfl | exact Or.inr rfl | exact Or.inr (Or.inl rfl) | exact Or.inr (Or.inr rfl) | exact Or.inr (Or.inr (Or.inl rfl)) | exact Or.inr (Or.inr (Or.inr rfl)) | ((try dsimp only); (try simp only [kNW]); omega)) q2250 (fun _ h9 => h9) rfl rfl rfl rfl (Nat.le_of_ble_eq_true rfl) dX3_reads_120 (fun H_40 locs_41 hO_39 hU_38 hS_42 => ?_)
                    have hO_39 : kO D H_40 a 2 [.ref ra, .ref sa, .int (kI ((sn : Nat) : Int)), .ref ka, .int (kI (kb (ik))), .ref ta, .int (kI ((t.length : Nat) : Int)), .int (kI (th)), .int (kI ((spn + 1 : Nat) : Int)), .int (kI (kb (true))), .int (kI (103)), .int (kI ((spn + 1 : Nat) : Int)), .int (kI (0))] := hO_39
                    have hzu_43 := hU_38.1
                    refine lv_aload_n hx hb dX3_reads_123 rfl (lv_at hl 0 rfl) ?_
                    refine kx_get (v := .int (kI (103))) (C := RX3) (T := TX3) (N := 13) hx hb hts in_X3 hown hK hO_39 rfl 10 (by decide) q2248 (fun _ h9 => h9) rfl dX3_reads_124 ?_
                    refine kx_bipush hx hb (by decide) dX3_reads_127 ?_
                    refine kx_icmp_ne (x := 103) (y := 115) (tgt := 193) hx hb dX3_reads_129 (by decide) (by omega) (by omega) (by omega) (by omega) (fun c_129_44 => ?_) (fun c_129_44 => ?_)
                    · -- taken at 129
                      refine lv_aload_n hx hb dX3_reads_193 rfl (lv_at hl 0 rfl) ?_
                      refine kx_get (v := .int (kI (103))) (C := RX3) (T := TX3) (N := 13) hx hb hts in_X3 hown hK hO_39 rfl 10 (by decide) q2248 (fun _ h9 => h9) rfl dX3_reads_194 ?_
                      refine kx_bipush hx hb (by decide) dX3_reads_197 ?_
                      refine kx_icmp_eq (x := 103) (y := 97) (tgt := 336) hx hb dX3_reads_199 (by decide) (by omega) (by omega) (by omega) (by omega) (fun c_199_45 => ?_) (fun c_199_45 => ?_)
                      · -- taken at 199
                        exfalso; omega
                      · -- not taken at 199
                        refine lv_aload_n hx hb dX3_reads_202 rfl (lv_at hl 0 rfl) ?_
                        refine kx_get (v := .int (kI (kb (true)))) (C := RX3) (T := TX3) (N := 13) hx hb hts in_X3 hown hK hO_39 rfl 9 (by decide) q2247 (fun _ h9 => h9) rfl dX3_reads_203 ?_
                        refine kx_ifz (tgt := 336) hx hb dX3_reads_206 (by decide) (fun c_206_46 => ?_) (fun c_206_46 => ?_)
                        · -- taken at 206
                          exact absurd c_206_46 (by decide)
                        · -- not taken at 206
                          refine lv_aload_n hx hb dX3_reads_209 rfl (lv_at hl 0 rfl) ?_
                          refine lv_aload_n hx hb dX3_reads_210 rfl (lv_at hl 0 rfl) ?_
                          refine lv_aload_n hx hb dX3_reads_211 rfl (lv_at hl 0 rfl) ?_
                          refine kx_get (v := .int (kI (103))) (C := RX3) (T := TX3) (N := 13) hx hb hts in_X3 hown hK hO_39 rfl 10 (by decide) q2248 (fun _ h9 => h9) rfl dX3_reads_212 ?_
                          refine kx_bipush hx hb (by decide) dX3_reads_215 ?_
                          refine kx_icmp_ne (x := 103) (y := 103) (tgt := 224) hx hb dX3_reads_217 (by decide) (by omega) (by omega) (by omega) (by omega) (fun c_217_47 => ?_) (fun c_217_47 => ?_)
                          · -- taken at 217
                            exfalso; omega
                          · -- not taken at 217
                            refine kx_iconst hx hb dX3_reads_220 ?_
                            refine lv_goto (tgt := 225) hx hb dX3_reads_221 (by decide) ?_
                            refine lv_aload_n hx hb dX3_reads_225 rfl (lv_at hl 0 rfl) ?_
                            refine kx_get (v := .int (kI (103))) (C := RX3) (T := TX3) (N := 13) hx hb hts in_X3 hown hK hO_39 rfl 10 (by decide) q2248 (fun _ h9 => h9) rfl dX3_reads_226 ?_
                            refine kx_bipush hx hb (by decide) dX3_reads_229 ?_
                            refine kx_icmp_ne (x := 103) (y := 110) (tgt := 239) hx hb dX3_reads_231 (by decide) (by omega) (by omega) (by omega) (by omega) (fun c_231_48 => ?_) (fun c_231_48 => ?_)
                            · -- taken at 231
                              refine lv_aload_n hx hb dX3_reads_239 rfl (lv_at hl 0 rfl) ?_
                              refine kx_get (v := .int (kI (103))) (C := RX3) (T := TX3) (N := 13) hx hb hts in_X3 hown hK hO_39 rfl 10 (by decide) q2248 (fun _ h9 => h9) rfl dX3_reads_240 ?_
                              refine kx_bipush hx hb (by decide) dX3_reads_243 ?_
                              refine kx_icmp_ne (x := 103) (y := 103) (tgt := 253) hx hb dX3_reads_245 (by decide) (by omega) (by omega) (by omega) (by omega) (fun c_245_49 => ?_) (fun c_245_49 => ?_)
                              · -- taken at 245
                                exfalso; omega
                              · -- not taken at 245
                                refine kx_bipush hx hb (by decide) dX3_reads_248 ?_
                                refine lv_goto (tgt := 255) hx hb dX3_reads_250 (by decide) ?_
                                by_cases hq : tx_numOK t 1 6 (spn + 1)
                                · -- hq t
                                  have h_50 := hA_ta.up hU_5 (by first | assumption | exact Ne.symm (by assumption) | omega | (have h9 := hA_ta.lt; omega))
                                  have h_51 := h_50.up hU_19 (by first | assumption | exact Ne.symm (by assumption) | omega | (have h9 := h_50.lt; omega))
                                  have h_52 := h_51.up hU_26 (by first | assumption | exact Ne.symm (by assumption) | omega | (have h9 := h_51.lt; omega))
                                  have h_53 := h_52.up hU_32 (by first | assumption | exact Ne.symm (by assumption) | omega | (have h9 := h_52.lt; omega))
                                  have h_54 := h_53.up hU_38 (by first | assumption | exact Ne.symm (by assumption) | omega | (have h9 := h_53.lt; omega))
                                  refine kx_ci (va_runV (As := [.int (kI (1)), .int (kI (6))]) (rest := [.ref a]) ⟨hx, hb, hml, hown, hts⟩ (m_num_t l D H_40 a ra sa ka ta sn ik th 103 (((spn + 1 : Nat) : Int)) 0 (spn + 1) gt t 1 6 hO_39 h_54 (by first | assumption | omega) (by first | assumption | omega) (by first | assumption | omega) (by first | assumption | omega) (by first | assumption | omega) (by first | assumption | omega) (by first | assumption | omega)) (cwV 2 hts (lw_V q2613 q2615 qs75 q89 q2616) rfl rfl rfl (by decide +kernel) ⟨Nat.le_of_ble_eq_true rfl, Nat.le_of_ble_eq_true rfl⟩) (kx_pv hK hS_42 hB (kx_rc hK hO_39 (C := RX3) (T := TX3) (N := 13) rfl)) rfl rfl hl.1 rfl (lv_room (Nat.le_of_ble_eq_true rfl)) dX3_reads_255 ⟨by first | exact Nat.le_of_ble_eq_true rfl | omega | (show _ ≤ _; omega) | (dsimp only [headSpec]; omega), by first | exact Nat.le_of_ble_eq_true rfl | omega | (show _ ≤ _; omega) | (dsimp only [headSpec]; omega)⟩) hS_42 (fun q _ h => by (try dsimp only at h); (try dsimp only); (try simp only [kNW] at h); (try simp only [kNW]); omega) (fun q h => by (try dsimp only at h); (try dsimp only); (try simp only [kNW] at h); (try simp only [kNW]); omega) (fun z_60 H_58 locs_55 hz_57 hF_59 hS_56 => ?_)
                                  have hzf_61 := hF_59.1
                                  refine W.widen (k := 0) (n := 0) (Nat.le_of_ble_eq_true rfl) (Nat.le_of_ble_eq_true rfl) ?_
                                  obtain ⟨hv_62, ho_63⟩ := hz_57
                                  subst z_60
                                  refine kx_put (v := .int (kI ((tx_num t 6 (spn + 1)).1))) (C := RX3) (T := TX3) (N := 13) hx hb hts in_X3 hown hK ho_63 rfl 11 (by decide) tyX3 tyX3_ok nmX3 hS_56 (by first | rfl | exact Or.inl rfl | exact Or.inr rfl | exact Or.inr (Or.inl rfl) | exact Or.inr (Or.inr rfl) | exact Or.inr (Or.inr (Or.inl rfl)) | exact Or.inr (Or.inr (Or.inr rfl)) | ((try dsimp only); (try simp only [kNW]); omega)) q2249 (fun _ h9 => h9) rfl rfl rfl rfl (Nat.le_of_ble_eq_true rfl) dX3_reads_258 (fun H_66 locs_67 hO_65 hU_64 hS_68 => ?_)
                                  have hO_65 : kO D H_66 a 2 [.ref ra, .ref sa, .int (kI ((sn : Nat) : Int)), .ref ka, .int (kI (kb (ik))), .ref ta, .int (kI ((t.length : Nat) : Int)), .int (kI (th)), .int (kI (((tx_num t 6 (spn + 1)).2 : Nat) : Int)), .int (kI (kb (true))), .int (kI (103)), .int (kI ((tx_num t 6 (spn + 1)).1)), .int (kI (0))] := hO_65
                                  have hzu_69 := hU_64.1
                                  refine lv_aload_n hx hb dX3_reads_261 rfl (lv_at hl 0 rfl) ?_
                                  refine kx_get (v := .int (kI (103))) (C := RX3) (T := TX3) (N := 13) hx hb hts in_X3 hown hK hO_65 rfl 10 (by decide) q2248 (fun _ h9 => h9) rfl dX3_reads_262 ?_
                                  refine kx_bipush hx hb (by decide) dX3_reads_265 ?_
                                  refine kx_icmp_eq (x := 103) (y := 110) (tgt := 279) hx hb dX3_reads_267 (by decide) (by omega) (by omega) (by omega) (by omega) (fun c_267_70 => ?_) (fun c_267_70 => ?_)
                                  · -- taken at 267
                                    exfalso; omega
                                  · -- not taken at 267
                                    refine lv_aload_n hx hb dX3_reads_270 rfl (lv_at hl 0 rfl) ?_
                                    refine kx_get (v := .int (kI (103))) (C := RX3) (T := TX3) (N := 13) hx hb hts in_X3 hown hK hO_65 rfl 10 (by decide) q2248 (fun _ h9 => h9) rfl dX3_reads_271 ?_
                                    refine kx_bipush hx hb (by decide) dX3_reads_274 ?_
                                    refine kx_icmp_ne (x := 103) (y := 108) (tgt := 336) hx hb dX3_reads_276 (by decide) (by omega) (by omega) (by omega) (by omega) (fun c_276_71 => ?_) (fun c_276_71 => ?_)
                                    · -- taken at 276
                                      have hrd_72 : rdW t spn = (true, (tx_num t 6 (spn + 1)).2, (tx_num t 6 (spn + 1)).1, 0) := by rw [rdW, if_neg (by omega), if_neg (by omega), if_neg (by omega), if_neg (by omega), if_neg (by omega), if_pos hlt9, rdW.rdOne, if_pos hq]
                                      have hOz_73 : kO D H_66 a 2 [.ref ra, .ref sa, .int (kI ((sn : Nat) : Int)), .ref ka, .int (kI (kb (ik))), .ref ta, .int (kI ((t.length : Nat) : Int)), .int (kI (th)), .int (kI (((rdW t spn).2.1 : Nat) : Int)), .int (kI (kb ((rdW t spn).1))), .int (kI (tsg t spn)), .int (kI ((rdW t spn).2.2.1)), .int (kI ((rdW t spn).2.2.2))] := by rw [hrd_72, hlt9]; exact hO_65
                                      exact kx_vret hx hb hr hlk (hOz_73) hS_68 dX3_reads_336
                                    · -- not taken at 276
                                      exfalso; omega
                                · -- hq f
                                  have h_74 := hA_ta.up hU_5 (by first | assumption | exact Ne.symm (by assumption) | omega | (have h9 := hA_ta.lt; omega))
                                  have h_75 := h_74.up hU_19 (by first | assumption | exact Ne.symm (by assumption) | omega | (have h9 := h_74.lt; omega))
                                  have h_76 := h_75.up hU_26 (by first | assumption | exact Ne.symm (by assumption) | omega | (have h9 := h_75.lt; omega))
                                  have h_77 := h_76.up hU_32 (by first | assumption | exact Ne.symm (by assumption) | omega | (have h9 := h_76.lt; omega))
                                  have h_78 := h_77.up hU_38 (by first | assumption | exact Ne.symm (by assumption) | omega | (have h9 := h_77.lt; omega))
                                  refine kx_ci (va_runV (As := [.int (kI (1)), .int (kI (6))]) (rest := [.ref a]) ⟨hx, hb, hml, hown, hts⟩ (m_num_f l D H_40 a ra sa ka ta sn ik th 103 (((spn + 1 : Nat) : Int)) 0 (spn + 1) gt t 1 6 hO_39 h_78 (by first | assumption | omega) (by first | assumption | omega) (by first | assumption | omega) (by first | assumption | omega) (by first | assumption | omega) (by first | assumption | omega) (by first | assumption | omega)) (cwV 2 hts (lw_V q2613 q2615 qs75 q89 q2616) rfl rfl rfl (by decide +kernel) ⟨Nat.le_of_ble_eq_true rfl, Nat.le_of_ble_eq_true rfl⟩) (kx_pv hK hS_42 hB (kx_rc hK hO_39 (C := RX3) (T := TX3) (N := 13) rfl)) rfl rfl hl.1 rfl (lv_room (Nat.le_of_ble_eq_true rfl)) dX3_reads_255 ⟨by first | exact Nat.le_of_ble_eq_true rfl | omega | (show _ ≤ _; omega) | (dsimp only [headSpec]; omega), by first | exact Nat.le_of_ble_eq_true rfl | omega | (show _ ≤ _; omega) | (dsimp only [headSpec]; omega)⟩) hS_42 (fun q _ h => by (try dsimp only at h); (try dsimp only); (try simp only [kNW] at h); (try simp only [kNW]); omega) (fun q h => by (try dsimp only at h); (try dsimp only); (try simp only [kNW] at h); (try simp only [kNW]); omega) (fun z_84 H_82 locs_79 hz_81 hF_83 hS_80 => ?_)
                                  have hzf_85 := hF_83.1
                                  refine W.widen (k := 0) (n := 0) (Nat.le_of_ble_eq_true rfl) (Nat.le_of_ble_eq_true rfl) ?_
                                  obtain ⟨hv_86, ho_87⟩ := hz_81
                                  subst z_84
                                  refine kx_put (v := .int (kI (tsg t (spn + 1) - 48))) (C := RX3) (T := TX3) (N := 13) hx hb hts in_X3 hown hK ho_87 rfl 11 (by decide) tyX3 tyX3_ok nmX3 hS_80 (by first | rfl | exact Or.inl rfl | exact Or.inr rfl | exact Or.inr (Or.inl rfl) | exact Or.inr (Or.inr rfl) | exact Or.inr (Or.inr (Or.inl rfl)) | exact Or.inr (Or.inr (Or.inr rfl)) | ((try dsimp only); (try simp only [kNW]); omega)) q2249 (fun _ h9 => h9) rfl rfl rfl rfl (Nat.le_of_ble_eq_true rfl) dX3_reads_258 (fun H_90 locs_91 hO_89 hU_88 hS_92 => ?_)
                                  have hO_89 : kO D H_90 a 2 [.ref ra, .ref sa, .int (kI ((sn : Nat) : Int)), .ref ka, .int (kI (kb (ik))), .ref ta, .int (kI ((t.length : Nat) : Int)), .int (kI (th)), .int (kI (((spn + 1) : Nat) : Int)), .int (kI (kb (false))), .int (kI (103)), .int (kI (tsg t (spn + 1) - 48)), .int (kI (0))] := hO_89
                                  have hzu_93 := hU_88.1
                                  refine lv_aload_n hx hb dX3_reads_261 rfl (lv_at hl 0 rfl) ?_
                                  refine kx_get (v := .int (kI (103))) (C := RX3) (T := TX3) (N := 13) hx hb hts in_X3 hown hK hO_89 rfl 10 (by decide) q2248 (fun _ h9 => h9) rfl dX3_reads_262 ?_
                                  refine kx_bipush hx hb (by decide) dX3_reads_265 ?_
                                  refine kx_icmp_eq (x := 103) (y := 110) (tgt := 279) hx hb dX3_reads_267 (by decide) (by omega) (by omega) (by omega) (by omega) (fun c_267_94 => ?_) (fun c_267_94 => ?_)
                                  · -- taken at 267
                                    exfalso; omega
                                  · -- not taken at 267
                                    refine lv_aload_n hx hb dX3_reads_270 rfl (lv_at hl 0 rfl) ?_
                                    refine kx_get (v := .int (kI (103))) (C := RX3) (T := TX3) (N := 13) hx hb hts in_X3 hown hK hO_89 rfl 10 (by decide) q2248 (fun _ h9 => h9) rfl dX3_reads_271 ?_
                                    refine kx_bipush hx hb (by decide) dX3_reads_274 ?_
                                    refine kx_icmp_ne (x := 103) (y := 108) (tgt := 336) hx hb dX3_reads_276 (by decide) (by omega) (by omega) (by omega) (by omega) (fun c_276_95 => ?_) (fun c_276_95 => ?_)
                                    · -- taken at 276
                                      have hrd_96 : rdW t spn = (false, (spn + 1), tsg t (spn + 1) - 48, 0) := by rw [rdW, if_neg (by omega), if_neg (by omega), if_neg (by omega), if_neg (by omega), if_neg (by omega), if_pos hlt9, rdW.rdOne, if_neg hq]
                                      have hOz_97 : kO D H_90 a 2 [.ref ra, .ref sa, .int (kI ((sn : Nat) : Int)), .ref ka, .int (kI (kb (ik))), .ref ta, .int (kI ((t.length : Nat) : Int)), .int (kI (th)), .int (kI (((rdW t spn).2.1 : Nat) : Int)), .int (kI (kb ((rdW t spn).1))), .int (kI (tsg t spn)), .int (kI ((rdW t spn).2.2.1)), .int (kI ((rdW t spn).2.2.2))] := by rw [hrd_96, hlt9]; exact hO_89
                                      exact kx_vret hx hb hr hlk (hOz_97) hS_92 dX3_reads_336
                                    · -- not taken at 276
                                      exfalso; omega
                            · -- not taken at 231
                              exfalso; omega
                    · -- not taken at 129
                      exfalso; omega

set_option maxHeartbeats 4000000 in
set_option maxRecDepth 100000 in
theorem m_reads_n (l : Launch) (D : kG) (H : Heap) (a : Nat) (ra : Nat) (sa : Nat) (ka : Nat) (ta : Nat) (sn : Nat) (ik : Bool) (th : Int) (spn : Nat) (gt : Nat → Int) (t : List Int) (iw : Bool) (le : Int) (fi : Int) (se : Int) (hO_a : kO D H a 2 [.ref ra, .ref sa, .int (kI ((sn : Nat) : Int)), .ref ka, .int (kI (kb (ik))), .ref ta, .int (kI ((t.length : Nat) : Int)), .int (kI (th)), .int (kI ((spn : Nat) : Int)), .int (kI (kb (iw))), .int (kI (le)), .int (kI (fi)), .int (kI (se))]) (hA_ta : kAi D H ta 60 gt) (hsp : spn ≤ 1000) (hT : MTx gt t) (ht60 : t.length ≤ 60) (ne_a_ta : a ≠ ta) (bs_a : kBase D ≤ a) (hlt9 : tsg t spn = 110) : Met l yX3_reads (ws_ yX3_reads cX3_reads 1 none) ({ frames := 2, cells := 0, slots := 0, locals := 45 } : Room) (kPre D H [.ref a]) (kQv (fun H' => (kO D H' a 2 [.ref ra, .ref sa, .int (kI ((sn : Nat) : Int)), .ref ka, .int (kI (kb (ik))), .ref ta, .int (kI ((t.length : Nat) : Int)), .int (kI (th)), .int (kI (((rdW t spn).2.1 : Nat) : Int)), .int (kI (kb ((rdW t spn).1))), .int (kI (tsg t spn)), .int (kI ((rdW t spn).2.2.1)), .int (kI ((rdW t spn).2.2.2))])) (fun q : Nat => q = a)) (0) (0) ((fun q : Nat => q = a)) := by
  refine Met.ofW (cc := cX3_reads) (maxL := 1) (ret := none) (by decide) rfl ?_
  intro p e s m args below meth c s₁ B hml hv
  obtain ⟨rfl, hH, hK⟩ := hv
  subst hH
  have hx := B.exec
  have hb := B.bytes
  have hr := B.returns
  have hts := atoms_spec (ws := ws_ yX3_reads cX3_reads 1 none) B.pre
  have hts : ∀ w ∈ lw_all, w.before _ s = true := fun w h => hts w (List.mem_cons_of_mem _ h)
  have hown : s.vm.findClass RX3 = some m.cls := findClass_of_methodNamed B.named
  have hlk := B.notSynchronized
  have hS : va_S (fun q : Nat => q = a) s.heap s.heap [] := va_S.rf
  have hB : ∀ q, (fun q : Nat => q = a) q → kBase D ≤ q := fun q h => by (try dsimp only at h); (try simp only [kNW] at h); have hks := hK.size; omega
  have hl := lv_entry ([.ref a]) (n := 1) (Nat.le_of_ble_eq_true rfl)
  rw [lg_entry_eq]
  generalize (lg_sl ([.ref a]) ++ List.replicate (1 - (lg_sl ([.ref a])).length) Slot.unset).toArray = ls at hl ⊢
  have hl : lv_has ls 1 [(0, .ref a)] := hl
  have hlt := hT.lt (i := spn) (by omega)
  refine lv_aload_n hx hb dX3_reads_0 rfl (lv_at hl 0 rfl) ?_
  refine lv_aload_n hx hb dX3_reads_1 rfl (lv_at hl 0 rfl) ?_
  refine kx_ci0 (va_runV (As := []) (rest := [.ref a]) ⟨hx, hb, hml, hown, hts⟩ (m_X3_sign l D s.heap a ra sa ka ta sn ik th iw le fi se spn gt t hO_a hA_ta (by first | assumption | omega) (by first | assumption | omega) (by first | assumption | omega) (by first | assumption | omega) (by first | assumption | omega)) (cwV 0 hts (lw_V q2609 q2611 qs74 q89 q2612) rfl rfl rfl (by decide +kernel) ⟨Nat.le_of_ble_eq_true rfl, Nat.le_of_ble_eq_true rfl⟩) (kx_pv hK hS hB (kx_rc hK hO_a (C := RX3) (T := TX3) (N := 13) rfl)) rfl rfl hl.1 rfl (lv_room (Nat.le_of_ble_eq_true rfl)) dX3_reads_2 ⟨by first | exact Nat.le_of_ble_eq_true rfl | omega | (show _ ≤ _; omega) | (dsimp only [headSpec]; omega), by first | exact Nat.le_of_ble_eq_true rfl | omega | (show _ ≤ _; omega) | (dsimp only [headSpec]; omega)⟩) hS (fun z_4 locs_1 hz_3 hS_2 => ?_)
  subst z_4
  refine kx_eqi (110) (hlt9) ?_
  refine kx_put (v := .int (kI (110))) (C := RX3) (T := TX3) (N := 13) hx hb hts in_X3 hown hK hO_a rfl 10 (by decide) tyX3 tyX3_ok nmX3 hS_2 (by first | rfl | exact Or.inl rfl | exact Or.inr rfl | exact Or.inr (Or.inl rfl) | exact Or.inr (Or.inr rfl) | exact Or.inr (Or.inr (Or.inl rfl)) | exact Or.inr (Or.inr (Or.inr rfl)) | ((try dsimp only); (try simp only [kNW]); omega)) q2248 (fun _ h9 => h9) rfl rfl rfl rfl (Nat.le_of_ble_eq_true rfl) dX3_reads_5 (fun H_7 locs_8 hO_6 hU_5 hS_9 => ?_)
  have hO_6 : kO D H_7 a 2 [.ref ra, .ref sa, .int (kI ((sn : Nat) : Int)), .ref ka, .int (kI (kb (ik))), .ref ta, .int (kI ((t.length : Nat) : Int)), .int (kI (th)), .int (kI ((spn : Nat) : Int)), .int (kI (kb (iw))), .int (kI (110)), .int (kI (fi)), .int (kI (se))] := hO_6
  have hzu_10 := hU_5.1
  refine lv_aload_n hx hb dX3_reads_8 rfl (lv_at hl 0 rfl) ?_
  refine lv_aload_n hx hb dX3_reads_9 rfl (lv_at hl 0 rfl) ?_
  refine kx_get (v := .int (kI (110))) (C := RX3) (T := TX3) (N := 13) hx hb hts in_X3 hown hK hO_6 rfl 10 (by decide) q2248 (fun _ h9 => h9) rfl dX3_reads_10 ?_
  refine kx_bipush hx hb (by decide) dX3_reads_13 ?_
  refine kx_icmp_eq (x := 110) (y := 110) (tgt := 81) hx hb dX3_reads_15 (by decide) (by omega) (by omega) (by omega) (by omega) (fun c_15_11 => ?_) (fun c_15_11 => ?_)
  · -- taken at 15
    refine kx_iconst hx hb dX3_reads_81 ?_
    refine lv_goto (tgt := 86) hx hb dX3_reads_82 (by decide) ?_
    refine kx_put (v := .int (kI (kb (true)))) (C := RX3) (T := TX3) (N := 13) hx hb hts in_X3 hown hK hO_6 rfl 9 (by decide) tyX3 tyX3_ok nmX3 hS_9 (by first | rfl | exact Or.inl rfl | exact Or.inr rfl | exact Or.inr (Or.inl rfl) | exact Or.inr (Or.inr rfl) | exact Or.inr (Or.inr (Or.inl rfl)) | exact Or.inr (Or.inr (Or.inr rfl)) | ((try dsimp only); (try simp only [kNW]); omega)) q2247 (fun _ h9 => h9) rfl rfl (kb_narZ _) (kb_fitZ _) (Nat.le_of_ble_eq_true rfl) dX3_reads_86 (fun H_14 locs_15 hO_13 hU_12 hS_16 => ?_)
    have hO_13 : kO D H_14 a 2 [.ref ra, .ref sa, .int (kI ((sn : Nat) : Int)), .ref ka, .int (kI (kb (ik))), .ref ta, .int (kI ((t.length : Nat) : Int)), .int (kI (th)), .int (kI ((spn : Nat) : Int)), .int (kI (kb (true))), .int (kI (110)), .int (kI (fi)), .int (kI (se))] := hO_13
    have hzu_17 := hU_12.1
    refine lv_aload_n hx hb dX3_reads_89 rfl (lv_at hl 0 rfl) ?_
    refine lv_dup hx hb dX3_reads_90 rfl ?_
    refine kx_get (v := .int (kI ((spn : Nat) : Int))) (C := RX3) (T := TX3) (N := 13) hx hb hts in_X3 hown hK hO_13 rfl 8 (by decide) q2246 (fun _ h9 => h9) rfl dX3_reads_91 ?_
    refine lv_aload_n hx hb dX3_reads_94 rfl (lv_at hl 0 rfl) ?_
    refine kx_get (v := .int (kI (kb (true)))) (C := RX3) (T := TX3) (N := 13) hx hb hts in_X3 hown hK hO_13 rfl 9 (by decide) q2247 (fun _ h9 => h9) rfl dX3_reads_95 ?_
    refine kx_ifz (tgt := 105) hx hb dX3_reads_98 (by decide) (fun c_98_18 => ?_) (fun c_98_18 => ?_)
    · -- taken at 98
      exact absurd c_98_18 (by decide)
    · -- not taken at 98
      refine kx_iconst hx hb dX3_reads_101 ?_
      refine lv_goto (tgt := 106) hx hb dX3_reads_102 (by decide) ?_
      refine kx_iadd hx hb dX3_reads_106 ?_
      refine kx_eqi (((spn + 1 : Nat) : Int)) (by omega) ?_
      refine kx_put (v := .int (kI ((spn + 1 : Nat) : Int))) (C := RX3) (T := TX3) (N := 13) hx hb hts in_X3 hown hK hO_13 rfl 8 (by decide) tyX3 tyX3_ok nmX3 hS_16 (by first | rfl | exact Or.inl rfl | exact Or.inr rfl | exact Or.inr (Or.inl rfl) | exact Or.inr (Or.inr rfl) | exact Or.inr (Or.inr (Or.inl rfl)) | exact Or.inr (Or.inr (Or.inr rfl)) | ((try dsimp only); (try simp only [kNW]); omega)) q2246 (fun _ h9 => h9) rfl rfl rfl rfl (Nat.le_of_ble_eq_true rfl) dX3_reads_107 (fun H_21 locs_22 hO_20 hU_19 hS_23 => ?_)
      have hO_20 : kO D H_21 a 2 [.ref ra, .ref sa, .int (kI ((sn : Nat) : Int)), .ref ka, .int (kI (kb (ik))), .ref ta, .int (kI ((t.length : Nat) : Int)), .int (kI (th)), .int (kI ((spn + 1 : Nat) : Int)), .int (kI (kb (true))), .int (kI (110)), .int (kI (fi)), .int (kI (se))] := hO_20
      have hzu_24 := hU_19.1
      refine lv_aload_n hx hb dX3_reads_110 rfl (lv_at hl 0 rfl) ?_
      refine lv_aload_n hx hb dX3_reads_111 rfl (lv_at hl 0 rfl) ?_
      refine kx_get (v := .int (kI ((spn + 1 : Nat) : Int))) (C := RX3) (T := TX3) (N := 13) hx hb hts in_X3 hown hK hO_20 rfl 8 (by decide) q2246 (fun _ h9 => h9) rfl dX3_reads_112 ?_
      refine kx_put (v := .int (kI ((spn + 1 : Nat) : Int))) (C := RX3) (T := TX3) (N := 13) hx hb hts in_X3 hown hK hO_20 rfl 11 (by decide) tyX3 tyX3_ok nmX3 hS_23 (by first | rfl | exact Or.inl rfl | exact Or.inr rfl | exact Or.inr (Or.inl rfl) | exact Or.inr (Or.inr rfl) | exact Or.inr (Or.inr (Or.inl rfl)) | exact Or.inr (Or.inr (Or.inr rfl)) | ((try dsimp only); (try simp only [kNW]); omega)) q2249 (fun _ h9 => h9) rfl rfl rfl rfl (Nat.le_of_ble_eq_true rfl) dX3_reads_115 (fun H_27 locs_28 hO_26 hU_25 hS_29 => ?_)
      have hO_26 : kO D H_27 a 2 [.ref ra, .ref sa, .int (kI ((sn : Nat) : Int)), .ref ka, .int (kI (kb (ik))), .ref ta, .int (kI ((t.length : Nat) : Int)), .int (kI (th)), .int (kI ((spn + 1 : Nat) : Int)), .int (kI (kb (true))), .int (kI (110)), .int (kI ((spn + 1 : Nat) : Int)), .int (kI (se))] := hO_26
      have hzu_30 := hU_25.1
      refine lv_aload_n hx hb dX3_reads_118 rfl (lv_at hl 0 rfl) ?_
      refine kx_iconst hx hb dX3_reads_119 ?_
      refine kx_put (v := .int (kI (0))) (C := RX3) (T := TX3) (N := 13) hx hb hts in_X3 hown hK hO_26 rfl 12 (by decide) tyX3 tyX3_ok nmX3 hS_29 (by first | rfl | exact Or.inl rfl | exact Or.inr rfl | exact Or.inr (Or.inl rfl) | exact Or.inr (Or.inr rfl) | exact Or.inr (Or.inr (Or.inl rfl)) | exact Or.inr (Or.inr (Or.inr rfl)) | ((try dsimp only); (try simp only [kNW]); omega)) q2250 (fun _ h9 => h9) rfl rfl rfl rfl (Nat.le_of_ble_eq_true rfl) dX3_reads_120 (fun H_33 locs_34 hO_32 hU_31 hS_35 => ?_)
      have hO_32 : kO D H_33 a 2 [.ref ra, .ref sa, .int (kI ((sn : Nat) : Int)), .ref ka, .int (kI (kb (ik))), .ref ta, .int (kI ((t.length : Nat) : Int)), .int (kI (th)), .int (kI ((spn + 1 : Nat) : Int)), .int (kI (kb (true))), .int (kI (110)), .int (kI ((spn + 1 : Nat) : Int)), .int (kI (0))] := hO_32
      have hzu_36 := hU_31.1
      refine lv_aload_n hx hb dX3_reads_123 rfl (lv_at hl 0 rfl) ?_
      refine kx_get (v := .int (kI (110))) (C := RX3) (T := TX3) (N := 13) hx hb hts in_X3 hown hK hO_32 rfl 10 (by decide) q2248 (fun _ h9 => h9) rfl dX3_reads_124 ?_
      refine kx_bipush hx hb (by decide) dX3_reads_127 ?_
      refine kx_icmp_ne (x := 110) (y := 115) (tgt := 193) hx hb dX3_reads_129 (by decide) (by omega) (by omega) (by omega) (by omega) (fun c_129_37 => ?_) (fun c_129_37 => ?_)
      · -- taken at 129
        refine lv_aload_n hx hb dX3_reads_193 rfl (lv_at hl 0 rfl) ?_
        refine kx_get (v := .int (kI (110))) (C := RX3) (T := TX3) (N := 13) hx hb hts in_X3 hown hK hO_32 rfl 10 (by decide) q2248 (fun _ h9 => h9) rfl dX3_reads_194 ?_
        refine kx_bipush hx hb (by decide) dX3_reads_197 ?_
        refine kx_icmp_eq (x := 110) (y := 97) (tgt := 336) hx hb dX3_reads_199 (by decide) (by omega) (by omega) (by omega) (by omega) (fun c_199_38 => ?_) (fun c_199_38 => ?_)
        · -- taken at 199
          exfalso; omega
        · -- not taken at 199
          refine lv_aload_n hx hb dX3_reads_202 rfl (lv_at hl 0 rfl) ?_
          refine kx_get (v := .int (kI (kb (true)))) (C := RX3) (T := TX3) (N := 13) hx hb hts in_X3 hown hK hO_32 rfl 9 (by decide) q2247 (fun _ h9 => h9) rfl dX3_reads_203 ?_
          refine kx_ifz (tgt := 336) hx hb dX3_reads_206 (by decide) (fun c_206_39 => ?_) (fun c_206_39 => ?_)
          · -- taken at 206
            exact absurd c_206_39 (by decide)
          · -- not taken at 206
            refine lv_aload_n hx hb dX3_reads_209 rfl (lv_at hl 0 rfl) ?_
            refine lv_aload_n hx hb dX3_reads_210 rfl (lv_at hl 0 rfl) ?_
            refine lv_aload_n hx hb dX3_reads_211 rfl (lv_at hl 0 rfl) ?_
            refine kx_get (v := .int (kI (110))) (C := RX3) (T := TX3) (N := 13) hx hb hts in_X3 hown hK hO_32 rfl 10 (by decide) q2248 (fun _ h9 => h9) rfl dX3_reads_212 ?_
            refine kx_bipush hx hb (by decide) dX3_reads_215 ?_
            refine kx_icmp_ne (x := 110) (y := 103) (tgt := 224) hx hb dX3_reads_217 (by decide) (by omega) (by omega) (by omega) (by omega) (fun c_217_40 => ?_) (fun c_217_40 => ?_)
            · -- taken at 217
              refine kx_iconst hx hb dX3_reads_224 ?_
              refine lv_aload_n hx hb dX3_reads_225 rfl (lv_at hl 0 rfl) ?_
              refine kx_get (v := .int (kI (110))) (C := RX3) (T := TX3) (N := 13) hx hb hts in_X3 hown hK hO_32 rfl 10 (by decide) q2248 (fun _ h9 => h9) rfl dX3_reads_226 ?_
              refine kx_bipush hx hb (by decide) dX3_reads_229 ?_
              refine kx_icmp_ne (x := 110) (y := 110) (tgt := 239) hx hb dX3_reads_231 (by decide) (by omega) (by omega) (by omega) (by omega) (fun c_231_41 => ?_) (fun c_231_41 => ?_)
              · -- taken at 231
                exfalso; omega
              · -- not taken at 231
                refine kx_bipush hx hb (by decide) dX3_reads_234 ?_
                refine lv_goto (tgt := 255) hx hb dX3_reads_236 (by decide) ?_
                by_cases hq : tx_numOK t 0 99 (spn + 1)
                · -- hq t
                  have hlt2 := hT.lt (i := spn + 1) (by obtain ⟨z1, z2⟩ := hq; omega)
                  have hpl := tx_num_place (99) hlt2
                  have h_42 := hA_ta.up hU_5 (by first | assumption | exact Ne.symm (by assumption) | omega | (have h9 := hA_ta.lt; omega))
                  have h_43 := h_42.up hU_12 (by first | assumption | exact Ne.symm (by assumption) | omega | (have h9 := h_42.lt; omega))
                  have h_44 := h_43.up hU_19 (by first | assumption | exact Ne.symm (by assumption) | omega | (have h9 := h_43.lt; omega))
                  have h_45 := h_44.up hU_25 (by first | assumption | exact Ne.symm (by assumption) | omega | (have h9 := h_44.lt; omega))
                  have h_46 := h_45.up hU_31 (by first | assumption | exact Ne.symm (by assumption) | omega | (have h9 := h_45.lt; omega))
                  refine kx_ci (va_runV (As := [.int (kI (0)), .int (kI (99))]) (rest := [.ref a]) ⟨hx, hb, hml, hown, hts⟩ (m_num_t l D H_33 a ra sa ka ta sn ik th 110 (((spn + 1 : Nat) : Int)) 0 (spn + 1) gt t 0 99 hO_32 h_46 (by first | assumption | omega) (by first | assumption | omega) (by first | assumption | omega) (by first | assumption | omega) (by first | assumption | omega) (by first | assumption | omega) (by first | assumption | omega)) (cwV 2 hts (lw_V q2613 q2615 qs75 q89 q2616) rfl rfl rfl (by decide +kernel) ⟨Nat.le_of_ble_eq_true rfl, Nat.le_of_ble_eq_true rfl⟩) (kx_pv hK hS_35 hB (kx_rc hK hO_32 (C := RX3) (T := TX3) (N := 13) rfl)) rfl rfl hl.1 rfl (lv_room (Nat.le_of_ble_eq_true rfl)) dX3_reads_255 ⟨by first | exact Nat.le_of_ble_eq_true rfl | omega | (show _ ≤ _; omega) | (dsimp only [headSpec]; omega), by first | exact Nat.le_of_ble_eq_true rfl | omega | (show _ ≤ _; omega) | (dsimp only [headSpec]; omega)⟩) hS_35 (fun q _ h => by (try dsimp only at h); (try dsimp only); (try simp only [kNW] at h); (try simp only [kNW]); omega) (fun q h => by (try dsimp only at h); (try dsimp only); (try simp only [kNW] at h); (try simp only [kNW]); omega) (fun z_52 H_50 locs_47 hz_49 hF_51 hS_48 => ?_)
                  have hzf_53 := hF_51.1
                  refine W.widen (k := 0) (n := 0) (Nat.le_of_ble_eq_true rfl) (Nat.le_of_ble_eq_true rfl) ?_
                  obtain ⟨hv_54, ho_55⟩ := hz_49
                  subst z_52
                  refine kx_put (v := .int (kI ((tx_num t 99 (spn + 1)).1))) (C := RX3) (T := TX3) (N := 13) hx hb hts in_X3 hown hK ho_55 rfl 11 (by decide) tyX3 tyX3_ok nmX3 hS_48 (by first | rfl | exact Or.inl rfl | exact Or.inr rfl | exact Or.inr (Or.inl rfl) | exact Or.inr (Or.inr rfl) | exact Or.inr (Or.inr (Or.inl rfl)) | exact Or.inr (Or.inr (Or.inr rfl)) | ((try dsimp only); (try simp only [kNW]); omega)) q2249 (fun _ h9 => h9) rfl rfl rfl rfl (Nat.le_of_ble_eq_true rfl) dX3_reads_258 (fun H_58 locs_59 hO_57 hU_56 hS_60 => ?_)
                  have hO_57 : kO D H_58 a 2 [.ref ra, .ref sa, .int (kI ((sn : Nat) : Int)), .ref ka, .int (kI (kb (ik))), .ref ta, .int (kI ((t.length : Nat) : Int)), .int (kI (th)), .int (kI (((tx_num t 99 (spn + 1)).2 : Nat) : Int)), .int (kI (kb (true))), .int (kI (110)), .int (kI ((tx_num t 99 (spn + 1)).1)), .int (kI (0))] := hO_57
                  have hzu_61 := hU_56.1
                  refine lv_aload_n hx hb dX3_reads_261 rfl (lv_at hl 0 rfl) ?_
                  refine kx_get (v := .int (kI (110))) (C := RX3) (T := TX3) (N := 13) hx hb hts in_X3 hown hK hO_57 rfl 10 (by decide) q2248 (fun _ h9 => h9) rfl dX3_reads_262 ?_
                  refine kx_bipush hx hb (by decide) dX3_reads_265 ?_
                  refine kx_icmp_eq (x := 110) (y := 110) (tgt := 279) hx hb dX3_reads_267 (by decide) (by omega) (by omega) (by omega) (by omega) (fun c_267_62 => ?_) (fun c_267_62 => ?_)
                  · -- taken at 267
                    refine lv_aload_n hx hb dX3_reads_279 rfl (lv_at hl 0 rfl) ?_
                    refine lv_aload_n hx hb dX3_reads_280 rfl (lv_at hl 0 rfl) ?_
                    refine kx_get (v := .int (kI (110))) (C := RX3) (T := TX3) (N := 13) hx hb hts in_X3 hown hK hO_57 rfl 10 (by decide) q2248 (fun _ h9 => h9) rfl dX3_reads_281 ?_
                    refine kx_bipush hx hb (by decide) dX3_reads_284 ?_
                    refine kx_icmp_ne (x := 110) (y := 110) (tgt := 294) hx hb dX3_reads_286 (by decide) (by omega) (by omega) (by omega) (by omega) (fun c_286_63 => ?_) (fun c_286_63 => ?_)
                    · -- taken at 286
                      exfalso; omega
                    · -- not taken at 286
                      refine kx_bipush hx hb (by decide) dX3_reads_289 ?_
                      refine lv_goto (tgt := 296) hx hb dX3_reads_291 (by decide) ?_
                      by_cases hw : tsg t (tx_num t 99 (spn + 1)).2 = 64
                      · -- hw t
                        have h_64 := h_46.fr hF_51 (fun h => by (try dsimp only at h); (try simp only [kNW] at h); omega)
                        have h_65 := h_64.up hU_56 (by first | assumption | exact Ne.symm (by assumption) | omega | (have h9 := h_64.lt; omega))
                        refine kx_cv (va_runV (As := [.int (kI (64))]) (rest := []) ⟨hx, hb, hml, hown, hts⟩ (m_needs_t l D H_58 a ra sa ka ta sn ik th 110 ((tx_num t 99 (spn + 1)).1) 0 ((tx_num t 99 (spn + 1)).2) gt t 64 hO_57 h_65 (by first | assumption | omega) (by first | assumption | omega) (by first | assumption | omega) (by first | assumption | omega) (by first | assumption | omega) (by first | assumption | omega)) (cwV 1 hts (lw_V q2617 q2619 qs76 q89 q2620) rfl rfl rfl (by decide +kernel) ⟨Nat.le_of_ble_eq_true rfl, Nat.le_of_ble_eq_true rfl⟩) (kx_pv hK hS_60 hB (kx_rc hK hO_57 (C := RX3) (T := TX3) (N := 13) rfl)) rfl rfl hl.1 rfl (lv_room (Nat.le_of_ble_eq_true rfl)) dX3_reads_296 ⟨by first | exact Nat.le_of_ble_eq_true rfl | omega | (show _ ≤ _; omega) | (dsimp only [headSpec]; omega), by first | exact Nat.le_of_ble_eq_true rfl | omega | (show _ ≤ _; omega) | (dsimp only [headSpec]; omega)⟩) hS_60 (fun q _ h => by (try dsimp only at h); (try dsimp only); (try simp only [kNW] at h); (try simp only [kNW]); omega) (fun q h => by (try dsimp only at h); (try dsimp only); (try simp only [kNW] at h); (try simp only [kNW]); omega) (fun H_69 locs_66 hz_68 hF_70 hS_67 => ?_)
                        have hzf_72 := hF_70.1
                        refine W.widen (k := 0) (n := 0) (Nat.le_of_ble_eq_true rfl) (Nat.le_of_ble_eq_true rfl) ?_
                        have ho_73 := hz_68
                        refine lv_aload_n hx hb dX3_reads_299 rfl (lv_at hl 0 rfl) ?_
                        refine lv_aload_n hx hb dX3_reads_300 rfl (lv_at hl 0 rfl) ?_
                        refine kx_get (v := .int (kI (kb (true)))) (C := RX3) (T := TX3) (N := 13) hx hb hts in_X3 hown hK ho_73 rfl 9 (by decide) q2247 (fun _ h9 => h9) rfl dX3_reads_301 ?_
                        refine kx_ifz (tgt := 332) hx hb dX3_reads_304 (by decide) (fun c_304_74 => ?_) (fun c_304_74 => ?_)
                        · -- taken at 304
                          exact absurd c_304_74 (by decide)
                        · -- not taken at 304
                          refine lv_aload_n hx hb dX3_reads_307 rfl (lv_at hl 0 rfl) ?_
                          refine kx_iconst hx hb dX3_reads_308 ?_
                          refine lv_aload_n hx hb dX3_reads_309 rfl (lv_at hl 0 rfl) ?_
                          refine kx_get (v := .int (kI (110))) (C := RX3) (T := TX3) (N := 13) hx hb hts in_X3 hown hK ho_73 rfl 10 (by decide) q2248 (fun _ h9 => h9) rfl dX3_reads_310 ?_
                          refine kx_bipush hx hb (by decide) dX3_reads_313 ?_
                          refine kx_icmp_ne (x := 110) (y := 110) (tgt := 324) hx hb dX3_reads_315 (by decide) (by omega) (by omega) (by omega) (by omega) (fun c_315_75 => ?_) (fun c_315_75 => ?_)
                          · -- taken at 315
                            exfalso; omega
                          · -- not taken at 315
                            refine kx_sipush hx hb (by decide) dX3_reads_318 ?_
                            refine lv_goto (tgt := 326) hx hb dX3_reads_321 (by decide) ?_
                            by_cases hq2 : tx_numOK t 0 383 ((tx_num t 99 (spn + 1)).2 + 1)
                            · -- hq2 t
                              have h_76 := h_65.fr hF_70 (fun h => by (try dsimp only at h); (try simp only [kNW] at h); omega)
                              refine kx_ci (va_runV (As := [.int (kI (0)), .int (kI (383))]) (rest := [.ref a]) ⟨hx, hb, hml, hown, hts⟩ (m_num_t l D H_69 a ra sa ka ta sn ik th 110 ((((tx_num t 99 (spn + 1)).1))) 0 ((((tx_num t 99 (spn + 1)).2)) + 1) gt t 0 383 ho_73 h_76 (by first | assumption | omega) (by first | assumption | omega) (by first | assumption | omega) (by first | assumption | omega) (by first | assumption | omega) (by first | assumption | omega) (by first | assumption | omega)) (cwV 2 hts (lw_V q2613 q2615 qs75 q89 q2616) rfl rfl rfl (by decide +kernel) ⟨Nat.le_of_ble_eq_true rfl, Nat.le_of_ble_eq_true rfl⟩) (kx_pv hK hS_67 hB (kx_rc hK ho_73 (C := RX3) (T := TX3) (N := 13) rfl)) rfl rfl hl.1 rfl (lv_room (Nat.le_of_ble_eq_true rfl)) dX3_reads_326 ⟨by first | exact Nat.le_of_ble_eq_true rfl | omega | (show _ ≤ _; omega) | (dsimp only [headSpec]; omega), by first | exact Nat.le_of_ble_eq_true rfl | omega | (show _ ≤ _; omega) | (dsimp only [headSpec]; omega)⟩) hS_67 (fun q _ h => by (try dsimp only at h); (try dsimp only); (try simp only [kNW] at h); (try simp only [kNW]); omega) (fun q h => by (try dsimp only at h); (try dsimp only); (try simp only [kNW] at h); (try simp only [kNW]); omega) (fun z_82 H_80 locs_77 hz_79 hF_81 hS_78 => ?_)
                              have hzf_83 := hF_81.1
                              refine W.widen (k := 0) (n := 0) (Nat.le_of_ble_eq_true rfl) (Nat.le_of_ble_eq_true rfl) ?_
                              obtain ⟨hv_84, ho_85⟩ := hz_79
                              subst z_82
                              refine lv_goto (tgt := 333) hx hb dX3_reads_329 (by decide) ?_
                              refine kx_put (v := .int (kI ((tx_num t 383 (((((tx_num t 99 (spn + 1)).2)) + 1))).1))) (C := RX3) (T := TX3) (N := 13) hx hb hts in_X3 hown hK ho_85 rfl 12 (by decide) tyX3 tyX3_ok nmX3 hS_78 (by first | rfl | exact Or.inl rfl | exact Or.inr rfl | exact Or.inr (Or.inl rfl) | exact Or.inr (Or.inr rfl) | exact Or.inr (Or.inr (Or.inl rfl)) | exact Or.inr (Or.inr (Or.inr rfl)) | ((try dsimp only); (try simp only [kNW]); omega)) q2250 (fun _ h9 => h9) rfl rfl rfl rfl (Nat.le_of_ble_eq_true rfl) dX3_reads_333 (fun H_88 locs_89 hO_87 hU_86 hS_90 => ?_)
                              have hO_87 : kO D H_88 a 2 [.ref ra, .ref sa, .int (kI ((sn : Nat) : Int)), .ref ka, .int (kI (kb (ik))), .ref ta, .int (kI ((t.length : Nat) : Int)), .int (kI (th)), .int (kI (((tx_num t 383 (((((tx_num t 99 (spn + 1)).2)) + 1))).2 : Nat) : Int)), .int (kI (kb (true))), .int (kI (110)), .int (kI ((((((tx_num t 99 (spn + 1)).1)))))), .int (kI ((tx_num t 383 (((((tx_num t 99 (spn + 1)).2)) + 1))).1))] := hO_87
                              have hzu_91 := hU_86.1
                              have hrd_92 : rdW t spn = (true, (tx_num t 383 (((((tx_num t 99 (spn + 1)).2)) + 1))).2, (((((tx_num t 99 (spn + 1)).1)))), (tx_num t 383 (((((tx_num t 99 (spn + 1)).2)) + 1))).1) := by rw [rdW, if_neg (by omega), if_neg (by omega), if_pos hlt9, rdW.rdTwo, if_pos hq, if_pos hw, if_pos hq2]
                              have hOz_93 : kO D H_88 a 2 [.ref ra, .ref sa, .int (kI ((sn : Nat) : Int)), .ref ka, .int (kI (kb (ik))), .ref ta, .int (kI ((t.length : Nat) : Int)), .int (kI (th)), .int (kI (((rdW t spn).2.1 : Nat) : Int)), .int (kI (kb ((rdW t spn).1))), .int (kI (tsg t spn)), .int (kI ((rdW t spn).2.2.1)), .int (kI ((rdW t spn).2.2.2))] := by rw [hrd_92, hlt9]; exact hO_87
                              exact kx_vret hx hb hr hlk (hOz_93) hS_90 dX3_reads_336
                            · -- hq2 f
                              have h_94 := h_65.fr hF_70 (fun h => by (try dsimp only at h); (try simp only [kNW] at h); omega)
                              refine kx_ci (va_runV (As := [.int (kI (0)), .int (kI (383))]) (rest := [.ref a]) ⟨hx, hb, hml, hown, hts⟩ (m_num_f l D H_69 a ra sa ka ta sn ik th 110 ((((tx_num t 99 (spn + 1)).1))) 0 ((((tx_num t 99 (spn + 1)).2)) + 1) gt t 0 383 ho_73 h_94 (by first | assumption | omega) (by first | assumption | omega) (by first | assumption | omega) (by first | assumption | omega) (by first | assumption | omega) (by first | assumption | omega) (by first | assumption | omega)) (cwV 2 hts (lw_V q2613 q2615 qs75 q89 q2616) rfl rfl rfl (by decide +kernel) ⟨Nat.le_of_ble_eq_true rfl, Nat.le_of_ble_eq_true rfl⟩) (kx_pv hK hS_67 hB (kx_rc hK ho_73 (C := RX3) (T := TX3) (N := 13) rfl)) rfl rfl hl.1 rfl (lv_room (Nat.le_of_ble_eq_true rfl)) dX3_reads_326 ⟨by first | exact Nat.le_of_ble_eq_true rfl | omega | (show _ ≤ _; omega) | (dsimp only [headSpec]; omega), by first | exact Nat.le_of_ble_eq_true rfl | omega | (show _ ≤ _; omega) | (dsimp only [headSpec]; omega)⟩) hS_67 (fun q _ h => by (try dsimp only at h); (try dsimp only); (try simp only [kNW] at h); (try simp only [kNW]); omega) (fun q h => by (try dsimp only at h); (try dsimp only); (try simp only [kNW] at h); (try simp only [kNW]); omega) (fun z_100 H_98 locs_95 hz_97 hF_99 hS_96 => ?_)
                              have hzf_101 := hF_99.1
                              refine W.widen (k := 0) (n := 0) (Nat.le_of_ble_eq_true rfl) (Nat.le_of_ble_eq_true rfl) ?_
                              obtain ⟨hv_102, ho_103⟩ := hz_97
                              subst z_100
                              refine lv_goto (tgt := 333) hx hb dX3_reads_329 (by decide) ?_
                              refine kx_put (v := .int (kI (tsg t (((((tx_num t 99 (spn + 1)).2)) + 1)) - 48))) (C := RX3) (T := TX3) (N := 13) hx hb hts in_X3 hown hK ho_103 rfl 12 (by decide) tyX3 tyX3_ok nmX3 hS_96 (by first | rfl | exact Or.inl rfl | exact Or.inr rfl | exact Or.inr (Or.inl rfl) | exact Or.inr (Or.inr rfl) | exact Or.inr (Or.inr (Or.inl rfl)) | exact Or.inr (Or.inr (Or.inr rfl)) | ((try dsimp only); (try simp only [kNW]); omega)) q2250 (fun _ h9 => h9) rfl rfl rfl rfl (Nat.le_of_ble_eq_true rfl) dX3_reads_333 (fun H_106 locs_107 hO_105 hU_104 hS_108 => ?_)
                              have hO_105 : kO D H_106 a 2 [.ref ra, .ref sa, .int (kI ((sn : Nat) : Int)), .ref ka, .int (kI (kb (ik))), .ref ta, .int (kI ((t.length : Nat) : Int)), .int (kI (th)), .int (kI (((((((tx_num t 99 (spn + 1)).2)) + 1)) : Nat) : Int)), .int (kI (kb (false))), .int (kI (110)), .int (kI ((((((tx_num t 99 (spn + 1)).1)))))), .int (kI (tsg t (((((tx_num t 99 (spn + 1)).2)) + 1)) - 48))] := hO_105
                              have hzu_109 := hU_104.1
                              have hrd_110 : rdW t spn = (false, (((((tx_num t 99 (spn + 1)).2)) + 1)), (((((tx_num t 99 (spn + 1)).1)))), tsg t (((((tx_num t 99 (spn + 1)).2)) + 1)) - 48) := by rw [rdW, if_neg (by omega), if_neg (by omega), if_pos hlt9, rdW.rdTwo, if_pos hq, if_pos hw, if_neg hq2]
                              have hOz_111 : kO D H_106 a 2 [.ref ra, .ref sa, .int (kI ((sn : Nat) : Int)), .ref ka, .int (kI (kb (ik))), .ref ta, .int (kI ((t.length : Nat) : Int)), .int (kI (th)), .int (kI (((rdW t spn).2.1 : Nat) : Int)), .int (kI (kb ((rdW t spn).1))), .int (kI (tsg t spn)), .int (kI ((rdW t spn).2.2.1)), .int (kI ((rdW t spn).2.2.2))] := by rw [hrd_110, hlt9]; exact hO_105
                              exact kx_vret hx hb hr hlk (hOz_111) hS_108 dX3_reads_336
                      · -- hw f
                        have h_112 := h_46.fr hF_51 (fun h => by (try dsimp only at h); (try simp only [kNW] at h); omega)
                        have h_113 := h_112.up hU_56 (by first | assumption | exact Ne.symm (by assumption) | omega | (have h9 := h_112.lt; omega))
                        refine kx_cv (va_runV (As := [.int (kI (64))]) (rest := []) ⟨hx, hb, hml, hown, hts⟩ (m_needs_f l D H_58 a ra sa ka ta sn ik th true 110 ((tx_num t 99 (spn + 1)).1) 0 ((tx_num t 99 (spn + 1)).2) gt t 64 hO_57 h_113 (by first | assumption | omega) (by first | assumption | omega) (by first | assumption | omega) (by first | assumption | omega) (by first | assumption | omega) (by first | assumption | omega) (by first | assumption | omega)) (cwV 1 hts (lw_V q2617 q2619 qs76 q89 q2620) rfl rfl rfl (by decide +kernel) ⟨Nat.le_of_ble_eq_true rfl, Nat.le_of_ble_eq_true rfl⟩) (kx_pv hK hS_60 hB (kx_rc hK hO_57 (C := RX3) (T := TX3) (N := 13) rfl)) rfl rfl hl.1 rfl (lv_room (Nat.le_of_ble_eq_true rfl)) dX3_reads_296 ⟨by first | exact Nat.le_of_ble_eq_true rfl | omega | (show _ ≤ _; omega) | (dsimp only [headSpec]; omega), by first | exact Nat.le_of_ble_eq_true rfl | omega | (show _ ≤ _; omega) | (dsimp only [headSpec]; omega)⟩) hS_60 (fun q _ h => by (try dsimp only at h); (try dsimp only); (try simp only [kNW] at h); (try simp only [kNW]); omega) (fun q h => by (try dsimp only at h); (try dsimp only); (try simp only [kNW] at h); (try simp only [kNW]); omega) (fun H_117 locs_114 hz_116 hF_118 hS_115 => ?_)
                        have hzf_120 := hF_118.1
                        refine W.widen (k := 0) (n := 0) (Nat.le_of_ble_eq_true rfl) (Nat.le_of_ble_eq_true rfl) ?_
                        have ho_121 := hz_116
                        refine lv_aload_n hx hb dX3_reads_299 rfl (lv_at hl 0 rfl) ?_
                        refine lv_aload_n hx hb dX3_reads_300 rfl (lv_at hl 0 rfl) ?_
                        refine kx_get (v := .int (kI (kb (false)))) (C := RX3) (T := TX3) (N := 13) hx hb hts in_X3 hown hK ho_121 rfl 9 (by decide) q2247 (fun _ h9 => h9) rfl dX3_reads_301 ?_
                        refine kx_ifz (tgt := 332) hx hb dX3_reads_304 (by decide) (fun c_304_122 => ?_) (fun c_304_122 => ?_)
                        · -- taken at 304
                          refine kx_iconst hx hb dX3_reads_332 ?_
                          refine kx_put (v := .int (kI (0))) (C := RX3) (T := TX3) (N := 13) hx hb hts in_X3 hown hK ho_121 rfl 12 (by decide) tyX3 tyX3_ok nmX3 hS_115 (by first | rfl | exact Or.inl rfl | exact Or.inr rfl | exact Or.inr (Or.inl rfl) | exact Or.inr (Or.inr rfl) | exact Or.inr (Or.inr (Or.inl rfl)) | exact Or.inr (Or.inr (Or.inr rfl)) | ((try dsimp only); (try simp only [kNW]); omega)) q2250 (fun _ h9 => h9) rfl rfl rfl rfl (Nat.le_of_ble_eq_true rfl) dX3_reads_333 (fun H_125 locs_126 hO_124 hU_123 hS_127 => ?_)
                          have hO_124 : kO D H_125 a 2 [.ref ra, .ref sa, .int (kI ((sn : Nat) : Int)), .ref ka, .int (kI (kb (ik))), .ref ta, .int (kI ((t.length : Nat) : Int)), .int (kI (th)), .int (kI (((((tx_num t 99 (spn + 1)).2)) : Nat) : Int)), .int (kI (kb (false))), .int (kI (110)), .int (kI ((((tx_num t 99 (spn + 1)).1)))), .int (kI (0))] := hO_124
                          have hzu_128 := hU_123.1
                          have hrd_129 : rdW t spn = (false, (((tx_num t 99 (spn + 1)).2)), (((tx_num t 99 (spn + 1)).1)), 0) := by rw [rdW, if_neg (by omega), if_neg (by omega), if_pos hlt9, rdW.rdTwo, if_pos hq, if_neg hw]
                          have hOz_130 : kO D H_125 a 2 [.ref ra, .ref sa, .int (kI ((sn : Nat) : Int)), .ref ka, .int (kI (kb (ik))), .ref ta, .int (kI ((t.length : Nat) : Int)), .int (kI (th)), .int (kI (((rdW t spn).2.1 : Nat) : Int)), .int (kI (kb ((rdW t spn).1))), .int (kI (tsg t spn)), .int (kI ((rdW t spn).2.2.1)), .int (kI ((rdW t spn).2.2.2))] := by rw [hrd_129, hlt9]; exact hO_124
                          exact kx_vret hx hb hr hlk (hOz_130) hS_127 dX3_reads_336
                        · -- not taken at 304
                          exact absurd c_304_122 (by decide)
                  · -- not taken at 267
                    exfalso; omega
                · -- hq f
                  have h_131 := hA_ta.up hU_5 (by first | assumption | exact Ne.symm (by assumption) | omega | (have h9 := hA_ta.lt; omega))
                  have h_132 := h_131.up hU_12 (by first | assumption | exact Ne.symm (by assumption) | omega | (have h9 := h_131.lt; omega))
                  have h_133 := h_132.up hU_19 (by first | assumption | exact Ne.symm (by assumption) | omega | (have h9 := h_132.lt; omega))
                  have h_134 := h_133.up hU_25 (by first | assumption | exact Ne.symm (by assumption) | omega | (have h9 := h_133.lt; omega))
                  have h_135 := h_134.up hU_31 (by first | assumption | exact Ne.symm (by assumption) | omega | (have h9 := h_134.lt; omega))
                  refine kx_ci (va_runV (As := [.int (kI (0)), .int (kI (99))]) (rest := [.ref a]) ⟨hx, hb, hml, hown, hts⟩ (m_num_f l D H_33 a ra sa ka ta sn ik th 110 (((spn + 1 : Nat) : Int)) 0 (spn + 1) gt t 0 99 hO_32 h_135 (by first | assumption | omega) (by first | assumption | omega) (by first | assumption | omega) (by first | assumption | omega) (by first | assumption | omega) (by first | assumption | omega) (by first | assumption | omega)) (cwV 2 hts (lw_V q2613 q2615 qs75 q89 q2616) rfl rfl rfl (by decide +kernel) ⟨Nat.le_of_ble_eq_true rfl, Nat.le_of_ble_eq_true rfl⟩) (kx_pv hK hS_35 hB (kx_rc hK hO_32 (C := RX3) (T := TX3) (N := 13) rfl)) rfl rfl hl.1 rfl (lv_room (Nat.le_of_ble_eq_true rfl)) dX3_reads_255 ⟨by first | exact Nat.le_of_ble_eq_true rfl | omega | (show _ ≤ _; omega) | (dsimp only [headSpec]; omega), by first | exact Nat.le_of_ble_eq_true rfl | omega | (show _ ≤ _; omega) | (dsimp only [headSpec]; omega)⟩) hS_35 (fun q _ h => by (try dsimp only at h); (try dsimp only); (try simp only [kNW] at h); (try simp only [kNW]); omega) (fun q h => by (try dsimp only at h); (try dsimp only); (try simp only [kNW] at h); (try simp only [kNW]); omega) (fun z_141 H_139 locs_136 hz_138 hF_140 hS_137 => ?_)
                  have hzf_142 := hF_140.1
                  refine W.widen (k := 0) (n := 0) (Nat.le_of_ble_eq_true rfl) (Nat.le_of_ble_eq_true rfl) ?_
                  obtain ⟨hv_143, ho_144⟩ := hz_138
                  subst z_141
                  refine kx_put (v := .int (kI (tsg t (spn + 1) - 48))) (C := RX3) (T := TX3) (N := 13) hx hb hts in_X3 hown hK ho_144 rfl 11 (by decide) tyX3 tyX3_ok nmX3 hS_137 (by first | rfl | exact Or.inl rfl | exact Or.inr rfl | exact Or.inr (Or.inl rfl) | exact Or.inr (Or.inr rfl) | exact Or.inr (Or.inr (Or.inl rfl)) | exact Or.inr (Or.inr (Or.inr rfl)) | ((try dsimp only); (try simp only [kNW]); omega)) q2249 (fun _ h9 => h9) rfl rfl rfl rfl (Nat.le_of_ble_eq_true rfl) dX3_reads_258 (fun H_147 locs_148 hO_146 hU_145 hS_149 => ?_)
                  have hO_146 : kO D H_147 a 2 [.ref ra, .ref sa, .int (kI ((sn : Nat) : Int)), .ref ka, .int (kI (kb (ik))), .ref ta, .int (kI ((t.length : Nat) : Int)), .int (kI (th)), .int (kI (((spn + 1) : Nat) : Int)), .int (kI (kb (false))), .int (kI (110)), .int (kI (tsg t (spn + 1) - 48)), .int (kI (0))] := hO_146
                  have hzu_150 := hU_145.1
                  refine lv_aload_n hx hb dX3_reads_261 rfl (lv_at hl 0 rfl) ?_
                  refine kx_get (v := .int (kI (110))) (C := RX3) (T := TX3) (N := 13) hx hb hts in_X3 hown hK hO_146 rfl 10 (by decide) q2248 (fun _ h9 => h9) rfl dX3_reads_262 ?_
                  refine kx_bipush hx hb (by decide) dX3_reads_265 ?_
                  refine kx_icmp_eq (x := 110) (y := 110) (tgt := 279) hx hb dX3_reads_267 (by decide) (by omega) (by omega) (by omega) (by omega) (fun c_267_151 => ?_) (fun c_267_151 => ?_)
                  · -- taken at 267
                    refine lv_aload_n hx hb dX3_reads_279 rfl (lv_at hl 0 rfl) ?_
                    refine lv_aload_n hx hb dX3_reads_280 rfl (lv_at hl 0 rfl) ?_
                    refine kx_get (v := .int (kI (110))) (C := RX3) (T := TX3) (N := 13) hx hb hts in_X3 hown hK hO_146 rfl 10 (by decide) q2248 (fun _ h9 => h9) rfl dX3_reads_281 ?_
                    refine kx_bipush hx hb (by decide) dX3_reads_284 ?_
                    refine kx_icmp_ne (x := 110) (y := 110) (tgt := 294) hx hb dX3_reads_286 (by decide) (by omega) (by omega) (by omega) (by omega) (fun c_286_152 => ?_) (fun c_286_152 => ?_)
                    · -- taken at 286
                      exfalso; omega
                    · -- not taken at 286
                      refine kx_bipush hx hb (by decide) dX3_reads_289 ?_
                      refine lv_goto (tgt := 296) hx hb dX3_reads_291 (by decide) ?_
                      have h_153 := h_135.fr hF_140 (fun h => by (try dsimp only at h); (try simp only [kNW] at h); omega)
                      have h_154 := h_153.up hU_145 (by first | assumption | exact Ne.symm (by assumption) | omega | (have h9 := h_153.lt; omega))
                      refine kx_cv (va_runV (As := [.int (kI (64))]) (rest := []) ⟨hx, hb, hml, hown, hts⟩ (m_needs_f l D H_147 a ra sa ka ta sn ik th false 110 (tsg t (spn + 1) - 48) 0 ((spn + 1)) gt t 64 hO_146 h_154 (by first | assumption | omega) (by first | assumption | omega) (by first | assumption | omega) (by first | assumption | omega) (by first | assumption | omega) (by first | assumption | omega) ((Or.inl rfl))) (cwV 1 hts (lw_V q2617 q2619 qs76 q89 q2620) rfl rfl rfl (by decide +kernel) ⟨Nat.le_of_ble_eq_true rfl, Nat.le_of_ble_eq_true rfl⟩) (kx_pv hK hS_149 hB (kx_rc hK hO_146 (C := RX3) (T := TX3) (N := 13) rfl)) rfl rfl hl.1 rfl (lv_room (Nat.le_of_ble_eq_true rfl)) dX3_reads_296 ⟨by first | exact Nat.le_of_ble_eq_true rfl | omega | (show _ ≤ _; omega) | (dsimp only [headSpec]; omega), by first | exact Nat.le_of_ble_eq_true rfl | omega | (show _ ≤ _; omega) | (dsimp only [headSpec]; omega)⟩) hS_149 (fun q _ h => by (try dsimp only at h); (try dsimp only); (try simp only [kNW] at h); (try simp only [kNW]); omega) (fun q h => by (try dsimp only at h); (try dsimp only); (try simp only [kNW] at h); (try simp only [kNW]); omega) (fun H_158 locs_155 hz_157 hF_159 hS_156 => ?_)
                      have hzf_161 := hF_159.1
                      refine W.widen (k := 0) (n := 0) (Nat.le_of_ble_eq_true rfl) (Nat.le_of_ble_eq_true rfl) ?_
                      have ho_162 := hz_157
                      refine lv_aload_n hx hb dX3_reads_299 rfl (lv_at hl 0 rfl) ?_
                      refine lv_aload_n hx hb dX3_reads_300 rfl (lv_at hl 0 rfl) ?_
                      refine kx_get (v := .int (kI (kb (false)))) (C := RX3) (T := TX3) (N := 13) hx hb hts in_X3 hown hK ho_162 rfl 9 (by decide) q2247 (fun _ h9 => h9) rfl dX3_reads_301 ?_
                      refine kx_ifz (tgt := 332) hx hb dX3_reads_304 (by decide) (fun c_304_163 => ?_) (fun c_304_163 => ?_)
                      · -- taken at 304
                        refine kx_iconst hx hb dX3_reads_332 ?_
                        refine kx_put (v := .int (kI (0))) (C := RX3) (T := TX3) (N := 13) hx hb hts in_X3 hown hK ho_162 rfl 12 (by decide) tyX3 tyX3_ok nmX3 hS_156 (by first | rfl | exact Or.inl rfl | exact Or.inr rfl | exact Or.inr (Or.inl rfl) | exact Or.inr (Or.inr rfl) | exact Or.inr (Or.inr (Or.inl rfl)) | exact Or.inr (Or.inr (Or.inr rfl)) | ((try dsimp only); (try simp only [kNW]); omega)) q2250 (fun _ h9 => h9) rfl rfl rfl rfl (Nat.le_of_ble_eq_true rfl) dX3_reads_333 (fun H_166 locs_167 hO_165 hU_164 hS_168 => ?_)
                        have hO_165 : kO D H_166 a 2 [.ref ra, .ref sa, .int (kI ((sn : Nat) : Int)), .ref ka, .int (kI (kb (ik))), .ref ta, .int (kI ((t.length : Nat) : Int)), .int (kI (th)), .int (kI (((((spn + 1))) : Nat) : Int)), .int (kI (kb (false))), .int (kI (110)), .int (kI (((tsg t (spn + 1) - 48)))), .int (kI (0))] := hO_165
                        have hzu_169 := hU_164.1
                        have hrd_170 : rdW t spn = (false, (((spn + 1))), ((tsg t (spn + 1) - 48)), 0) := by rw [rdW, if_neg (by omega), if_neg (by omega), if_pos hlt9, rdW.rdTwo, if_neg hq]
                        have hOz_171 : kO D H_166 a 2 [.ref ra, .ref sa, .int (kI ((sn : Nat) : Int)), .ref ka, .int (kI (kb (ik))), .ref ta, .int (kI ((t.length : Nat) : Int)), .int (kI (th)), .int (kI (((rdW t spn).2.1 : Nat) : Int)), .int (kI (kb ((rdW t spn).1))), .int (kI (tsg t spn)), .int (kI ((rdW t spn).2.2.1)), .int (kI ((rdW t spn).2.2.2))] := by rw [hrd_170, hlt9]; exact hO_165
                        exact kx_vret hx hb hr hlk (hOz_171) hS_168 dX3_reads_336
                      · -- not taken at 304
                        exact absurd c_304_163 (by decide)
                  · -- not taken at 267
                    exfalso; omega
            · -- not taken at 217
              exfalso; omega
      · -- not taken at 129
        exfalso; omega
  · -- not taken at 15
    exfalso; omega

set_option maxHeartbeats 4000000 in
set_option maxRecDepth 100000 in
theorem m_reads_l (l : Launch) (D : kG) (H : Heap) (a : Nat) (ra : Nat) (sa : Nat) (ka : Nat) (ta : Nat) (sn : Nat) (ik : Bool) (th : Int) (spn : Nat) (gt : Nat → Int) (t : List Int) (iw : Bool) (le : Int) (fi : Int) (se : Int) (hO_a : kO D H a 2 [.ref ra, .ref sa, .int (kI ((sn : Nat) : Int)), .ref ka, .int (kI (kb (ik))), .ref ta, .int (kI ((t.length : Nat) : Int)), .int (kI (th)), .int (kI ((spn : Nat) : Int)), .int (kI (kb (iw))), .int (kI (le)), .int (kI (fi)), .int (kI (se))]) (hA_ta : kAi D H ta 60 gt) (hsp : spn ≤ 1000) (hT : MTx gt t) (ht60 : t.length ≤ 60) (ne_a_ta : a ≠ ta) (bs_a : kBase D ≤ a) (hlt9 : tsg t spn = 108) : Met l yX3_reads (ws_ yX3_reads cX3_reads 1 none) ({ frames := 2, cells := 0, slots := 0, locals := 45 } : Room) (kPre D H [.ref a]) (kQv (fun H' => (kO D H' a 2 [.ref ra, .ref sa, .int (kI ((sn : Nat) : Int)), .ref ka, .int (kI (kb (ik))), .ref ta, .int (kI ((t.length : Nat) : Int)), .int (kI (th)), .int (kI (((rdW t spn).2.1 : Nat) : Int)), .int (kI (kb ((rdW t spn).1))), .int (kI (tsg t spn)), .int (kI ((rdW t spn).2.2.1)), .int (kI ((rdW t spn).2.2.2))])) (fun q : Nat => q = a)) (0) (0) ((fun q : Nat => q = a)) := by
  refine Met.ofW (cc := cX3_reads) (maxL := 1) (ret := none) (by decide) rfl ?_
  intro p e s m args below meth c s₁ B hml hv
  obtain ⟨rfl, hH, hK⟩ := hv
  subst hH
  have hx := B.exec
  have hb := B.bytes
  have hr := B.returns
  have hts := atoms_spec (ws := ws_ yX3_reads cX3_reads 1 none) B.pre
  have hts : ∀ w ∈ lw_all, w.before _ s = true := fun w h => hts w (List.mem_cons_of_mem _ h)
  have hown : s.vm.findClass RX3 = some m.cls := findClass_of_methodNamed B.named
  have hlk := B.notSynchronized
  have hS : va_S (fun q : Nat => q = a) s.heap s.heap [] := va_S.rf
  have hB : ∀ q, (fun q : Nat => q = a) q → kBase D ≤ q := fun q h => by (try dsimp only at h); (try simp only [kNW] at h); have hks := hK.size; omega
  have hl := lv_entry ([.ref a]) (n := 1) (Nat.le_of_ble_eq_true rfl)
  rw [lg_entry_eq]
  generalize (lg_sl ([.ref a]) ++ List.replicate (1 - (lg_sl ([.ref a])).length) Slot.unset).toArray = ls at hl ⊢
  have hl : lv_has ls 1 [(0, .ref a)] := hl
  have hlt := hT.lt (i := spn) (by omega)
  refine lv_aload_n hx hb dX3_reads_0 rfl (lv_at hl 0 rfl) ?_
  refine lv_aload_n hx hb dX3_reads_1 rfl (lv_at hl 0 rfl) ?_
  refine kx_ci0 (va_runV (As := []) (rest := [.ref a]) ⟨hx, hb, hml, hown, hts⟩ (m_X3_sign l D s.heap a ra sa ka ta sn ik th iw le fi se spn gt t hO_a hA_ta (by first | assumption | omega) (by first | assumption | omega) (by first | assumption | omega) (by first | assumption | omega) (by first | assumption | omega)) (cwV 0 hts (lw_V q2609 q2611 qs74 q89 q2612) rfl rfl rfl (by decide +kernel) ⟨Nat.le_of_ble_eq_true rfl, Nat.le_of_ble_eq_true rfl⟩) (kx_pv hK hS hB (kx_rc hK hO_a (C := RX3) (T := TX3) (N := 13) rfl)) rfl rfl hl.1 rfl (lv_room (Nat.le_of_ble_eq_true rfl)) dX3_reads_2 ⟨by first | exact Nat.le_of_ble_eq_true rfl | omega | (show _ ≤ _; omega) | (dsimp only [headSpec]; omega), by first | exact Nat.le_of_ble_eq_true rfl | omega | (show _ ≤ _; omega) | (dsimp only [headSpec]; omega)⟩) hS (fun z_4 locs_1 hz_3 hS_2 => ?_)
  subst z_4
  refine kx_eqi (108) (hlt9) ?_
  refine kx_put (v := .int (kI (108))) (C := RX3) (T := TX3) (N := 13) hx hb hts in_X3 hown hK hO_a rfl 10 (by decide) tyX3 tyX3_ok nmX3 hS_2 (by first | rfl | exact Or.inl rfl | exact Or.inr rfl | exact Or.inr (Or.inl rfl) | exact Or.inr (Or.inr rfl) | exact Or.inr (Or.inr (Or.inl rfl)) | exact Or.inr (Or.inr (Or.inr rfl)) | ((try dsimp only); (try simp only [kNW]); omega)) q2248 (fun _ h9 => h9) rfl rfl rfl rfl (Nat.le_of_ble_eq_true rfl) dX3_reads_5 (fun H_7 locs_8 hO_6 hU_5 hS_9 => ?_)
  have hO_6 : kO D H_7 a 2 [.ref ra, .ref sa, .int (kI ((sn : Nat) : Int)), .ref ka, .int (kI (kb (ik))), .ref ta, .int (kI ((t.length : Nat) : Int)), .int (kI (th)), .int (kI ((spn : Nat) : Int)), .int (kI (kb (iw))), .int (kI (108)), .int (kI (fi)), .int (kI (se))] := hO_6
  have hzu_10 := hU_5.1
  refine lv_aload_n hx hb dX3_reads_8 rfl (lv_at hl 0 rfl) ?_
  refine lv_aload_n hx hb dX3_reads_9 rfl (lv_at hl 0 rfl) ?_
  refine kx_get (v := .int (kI (108))) (C := RX3) (T := TX3) (N := 13) hx hb hts in_X3 hown hK hO_6 rfl 10 (by decide) q2248 (fun _ h9 => h9) rfl dX3_reads_10 ?_
  refine kx_bipush hx hb (by decide) dX3_reads_13 ?_
  refine kx_icmp_eq (x := 108) (y := 110) (tgt := 81) hx hb dX3_reads_15 (by decide) (by omega) (by omega) (by omega) (by omega) (fun c_15_11 => ?_) (fun c_15_11 => ?_)
  · -- taken at 15
    exfalso; omega
  · -- not taken at 15
    refine lv_aload_n hx hb dX3_reads_18 rfl (lv_at hl 0 rfl) ?_
    refine kx_get (v := .int (kI (108))) (C := RX3) (T := TX3) (N := 13) hx hb hts in_X3 hown hK hO_6 rfl 10 (by decide) q2248 (fun _ h9 => h9) rfl dX3_reads_19 ?_
    refine kx_bipush hx hb (by decide) dX3_reads_22 ?_
    refine kx_icmp_eq (x := 108) (y := 115) (tgt := 81) hx hb dX3_reads_24 (by decide) (by omega) (by omega) (by omega) (by omega) (fun c_24_12 => ?_) (fun c_24_12 => ?_)
    · -- taken at 24
      exfalso; omega
    · -- not taken at 24
      refine lv_aload_n hx hb dX3_reads_27 rfl (lv_at hl 0 rfl) ?_
      refine kx_get (v := .int (kI (108))) (C := RX3) (T := TX3) (N := 13) hx hb hts in_X3 hown hK hO_6 rfl 10 (by decide) q2248 (fun _ h9 => h9) rfl dX3_reads_28 ?_
      refine kx_bipush hx hb (by decide) dX3_reads_31 ?_
      refine kx_icmp_eq (x := 108) (y := 119) (tgt := 81) hx hb dX3_reads_33 (by decide) (by omega) (by omega) (by omega) (by omega) (fun c_33_13 => ?_) (fun c_33_13 => ?_)
      · -- taken at 33
        exfalso; omega
      · -- not taken at 33
        refine lv_aload_n hx hb dX3_reads_36 rfl (lv_at hl 0 rfl) ?_
        refine kx_get (v := .int (kI (108))) (C := RX3) (T := TX3) (N := 13) hx hb hts in_X3 hown hK hO_6 rfl 10 (by decide) q2248 (fun _ h9 => h9) rfl dX3_reads_37 ?_
        refine kx_bipush hx hb (by decide) dX3_reads_40 ?_
        refine kx_icmp_eq (x := 108) (y := 108) (tgt := 81) hx hb dX3_reads_42 (by decide) (by omega) (by omega) (by omega) (by omega) (fun c_42_14 => ?_) (fun c_42_14 => ?_)
        · -- taken at 42
          refine kx_iconst hx hb dX3_reads_81 ?_
          refine lv_goto (tgt := 86) hx hb dX3_reads_82 (by decide) ?_
          refine kx_put (v := .int (kI (kb (true)))) (C := RX3) (T := TX3) (N := 13) hx hb hts in_X3 hown hK hO_6 rfl 9 (by decide) tyX3 tyX3_ok nmX3 hS_9 (by first | rfl | exact Or.inl rfl | exact Or.inr rfl | exact Or.inr (Or.inl rfl) | exact Or.inr (Or.inr rfl) | exact Or.inr (Or.inr (Or.inl rfl)) | exact Or.inr (Or.inr (Or.inr rfl)) | ((try dsimp only); (try simp only [kNW]); omega)) q2247 (fun _ h9 => h9) rfl rfl (kb_narZ _) (kb_fitZ _) (Nat.le_of_ble_eq_true rfl) dX3_reads_86 (fun H_17 locs_18 hO_16 hU_15 hS_19 => ?_)
          have hO_16 : kO D H_17 a 2 [.ref ra, .ref sa, .int (kI ((sn : Nat) : Int)), .ref ka, .int (kI (kb (ik))), .ref ta, .int (kI ((t.length : Nat) : Int)), .int (kI (th)), .int (kI ((spn : Nat) : Int)), .int (kI (kb (true))), .int (kI (108)), .int (kI (fi)), .int (kI (se))] := hO_16
          have hzu_20 := hU_15.1
          refine lv_aload_n hx hb dX3_reads_89 rfl (lv_at hl 0 rfl) ?_
          refine lv_dup hx hb dX3_reads_90 rfl ?_
          refine kx_get (v := .int (kI ((spn : Nat) : Int))) (C := RX3) (T := TX3) (N := 13) hx hb hts in_X3 hown hK hO_16 rfl 8 (by decide) q2246 (fun _ h9 => h9) rfl dX3_reads_91 ?_
          refine lv_aload_n hx hb dX3_reads_94 rfl (lv_at hl 0 rfl) ?_
          refine kx_get (v := .int (kI (kb (true)))) (C := RX3) (T := TX3) (N := 13) hx hb hts in_X3 hown hK hO_16 rfl 9 (by decide) q2247 (fun _ h9 => h9) rfl dX3_reads_95 ?_
          refine kx_ifz (tgt := 105) hx hb dX3_reads_98 (by decide) (fun c_98_21 => ?_) (fun c_98_21 => ?_)
          · -- taken at 98
            exact absurd c_98_21 (by decide)
          · -- not taken at 98
            refine kx_iconst hx hb dX3_reads_101 ?_
            refine lv_goto (tgt := 106) hx hb dX3_reads_102 (by decide) ?_
            refine kx_iadd hx hb dX3_reads_106 ?_
            refine kx_eqi (((spn + 1 : Nat) : Int)) (by omega) ?_
            refine kx_put (v := .int (kI ((spn + 1 : Nat) : Int))) (C := RX3) (T := TX3) (N := 13) hx hb hts in_X3 hown hK hO_16 rfl 8 (by decide) tyX3 tyX3_ok nmX3 hS_19 (by first | rfl | exact Or.inl rfl | exact Or.inr rfl | exact Or.inr (Or.inl rfl) | exact Or.inr (Or.inr rfl) | exact Or.inr (Or.inr (Or.inl rfl)) | exact Or.inr (Or.inr (Or.inr rfl)) | ((try dsimp only); (try simp only [kNW]); omega)) q2246 (fun _ h9 => h9) rfl rfl rfl rfl (Nat.le_of_ble_eq_true rfl) dX3_reads_107 (fun H_24 locs_25 hO_23 hU_22 hS_26 => ?_)
            have hO_23 : kO D H_24 a 2 [.ref ra, .ref sa, .int (kI ((sn : Nat) : Int)), .ref ka, .int (kI (kb (ik))), .ref ta, .int (kI ((t.length : Nat) : Int)), .int (kI (th)), .int (kI ((spn + 1 : Nat) : Int)), .int (kI (kb (true))), .int (kI (108)), .int (kI (fi)), .int (kI (se))] := hO_23
            have hzu_27 := hU_22.1
            refine lv_aload_n hx hb dX3_reads_110 rfl (lv_at hl 0 rfl) ?_
            refine lv_aload_n hx hb dX3_reads_111 rfl (lv_at hl 0 rfl) ?_
            refine kx_get (v := .int (kI ((spn + 1 : Nat) : Int))) (C := RX3) (T := TX3) (N := 13) hx hb hts in_X3 hown hK hO_23 rfl 8 (by decide) q2246 (fun _ h9 => h9) rfl dX3_reads_112 ?_
            refine kx_put (v := .int (kI ((spn + 1 : Nat) : Int))) (C := RX3) (T := TX3) (N := 13) hx hb hts in_X3 hown hK hO_23 rfl 11 (by decide) tyX3 tyX3_ok nmX3 hS_26 (by first | rfl | exact Or.inl rfl | exact Or.inr rfl | exact Or.inr (Or.inl rfl) | exact Or.inr (Or.inr rfl) | exact Or.inr (Or.inr (Or.inl rfl)) | exact Or.inr (Or.inr (Or.inr rfl)) | ((try dsimp only); (try simp only [kNW]); omega)) q2249 (fun _ h9 => h9) rfl rfl rfl rfl (Nat.le_of_ble_eq_true rfl) dX3_reads_115 (fun H_30 locs_31 hO_29 hU_28 hS_32 => ?_)
            have hO_29 : kO D H_30 a 2 [.ref ra, .ref sa, .int (kI ((sn : Nat) : Int)), .ref ka, .int (kI (kb (ik))), .ref ta, .int (kI ((t.length : Nat) : Int)), .int (kI (th)), .int (kI ((spn + 1 : Nat) : Int)), .int (kI (kb (true))), .int (kI (108)), .int (kI ((spn + 1 : Nat) : Int)), .int (kI (se))] := hO_29
            have hzu_33 := hU_28.1
            refine lv_aload_n hx hb dX3_reads_118 rfl (lv_at hl 0 rfl) ?_
            refine kx_iconst hx hb dX3_reads_119 ?_
            refine kx_put (v := .int (kI (0))) (C := RX3) (T := TX3) (N := 13) hx hb hts in_X3 hown hK hO_29 rfl 12 (by decide) tyX3 tyX3_ok nmX3 hS_32 (by first | rfl | exact Or.inl rfl | exact Or.inr rfl | exact Or.inr (Or.inl rfl) | exact Or.inr (Or.inr rfl) | exact Or.inr (Or.inr (Or.inl rfl)) | exact Or.inr (Or.inr (Or.inr rfl)) | ((try dsimp only); (try simp only [kNW]); omega)) q2250 (fun _ h9 => h9) rfl rfl rfl rfl (Nat.le_of_ble_eq_true rfl) dX3_reads_120 (fun H_36 locs_37 hO_35 hU_34 hS_38 => ?_)
            have hO_35 : kO D H_36 a 2 [.ref ra, .ref sa, .int (kI ((sn : Nat) : Int)), .ref ka, .int (kI (kb (ik))), .ref ta, .int (kI ((t.length : Nat) : Int)), .int (kI (th)), .int (kI ((spn + 1 : Nat) : Int)), .int (kI (kb (true))), .int (kI (108)), .int (kI ((spn + 1 : Nat) : Int)), .int (kI (0))] := hO_35
            have hzu_39 := hU_34.1
            refine lv_aload_n hx hb dX3_reads_123 rfl (lv_at hl 0 rfl) ?_
            refine kx_get (v := .int (kI (108))) (C := RX3) (T := TX3) (N := 13) hx hb hts in_X3 hown hK hO_35 rfl 10 (by decide) q2248 (fun _ h9 => h9) rfl dX3_reads_124 ?_
            refine kx_bipush hx hb (by decide) dX3_reads_127 ?_
            refine kx_icmp_ne (x := 108) (y := 115) (tgt := 193) hx hb dX3_reads_129 (by decide) (by omega) (by omega) (by omega) (by omega) (fun c_129_40 => ?_) (fun c_129_40 => ?_)
            · -- taken at 129
              refine lv_aload_n hx hb dX3_reads_193 rfl (lv_at hl 0 rfl) ?_
              refine kx_get (v := .int (kI (108))) (C := RX3) (T := TX3) (N := 13) hx hb hts in_X3 hown hK hO_35 rfl 10 (by decide) q2248 (fun _ h9 => h9) rfl dX3_reads_194 ?_
              refine kx_bipush hx hb (by decide) dX3_reads_197 ?_
              refine kx_icmp_eq (x := 108) (y := 97) (tgt := 336) hx hb dX3_reads_199 (by decide) (by omega) (by omega) (by omega) (by omega) (fun c_199_41 => ?_) (fun c_199_41 => ?_)
              · -- taken at 199
                exfalso; omega
              · -- not taken at 199
                refine lv_aload_n hx hb dX3_reads_202 rfl (lv_at hl 0 rfl) ?_
                refine kx_get (v := .int (kI (kb (true)))) (C := RX3) (T := TX3) (N := 13) hx hb hts in_X3 hown hK hO_35 rfl 9 (by decide) q2247 (fun _ h9 => h9) rfl dX3_reads_203 ?_
                refine kx_ifz (tgt := 336) hx hb dX3_reads_206 (by decide) (fun c_206_42 => ?_) (fun c_206_42 => ?_)
                · -- taken at 206
                  exact absurd c_206_42 (by decide)
                · -- not taken at 206
                  refine lv_aload_n hx hb dX3_reads_209 rfl (lv_at hl 0 rfl) ?_
                  refine lv_aload_n hx hb dX3_reads_210 rfl (lv_at hl 0 rfl) ?_
                  refine lv_aload_n hx hb dX3_reads_211 rfl (lv_at hl 0 rfl) ?_
                  refine kx_get (v := .int (kI (108))) (C := RX3) (T := TX3) (N := 13) hx hb hts in_X3 hown hK hO_35 rfl 10 (by decide) q2248 (fun _ h9 => h9) rfl dX3_reads_212 ?_
                  refine kx_bipush hx hb (by decide) dX3_reads_215 ?_
                  refine kx_icmp_ne (x := 108) (y := 103) (tgt := 224) hx hb dX3_reads_217 (by decide) (by omega) (by omega) (by omega) (by omega) (fun c_217_43 => ?_) (fun c_217_43 => ?_)
                  · -- taken at 217
                    refine kx_iconst hx hb dX3_reads_224 ?_
                    refine lv_aload_n hx hb dX3_reads_225 rfl (lv_at hl 0 rfl) ?_
                    refine kx_get (v := .int (kI (108))) (C := RX3) (T := TX3) (N := 13) hx hb hts in_X3 hown hK hO_35 rfl 10 (by decide) q2248 (fun _ h9 => h9) rfl dX3_reads_226 ?_
                    refine kx_bipush hx hb (by decide) dX3_reads_229 ?_
                    refine kx_icmp_ne (x := 108) (y := 110) (tgt := 239) hx hb dX3_reads_231 (by decide) (by omega) (by omega) (by omega) (by omega) (fun c_231_44 => ?_) (fun c_231_44 => ?_)
                    · -- taken at 231
                      refine lv_aload_n hx hb dX3_reads_239 rfl (lv_at hl 0 rfl) ?_
                      refine kx_get (v := .int (kI (108))) (C := RX3) (T := TX3) (N := 13) hx hb hts in_X3 hown hK hO_35 rfl 10 (by decide) q2248 (fun _ h9 => h9) rfl dX3_reads_240 ?_
                      refine kx_bipush hx hb (by decide) dX3_reads_243 ?_
                      refine kx_icmp_ne (x := 108) (y := 103) (tgt := 253) hx hb dX3_reads_245 (by decide) (by omega) (by omega) (by omega) (by omega) (fun c_245_45 => ?_) (fun c_245_45 => ?_)
                      · -- taken at 245
                        refine kx_bipush hx hb (by decide) dX3_reads_253 ?_
                        by_cases hq : tx_numOK t 0 7 (spn + 1)
                        · -- hq t
                          have hlt2 := hT.lt (i := spn + 1) (by obtain ⟨z1, z2⟩ := hq; omega)
                          have hpl := tx_num_place (7) hlt2
                          have h_46 := hA_ta.up hU_5 (by first | assumption | exact Ne.symm (by assumption) | omega | (have h9 := hA_ta.lt; omega))
                          have h_47 := h_46.up hU_15 (by first | assumption | exact Ne.symm (by assumption) | omega | (have h9 := h_46.lt; omega))
                          have h_48 := h_47.up hU_22 (by first | assumption | exact Ne.symm (by assumption) | omega | (have h9 := h_47.lt; omega))
                          have h_49 := h_48.up hU_28 (by first | assumption | exact Ne.symm (by assumption) | omega | (have h9 := h_48.lt; omega))
                          have h_50 := h_49.up hU_34 (by first | assumption | exact Ne.symm (by assumption) | omega | (have h9 := h_49.lt; omega))
                          refine kx_ci (va_runV (As := [.int (kI (0)), .int (kI (7))]) (rest := [.ref a]) ⟨hx, hb, hml, hown, hts⟩ (m_num_t l D H_36 a ra sa ka ta sn ik th 108 (((spn + 1 : Nat) : Int)) 0 (spn + 1) gt t 0 7 hO_35 h_50 (by first | assumption | omega) (by first | assumption | omega) (by first | assumption | omega) (by first | assumption | omega) (by first | assumption | omega) (by first | assumption | omega) (by first | assumption | omega)) (cwV 2 hts (lw_V q2613 q2615 qs75 q89 q2616) rfl rfl rfl (by decide +kernel) ⟨Nat.le_of_ble_eq_true rfl, Nat.le_of_ble_eq_true rfl⟩) (kx_pv hK hS_38 hB (kx_rc hK hO_35 (C := RX3) (T := TX3) (N := 13) rfl)) rfl rfl hl.1 rfl (lv_room (Nat.le_of_ble_eq_true rfl)) dX3_reads_255 ⟨by first | exact Nat.le_of_ble_eq_true rfl | omega | (show _ ≤ _; omega) | (dsimp only [headSpec]; omega), by first | exact Nat.le_of_ble_eq_true rfl | omega | (show _ ≤ _; omega) | (dsimp only [headSpec]; omega)⟩) hS_38 (fun q _ h => by (try dsimp only at h); (try dsimp only); (try simp only [kNW] at h); (try simp only [kNW]); omega) (fun q h => by (try dsimp only at h); (try dsimp only); (try simp only [kNW] at h); (try simp only [kNW]); omega) (fun z_56 H_54 locs_51 hz_53 hF_55 hS_52 => ?_)
                          have hzf_57 := hF_55.1
                          refine W.widen (k := 0) (n := 0) (Nat.le_of_ble_eq_true rfl) (Nat.le_of_ble_eq_true rfl) ?_
                          obtain ⟨hv_58, ho_59⟩ := hz_53
                          subst z_56
                          refine kx_put (v := .int (kI ((tx_num t 7 (spn + 1)).1))) (C := RX3) (T := TX3) (N := 13) hx hb hts in_X3 hown hK ho_59 rfl 11 (by decide) tyX3 tyX3_ok nmX3 hS_52 (by first | rfl | exact Or.inl rfl | exact Or.inr rfl | exact Or.inr (Or.inl rfl) | exact Or.inr (Or.inr rfl) | exact Or.inr (Or.inr (Or.inl rfl)) | exact Or.inr (Or.inr (Or.inr rfl)) | ((try dsimp only); (try simp only [kNW]); omega)) q2249 (fun _ h9 => h9) rfl rfl rfl rfl (Nat.le_of_ble_eq_true rfl) dX3_reads_258 (fun H_62 locs_63 hO_61 hU_60 hS_64 => ?_)
                          have hO_61 : kO D H_62 a 2 [.ref ra, .ref sa, .int (kI ((sn : Nat) : Int)), .ref ka, .int (kI (kb (ik))), .ref ta, .int (kI ((t.length : Nat) : Int)), .int (kI (th)), .int (kI (((tx_num t 7 (spn + 1)).2 : Nat) : Int)), .int (kI (kb (true))), .int (kI (108)), .int (kI ((tx_num t 7 (spn + 1)).1)), .int (kI (0))] := hO_61
                          have hzu_65 := hU_60.1
                          refine lv_aload_n hx hb dX3_reads_261 rfl (lv_at hl 0 rfl) ?_
                          refine kx_get (v := .int (kI (108))) (C := RX3) (T := TX3) (N := 13) hx hb hts in_X3 hown hK hO_61 rfl 10 (by decide) q2248 (fun _ h9 => h9) rfl dX3_reads_262 ?_
                          refine kx_bipush hx hb (by decide) dX3_reads_265 ?_
                          refine kx_icmp_eq (x := 108) (y := 110) (tgt := 279) hx hb dX3_reads_267 (by decide) (by omega) (by omega) (by omega) (by omega) (fun c_267_66 => ?_) (fun c_267_66 => ?_)
                          · -- taken at 267
                            exfalso; omega
                          · -- not taken at 267
                            refine lv_aload_n hx hb dX3_reads_270 rfl (lv_at hl 0 rfl) ?_
                            refine kx_get (v := .int (kI (108))) (C := RX3) (T := TX3) (N := 13) hx hb hts in_X3 hown hK hO_61 rfl 10 (by decide) q2248 (fun _ h9 => h9) rfl dX3_reads_271 ?_
                            refine kx_bipush hx hb (by decide) dX3_reads_274 ?_
                            refine kx_icmp_ne (x := 108) (y := 108) (tgt := 336) hx hb dX3_reads_276 (by decide) (by omega) (by omega) (by omega) (by omega) (fun c_276_67 => ?_) (fun c_276_67 => ?_)
                            · -- taken at 276
                              exfalso; omega
                            · -- not taken at 276
                              refine lv_aload_n hx hb dX3_reads_279 rfl (lv_at hl 0 rfl) ?_
                              refine lv_aload_n hx hb dX3_reads_280 rfl (lv_at hl 0 rfl) ?_
                              refine kx_get (v := .int (kI (108))) (C := RX3) (T := TX3) (N := 13) hx hb hts in_X3 hown hK hO_61 rfl 10 (by decide) q2248 (fun _ h9 => h9) rfl dX3_reads_281 ?_
                              refine kx_bipush hx hb (by decide) dX3_reads_284 ?_
                              refine kx_icmp_ne (x := 108) (y := 110) (tgt := 294) hx hb dX3_reads_286 (by decide) (by omega) (by omega) (by omega) (by omega) (fun c_286_68 => ?_) (fun c_286_68 => ?_)
                              · -- taken at 286
                                refine kx_bipush hx hb (by decide) dX3_reads_294 ?_
                                by_cases hw : tsg t (tx_num t 7 (spn + 1)).2 = 46
                                · -- hw t
                                  have h_69 := h_50.fr hF_55 (fun h => by (try dsimp only at h); (try simp only [kNW] at h); omega)
                                  have h_70 := h_69.up hU_60 (by first | assumption | exact Ne.symm (by assumption) | omega | (have h9 := h_69.lt; omega))
                                  refine kx_cv (va_runV (As := [.int (kI (46))]) (rest := []) ⟨hx, hb, hml, hown, hts⟩ (m_needs_t l D H_62 a ra sa ka ta sn ik th 108 ((tx_num t 7 (spn + 1)).1) 0 ((tx_num t 7 (spn + 1)).2) gt t 46 hO_61 h_70 (by first | assumption | omega) (by first | assumption | omega) (by first | assumption | omega) (by first | assumption | omega) (by first | assumption | omega) (by first | assumption | omega)) (cwV 1 hts (lw_V q2617 q2619 qs76 q89 q2620) rfl rfl rfl (by decide +kernel) ⟨Nat.le_of_ble_eq_true rfl, Nat.le_of_ble_eq_true rfl⟩) (kx_pv hK hS_64 hB (kx_rc hK hO_61 (C := RX3) (T := TX3) (N := 13) rfl)) rfl rfl hl.1 rfl (lv_room (Nat.le_of_ble_eq_true rfl)) dX3_reads_296 ⟨by first | exact Nat.le_of_ble_eq_true rfl | omega | (show _ ≤ _; omega) | (dsimp only [headSpec]; omega), by first | exact Nat.le_of_ble_eq_true rfl | omega | (show _ ≤ _; omega) | (dsimp only [headSpec]; omega)⟩) hS_64 (fun q _ h => by (try dsimp only at h); (try dsimp only); (try simp only [kNW] at h); (try simp only [kNW]); omega) (fun q h => by (try dsimp only at h); (try dsimp only); (try simp only [kNW] at h); (try simp only [kNW]); omega) (fun H_74 locs_71 hz_73 hF_75 hS_72 => ?_)
                                  have hzf_77 := hF_75.1
                                  refine W.widen (k := 0) (n := 0) (Nat.le_of_ble_eq_true rfl) (Nat.le_of_ble_eq_true rfl) ?_
                                  have ho_78 := hz_73
                                  refine lv_aload_n hx hb dX3_reads_299 rfl (lv_at hl 0 rfl) ?_
                                  refine lv_aload_n hx hb dX3_reads_300 rfl (lv_at hl 0 rfl) ?_
                                  refine kx_get (v := .int (kI (kb (true)))) (C := RX3) (T := TX3) (N := 13) hx hb hts in_X3 hown hK ho_78 rfl 9 (by decide) q2247 (fun _ h9 => h9) rfl dX3_reads_301 ?_
                                  refine kx_ifz (tgt := 332) hx hb dX3_reads_304 (by decide) (fun c_304_79 => ?_) (fun c_304_79 => ?_)
                                  · -- taken at 304
                                    exact absurd c_304_79 (by decide)
                                  · -- not taken at 304
                                    refine lv_aload_n hx hb dX3_reads_307 rfl (lv_at hl 0 rfl) ?_
                                    refine kx_iconst hx hb dX3_reads_308 ?_
                                    refine lv_aload_n hx hb dX3_reads_309 rfl (lv_at hl 0 rfl) ?_
                                    refine kx_get (v := .int (kI (108))) (C := RX3) (T := TX3) (N := 13) hx hb hts in_X3 hown hK ho_78 rfl 10 (by decide) q2248 (fun _ h9 => h9) rfl dX3_reads_310 ?_
                                    refine kx_bipush hx hb (by decide) dX3_reads_313 ?_
                                    refine kx_icmp_ne (x := 108) (y := 110) (tgt := 324) hx hb dX3_reads_315 (by decide) (by omega) (by omega) (by omega) (by omega) (fun c_315_80 => ?_) (fun c_315_80 => ?_)
                                    · -- taken at 315
                                      refine kx_bipush hx hb (by decide) dX3_reads_324 ?_
                                      by_cases hq2 : tx_numOK t 0 59 ((tx_num t 7 (spn + 1)).2 + 1)
                                      · -- hq2 t
                                        have h_81 := h_70.fr hF_75 (fun h => by (try dsimp only at h); (try simp only [kNW] at h); omega)
                                        refine kx_ci (va_runV (As := [.int (kI (0)), .int (kI (59))]) (rest := [.ref a]) ⟨hx, hb, hml, hown, hts⟩ (m_num_t l D H_74 a ra sa ka ta sn ik th 108 ((((tx_num t 7 (spn + 1)).1))) 0 ((((tx_num t 7 (spn + 1)).2)) + 1) gt t 0 59 ho_78 h_81 (by first | assumption | omega) (by first | assumption | omega) (by first | assumption | omega) (by first | assumption | omega) (by first | assumption | omega) (by first | assumption | omega) (by first | assumption | omega)) (cwV 2 hts (lw_V q2613 q2615 qs75 q89 q2616) rfl rfl rfl (by decide +kernel) ⟨Nat.le_of_ble_eq_true rfl, Nat.le_of_ble_eq_true rfl⟩) (kx_pv hK hS_72 hB (kx_rc hK ho_78 (C := RX3) (T := TX3) (N := 13) rfl)) rfl rfl hl.1 rfl (lv_room (Nat.le_of_ble_eq_true rfl)) dX3_reads_326 ⟨by first | exact Nat.le_of_ble_eq_true rfl | omega | (show _ ≤ _; omega) | (dsimp only [headSpec]; omega), by first | exact Nat.le_of_ble_eq_true rfl | omega | (show _ ≤ _; omega) | (dsimp only [headSpec]; omega)⟩) hS_72 (fun q _ h => by (try dsimp only at h); (try dsimp only); (try simp only [kNW] at h); (try simp only [kNW]); omega) (fun q h => by (try dsimp only at h); (try dsimp only); (try simp only [kNW] at h); (try simp only [kNW]); omega) (fun z_87 H_85 locs_82 hz_84 hF_86 hS_83 => ?_)
                                        have hzf_88 := hF_86.1
                                        refine W.widen (k := 0) (n := 0) (Nat.le_of_ble_eq_true rfl) (Nat.le_of_ble_eq_true rfl) ?_
                                        obtain ⟨hv_89, ho_90⟩ := hz_84
                                        subst z_87
                                        refine lv_goto (tgt := 333) hx hb dX3_reads_329 (by decide) ?_
                                        refine kx_put (v := .int (kI ((tx_num t 59 (((((tx_num t 7 (spn + 1)).2)) + 1))).1))) (C := RX3) (T := TX3) (N := 13) hx hb hts in_X3 hown hK ho_90 rfl 12 (by decide) tyX3 tyX3_ok nmX3 hS_83 (by first | rfl | exact Or.inl rfl | exact Or.inr rfl | exact Or.inr (Or.inl rfl) | exact Or.inr (Or.inr rfl) | exact Or.inr (Or.inr (Or.inl rfl)) | exact Or.inr (Or.inr (Or.inr rfl)) | ((try dsimp only); (try simp only [kNW]); omega)) q2250 (fun _ h9 => h9) rfl rfl rfl rfl (Nat.le_of_ble_eq_true rfl) dX3_reads_333 (fun H_93 locs_94 hO_92 hU_91 hS_95 => ?_)
                                        have hO_92 : kO D H_93 a 2 [.ref ra, .ref sa, .int (kI ((sn : Nat) : Int)), .ref ka, .int (kI (kb (ik))), .ref ta, .int (kI ((t.length : Nat) : Int)), .int (kI (th)), .int (kI (((tx_num t 59 (((((tx_num t 7 (spn + 1)).2)) + 1))).2 : Nat) : Int)), .int (kI (kb (true))), .int (kI (108)), .int (kI ((((((tx_num t 7 (spn + 1)).1)))))), .int (kI ((tx_num t 59 (((((tx_num t 7 (spn + 1)).2)) + 1))).1))] := hO_92
                                        have hzu_96 := hU_91.1
                                        have hrd_97 : rdW t spn = (true, (tx_num t 59 (((((tx_num t 7 (spn + 1)).2)) + 1))).2, (((((tx_num t 7 (spn + 1)).1)))), (tx_num t 59 (((((tx_num t 7 (spn + 1)).2)) + 1))).1) := by rw [rdW, if_neg (by omega), if_neg (by omega), if_neg (by omega), if_pos hlt9, rdW.rdTwo, if_pos hq, if_pos hw, if_pos hq2]
                                        have hOz_98 : kO D H_93 a 2 [.ref ra, .ref sa, .int (kI ((sn : Nat) : Int)), .ref ka, .int (kI (kb (ik))), .ref ta, .int (kI ((t.length : Nat) : Int)), .int (kI (th)), .int (kI (((rdW t spn).2.1 : Nat) : Int)), .int (kI (kb ((rdW t spn).1))), .int (kI (tsg t spn)), .int (kI ((rdW t spn).2.2.1)), .int (kI ((rdW t spn).2.2.2))] := by rw [hrd_97, hlt9]; exact hO_92
                                        exact kx_vret hx hb hr hlk (hOz_98) hS_95 dX3_reads_336
                                      · -- hq2 f
                                        have h_99 := h_70.fr hF_75 (fun h => by (try dsimp only at h); (try simp only [kNW] at h); omega)
                                        refine kx_ci (va_runV (As := [.int (kI (0)), .int (kI (59))]) (rest := [.ref a]) ⟨hx, hb, hml, hown, hts⟩ (m_num_f l D H_74 a ra sa ka ta sn ik th 108 ((((tx_num t 7 (spn + 1)).1))) 0 ((((tx_num t 7 (spn + 1)).2)) + 1) gt t 0 59 ho_78 h_99 (by first | assumption | omega) (by first | assumption | omega) (by first | assumption | omega) (by first | assumption | omega) (by first | assumption | omega) (by first | assumption | omega) (by first | assumption | omega)) (cwV 2 hts (lw_V q2613 q2615 qs75 q89 q2616) rfl rfl rfl (by decide +kernel) ⟨Nat.le_of_ble_eq_true rfl, Nat.le_of_ble_eq_true rfl⟩) (kx_pv hK hS_72 hB (kx_rc hK ho_78 (C := RX3) (T := TX3) (N := 13) rfl)) rfl rfl hl.1 rfl (lv_room (Nat.le_of_ble_eq_true rfl)) dX3_reads_326 ⟨by first | exact Nat.le_of_ble_eq_true rfl | omega | (show _ ≤ _; omega) | (dsimp only [headSpec]; omega), by first | exact Nat.le_of_ble_eq_true rfl | omega | (show _ ≤ _; omega) | (dsimp only [headSpec]; omega)⟩) hS_72 (fun q _ h => by (try dsimp only at h); (try dsimp only); (try simp only [kNW] at h); (try simp only [kNW]); omega) (fun q h => by (try dsimp only at h); (try dsimp only); (try simp only [kNW] at h); (try simp only [kNW]); omega) (fun z_105 H_103 locs_100 hz_102 hF_104 hS_101 => ?_)
                                        have hzf_106 := hF_104.1
                                        refine W.widen (k := 0) (n := 0) (Nat.le_of_ble_eq_true rfl) (Nat.le_of_ble_eq_true rfl) ?_
                                        obtain ⟨hv_107, ho_108⟩ := hz_102
                                        subst z_105
                                        refine lv_goto (tgt := 333) hx hb dX3_reads_329 (by decide) ?_
                                        refine kx_put (v := .int (kI (tsg t (((((tx_num t 7 (spn + 1)).2)) + 1)) - 48))) (C := RX3) (T := TX3) (N := 13) hx hb hts in_X3 hown hK ho_108 rfl 12 (by decide) tyX3 tyX3_ok nmX3 hS_101 (by first | rfl | exact Or.inl rfl | exact Or.inr rfl | exact Or.inr (Or.inl rfl) | exact Or.inr (Or.inr rfl) | exact Or.inr (Or.inr (Or.inl rfl)) | exact Or.inr (Or.inr (Or.inr rfl)) | ((try dsimp only); (try simp only [kNW]); omega)) q2250 (fun _ h9 => h9) rfl rfl rfl rfl (Nat.le_of_ble_eq_true rfl) dX3_reads_333 (fun H_111 locs_112 hO_110 hU_109 hS_113 => ?_)
                                        have hO_110 : kO D H_111 a 2 [.ref ra, .ref sa, .int (kI ((sn : Nat) : Int)), .ref ka, .int (kI (kb (ik))), .ref ta, .int (kI ((t.length : Nat) : Int)), .int (kI (th)), .int (kI (((((((tx_num t 7 (spn + 1)).2)) + 1)) : Nat) : Int)), .int (kI (kb (false))), .int (kI (108)), .int (kI ((((((tx_num t 7 (spn + 1)).1)))))), .int (kI (tsg t (((((tx_num t 7 (spn + 1)).2)) + 1)) - 48))] := hO_110
                                        have hzu_114 := hU_109.1
                                        have hrd_115 : rdW t spn = (false, (((((tx_num t 7 (spn + 1)).2)) + 1)), (((((tx_num t 7 (spn + 1)).1)))), tsg t (((((tx_num t 7 (spn + 1)).2)) + 1)) - 48) := by rw [rdW, if_neg (by omega), if_neg (by omega), if_neg (by omega), if_pos hlt9, rdW.rdTwo, if_pos hq, if_pos hw, if_neg hq2]
                                        have hOz_116 : kO D H_111 a 2 [.ref ra, .ref sa, .int (kI ((sn : Nat) : Int)), .ref ka, .int (kI (kb (ik))), .ref ta, .int (kI ((t.length : Nat) : Int)), .int (kI (th)), .int (kI (((rdW t spn).2.1 : Nat) : Int)), .int (kI (kb ((rdW t spn).1))), .int (kI (tsg t spn)), .int (kI ((rdW t spn).2.2.1)), .int (kI ((rdW t spn).2.2.2))] := by rw [hrd_115, hlt9]; exact hO_110
                                        exact kx_vret hx hb hr hlk (hOz_116) hS_113 dX3_reads_336
                                    · -- not taken at 315
                                      exfalso; omega
                                · -- hw f
                                  have h_117 := h_50.fr hF_55 (fun h => by (try dsimp only at h); (try simp only [kNW] at h); omega)
                                  have h_118 := h_117.up hU_60 (by first | assumption | exact Ne.symm (by assumption) | omega | (have h9 := h_117.lt; omega))
                                  refine kx_cv (va_runV (As := [.int (kI (46))]) (rest := []) ⟨hx, hb, hml, hown, hts⟩ (m_needs_f l D H_62 a ra sa ka ta sn ik th true 108 ((tx_num t 7 (spn + 1)).1) 0 ((tx_num t 7 (spn + 1)).2) gt t 46 hO_61 h_118 (by first | assumption | omega) (by first | assumption | omega) (by first | assumption | omega) (by first | assumption | omega) (by first | assumption | omega) (by first | assumption | omega) (by first | assumption | omega)) (cwV 1 hts (lw_V q2617 q2619 qs76 q89 q2620) rfl rfl rfl (by decide +kernel) ⟨Nat.le_of_ble_eq_true rfl, Nat.le_of_ble_eq_true rfl⟩) (kx_pv hK hS_64 hB (kx_rc hK hO_61 (C := RX3) (T := TX3) (N := 13) rfl)) rfl rfl hl.1 rfl (lv_room (Nat.le_of_ble_eq_true rfl)) dX3_reads_296 ⟨by first | exact Nat.le_of_ble_eq_true rfl | omega | (show _ ≤ _; omega) | (dsimp only [headSpec]; omega), by first | exact Nat.le_of_ble_eq_true rfl | omega | (show _ ≤ _; omega) | (dsimp only [headSpec]; omega)⟩) hS_64 (fun q _ h => by (try dsimp only at h); (try dsimp only); (try simp only [kNW] at h); (try simp only [kNW]); omega) (fun q h => by (try dsimp only at h); (try dsimp only); (try simp only [kNW] at h); (try simp only [kNW]); omega) (fun H_122 locs_119 hz_121 hF_123 hS_120 => ?_)
                                  have hzf_125 := hF_123.1
                                  refine W.widen (k := 0) (n := 0) (Nat.le_of_ble_eq_true rfl) (Nat.le_of_ble_eq_true rfl) ?_
                                  have ho_126 := hz_121
                                  refine lv_aload_n hx hb dX3_reads_299 rfl (lv_at hl 0 rfl) ?_
                                  refine lv_aload_n hx hb dX3_reads_300 rfl (lv_at hl 0 rfl) ?_
                                  refine kx_get (v := .int (kI (kb (false)))) (C := RX3) (T := TX3) (N := 13) hx hb hts in_X3 hown hK ho_126 rfl 9 (by decide) q2247 (fun _ h9 => h9) rfl dX3_reads_301 ?_
                                  refine kx_ifz (tgt := 332) hx hb dX3_reads_304 (by decide) (fun c_304_127 => ?_) (fun c_304_127 => ?_)
                                  · -- taken at 304
                                    refine kx_iconst hx hb dX3_reads_332 ?_
                                    refine kx_put (v := .int (kI (0))) (C := RX3) (T := TX3) (N := 13) hx hb hts in_X3 hown hK ho_126 rfl 12 (by decide) tyX3 tyX3_ok nmX3 hS_120 (by first | rfl | exact Or.inl rfl | exact Or.inr rfl | exact Or.inr (Or.inl rfl) | exact Or.inr (Or.inr rfl) | exact Or.inr (Or.inr (Or.inl rfl)) | exact Or.inr (Or.inr (Or.inr rfl)) | ((try dsimp only); (try simp only [kNW]); omega)) q2250 (fun _ h9 => h9) rfl rfl rfl rfl (Nat.le_of_ble_eq_true rfl) dX3_reads_333 (fun H_130 locs_131 hO_129 hU_128 hS_132 => ?_)
                                    have hO_129 : kO D H_130 a 2 [.ref ra, .ref sa, .int (kI ((sn : Nat) : Int)), .ref ka, .int (kI (kb (ik))), .ref ta, .int (kI ((t.length : Nat) : Int)), .int (kI (th)), .int (kI (((((tx_num t 7 (spn + 1)).2)) : Nat) : Int)), .int (kI (kb (false))), .int (kI (108)), .int (kI ((((tx_num t 7 (spn + 1)).1)))), .int (kI (0))] := hO_129
                                    have hzu_133 := hU_128.1
                                    have hrd_134 : rdW t spn = (false, (((tx_num t 7 (spn + 1)).2)), (((tx_num t 7 (spn + 1)).1)), 0) := by rw [rdW, if_neg (by omega), if_neg (by omega), if_neg (by omega), if_pos hlt9, rdW.rdTwo, if_pos hq, if_neg hw]
                                    have hOz_135 : kO D H_130 a 2 [.ref ra, .ref sa, .int (kI ((sn : Nat) : Int)), .ref ka, .int (kI (kb (ik))), .ref ta, .int (kI ((t.length : Nat) : Int)), .int (kI (th)), .int (kI (((rdW t spn).2.1 : Nat) : Int)), .int (kI (kb ((rdW t spn).1))), .int (kI (tsg t spn)), .int (kI ((rdW t spn).2.2.1)), .int (kI ((rdW t spn).2.2.2))] := by rw [hrd_134, hlt9]; exact hO_129
                                    exact kx_vret hx hb hr hlk (hOz_135) hS_132 dX3_reads_336
                                  · -- not taken at 304
                                    exact absurd c_304_127 (by decide)
                              · -- not taken at 286
                                exfalso; omega
                        · -- hq f
                          have h_136 := hA_ta.up hU_5 (by first | assumption | exact Ne.symm (by assumption) | omega | (have h9 := hA_ta.lt; omega))
                          have h_137 := h_136.up hU_15 (by first | assumption | exact Ne.symm (by assumption) | omega | (have h9 := h_136.lt; omega))
                          have h_138 := h_137.up hU_22 (by first | assumption | exact Ne.symm (by assumption) | omega | (have h9 := h_137.lt; omega))
                          have h_139 := h_138.up hU_28 (by first | assumption | exact Ne.symm (by assumption) | omega | (have h9 := h_138.lt; omega))
                          have h_140 := h_139.up hU_34 (by first | assumption | exact Ne.symm (by assumption) | omega | (have h9 := h_139.lt; omega))
                          refine kx_ci (va_runV (As := [.int (kI (0)), .int (kI (7))]) (rest := [.ref a]) ⟨hx, hb, hml, hown, hts⟩ (m_num_f l D H_36 a ra sa ka ta sn ik th 108 (((spn + 1 : Nat) : Int)) 0 (spn + 1) gt t 0 7 hO_35 h_140 (by first | assumption | omega) (by first | assumption | omega) (by first | assumption | omega) (by first | assumption | omega) (by first | assumption | omega) (by first | assumption | omega) (by first | assumption | omega)) (cwV 2 hts (lw_V q2613 q2615 qs75 q89 q2616) rfl rfl rfl (by decide +kernel) ⟨Nat.le_of_ble_eq_true rfl, Nat.le_of_ble_eq_true rfl⟩) (kx_pv hK hS_38 hB (kx_rc hK hO_35 (C := RX3) (T := TX3) (N := 13) rfl)) rfl rfl hl.1 rfl (lv_room (Nat.le_of_ble_eq_true rfl)) dX3_reads_255 ⟨by first | exact Nat.le_of_ble_eq_true rfl | omega | (show _ ≤ _; omega) | (dsimp only [headSpec]; omega), by first | exact Nat.le_of_ble_eq_true rfl | omega | (show _ ≤ _; omega) | (dsimp only [headSpec]; omega)⟩) hS_38 (fun q _ h => by (try dsimp only at h); (try dsimp only); (try simp only [kNW] at h); (try simp only [kNW]); omega) (fun q h => by (try dsimp only at h); (try dsimp only); (try simp only [kNW] at h); (try simp only [kNW]); omega) (fun z_146 H_144 locs_141 hz_143 hF_145 hS_142 => ?_)
                          have hzf_147 := hF_145.1
                          refine W.widen (k := 0) (n := 0) (Nat.le_of_ble_eq_true rfl) (Nat.le_of_ble_eq_true rfl) ?_
                          obtain ⟨hv_148, ho_149⟩ := hz_143
                          subst z_146
                          refine kx_put (v := .int (kI (tsg t (spn + 1) - 48))) (C := RX3) (T := TX3) (N := 13) hx hb hts in_X3 hown hK ho_149 rfl 11 (by decide) tyX3 tyX3_ok nmX3 hS_142 (by first | rfl | exact Or.inl rfl | exact Or.inr rfl | exact Or.inr (Or.inl rfl) | exact Or.inr (Or.inr rfl) | exact Or.inr (Or.inr (Or.inl rfl)) | exact Or.inr (Or.inr (Or.inr rfl)) | ((try dsimp only); (try simp only [kNW]); omega)) q2249 (fun _ h9 => h9) rfl rfl rfl rfl (Nat.le_of_ble_eq_true rfl) dX3_reads_258 (fun H_152 locs_153 hO_151 hU_150 hS_154 => ?_)
                          have hO_151 : kO D H_152 a 2 [.ref ra, .ref sa, .int (kI ((sn : Nat) : Int)), .ref ka, .int (kI (kb (ik))), .ref ta, .int (kI ((t.length : Nat) : Int)), .int (kI (th)), .int (kI (((spn + 1) : Nat) : Int)), .int (kI (kb (false))), .int (kI (108)), .int (kI (tsg t (spn + 1) - 48)), .int (kI (0))] := hO_151
                          have hzu_155 := hU_150.1
                          refine lv_aload_n hx hb dX3_reads_261 rfl (lv_at hl 0 rfl) ?_
                          refine kx_get (v := .int (kI (108))) (C := RX3) (T := TX3) (N := 13) hx hb hts in_X3 hown hK hO_151 rfl 10 (by decide) q2248 (fun _ h9 => h9) rfl dX3_reads_262 ?_
                          refine kx_bipush hx hb (by decide) dX3_reads_265 ?_
                          refine kx_icmp_eq (x := 108) (y := 110) (tgt := 279) hx hb dX3_reads_267 (by decide) (by omega) (by omega) (by omega) (by omega) (fun c_267_156 => ?_) (fun c_267_156 => ?_)
                          · -- taken at 267
                            exfalso; omega
                          · -- not taken at 267
                            refine lv_aload_n hx hb dX3_reads_270 rfl (lv_at hl 0 rfl) ?_
                            refine kx_get (v := .int (kI (108))) (C := RX3) (T := TX3) (N := 13) hx hb hts in_X3 hown hK hO_151 rfl 10 (by decide) q2248 (fun _ h9 => h9) rfl dX3_reads_271 ?_
                            refine kx_bipush hx hb (by decide) dX3_reads_274 ?_
                            refine kx_icmp_ne (x := 108) (y := 108) (tgt := 336) hx hb dX3_reads_276 (by decide) (by omega) (by omega) (by omega) (by omega) (fun c_276_157 => ?_) (fun c_276_157 => ?_)
                            · -- taken at 276
                              exfalso; omega
                            · -- not taken at 276
                              refine lv_aload_n hx hb dX3_reads_279 rfl (lv_at hl 0 rfl) ?_
                              refine lv_aload_n hx hb dX3_reads_280 rfl (lv_at hl 0 rfl) ?_
                              refine kx_get (v := .int (kI (108))) (C := RX3) (T := TX3) (N := 13) hx hb hts in_X3 hown hK hO_151 rfl 10 (by decide) q2248 (fun _ h9 => h9) rfl dX3_reads_281 ?_
                              refine kx_bipush hx hb (by decide) dX3_reads_284 ?_
                              refine kx_icmp_ne (x := 108) (y := 110) (tgt := 294) hx hb dX3_reads_286 (by decide) (by omega) (by omega) (by omega) (by omega) (fun c_286_158 => ?_) (fun c_286_158 => ?_)
                              · -- taken at 286
                                refine kx_bipush hx hb (by decide) dX3_reads_294 ?_
                                have h_159 := h_140.fr hF_145 (fun h => by (try dsimp only at h); (try simp only [kNW] at h); omega)
                                have h_160 := h_159.up hU_150 (by first | assumption | exact Ne.symm (by assumption) | omega | (have h9 := h_159.lt; omega))
                                refine kx_cv (va_runV (As := [.int (kI (46))]) (rest := []) ⟨hx, hb, hml, hown, hts⟩ (m_needs_f l D H_152 a ra sa ka ta sn ik th false 108 (tsg t (spn + 1) - 48) 0 ((spn + 1)) gt t 46 hO_151 h_160 (by first | assumption | omega) (by first | assumption | omega) (by first | assumption | omega) (by first | assumption | omega) (by first | assumption | omega) (by first | assumption | omega) ((Or.inl rfl))) (cwV 1 hts (lw_V q2617 q2619 qs76 q89 q2620) rfl rfl rfl (by decide +kernel) ⟨Nat.le_of_ble_eq_true rfl, Nat.le_of_ble_eq_true rfl⟩) (kx_pv hK hS_154 hB (kx_rc hK hO_151 (C := RX3) (T := TX3) (N := 13) rfl)) rfl rfl hl.1 rfl (lv_room (Nat.le_of_ble_eq_true rfl)) dX3_reads_296 ⟨by first | exact Nat.le_of_ble_eq_true rfl | omega | (show _ ≤ _; omega) | (dsimp only [headSpec]; omega), by first | exact Nat.le_of_ble_eq_true rfl | omega | (show _ ≤ _; omega) | (dsimp only [headSpec]; omega)⟩) hS_154 (fun q _ h => by (try dsimp only at h); (try dsimp only); (try simp only [kNW] at h); (try simp only [kNW]); omega) (fun q h => by (try dsimp only at h); (try dsimp only); (try simp only [kNW] at h); (try simp only [kNW]); omega) (fun H_164 locs_161 hz_163 hF_165 hS_162 => ?_)
                                have hzf_167 := hF_165.1
                                refine W.widen (k := 0) (n := 0) (Nat.le_of_ble_eq_true rfl) (Nat.le_of_ble_eq_true rfl) ?_
                                have ho_168 := hz_163
                                refine lv_aload_n hx hb dX3_reads_299 rfl (lv_at hl 0 rfl) ?_
                                refine lv_aload_n hx hb dX3_reads_300 rfl (lv_at hl 0 rfl) ?_
                                refine kx_get (v := .int (kI (kb (false)))) (C := RX3) (T := TX3) (N := 13) hx hb hts in_X3 hown hK ho_168 rfl 9 (by decide) q2247 (fun _ h9 => h9) rfl dX3_reads_301 ?_
                                refine kx_ifz (tgt := 332) hx hb dX3_reads_304 (by decide) (fun c_304_169 => ?_) (fun c_304_169 => ?_)
                                · -- taken at 304
                                  refine kx_iconst hx hb dX3_reads_332 ?_
                                  refine kx_put (v := .int (kI (0))) (C := RX3) (T := TX3) (N := 13) hx hb hts in_X3 hown hK ho_168 rfl 12 (by decide) tyX3 tyX3_ok nmX3 hS_162 (by first | rfl | exact Or.inl rfl | exact Or.inr rfl | exact Or.inr (Or.inl rfl) | exact Or.inr (Or.inr rfl) | exact Or.inr (Or.inr (Or.inl rfl)) | exact Or.inr (Or.inr (Or.inr rfl)) | ((try dsimp only); (try simp only [kNW]); omega)) q2250 (fun _ h9 => h9) rfl rfl rfl rfl (Nat.le_of_ble_eq_true rfl) dX3_reads_333 (fun H_172 locs_173 hO_171 hU_170 hS_174 => ?_)
                                  have hO_171 : kO D H_172 a 2 [.ref ra, .ref sa, .int (kI ((sn : Nat) : Int)), .ref ka, .int (kI (kb (ik))), .ref ta, .int (kI ((t.length : Nat) : Int)), .int (kI (th)), .int (kI (((((spn + 1))) : Nat) : Int)), .int (kI (kb (false))), .int (kI (108)), .int (kI (((tsg t (spn + 1) - 48)))), .int (kI (0))] := hO_171
                                  have hzu_175 := hU_170.1
                                  have hrd_176 : rdW t spn = (false, (((spn + 1))), ((tsg t (spn + 1) - 48)), 0) := by rw [rdW, if_neg (by omega), if_neg (by omega), if_neg (by omega), if_pos hlt9, rdW.rdTwo, if_neg hq]
                                  have hOz_177 : kO D H_172 a 2 [.ref ra, .ref sa, .int (kI ((sn : Nat) : Int)), .ref ka, .int (kI (kb (ik))), .ref ta, .int (kI ((t.length : Nat) : Int)), .int (kI (th)), .int (kI (((rdW t spn).2.1 : Nat) : Int)), .int (kI (kb ((rdW t spn).1))), .int (kI (tsg t spn)), .int (kI ((rdW t spn).2.2.1)), .int (kI ((rdW t spn).2.2.2))] := by rw [hrd_176, hlt9]; exact hO_171
                                  exact kx_vret hx hb hr hlk (hOz_177) hS_174 dX3_reads_336
                                · -- not taken at 304
                                  exact absurd c_304_169 (by decide)
                              · -- not taken at 286
                                exfalso; omega
                      · -- not taken at 245
                        exfalso; omega
                    · -- not taken at 231
                      exfalso; omega
                  · -- not taken at 217
                    exfalso; omega
            · -- not taken at 129
              exfalso; omega
        · -- not taken at 42
          exfalso; omega

set_option maxHeartbeats 4000000 in
set_option maxRecDepth 100000 in
theorem m_reads_a (l : Launch) (D : kG) (H : Heap) (a : Nat) (ra : Nat) (sa : Nat) (ka : Nat) (ta : Nat) (sn : Nat) (ik : Bool) (th : Int) (spn : Nat) (gt : Nat → Int) (t : List Int) (iw : Bool) (le : Int) (fi : Int) (se : Int) (hO_a : kO D H a 2 [.ref ra, .ref sa, .int (kI ((sn : Nat) : Int)), .ref ka, .int (kI (kb (ik))), .ref ta, .int (kI ((t.length : Nat) : Int)), .int (kI (th)), .int (kI ((spn : Nat) : Int)), .int (kI (kb (iw))), .int (kI (le)), .int (kI (fi)), .int (kI (se))]) (hA_ta : kAi D H ta 60 gt) (hsp : spn ≤ 1000) (hT : MTx gt t) (ht60 : t.length ≤ 60) (ne_a_ta : a ≠ ta) (bs_a : kBase D ≤ a) (hlt9 : tsg t spn = 97) : Met l yX3_reads (ws_ yX3_reads cX3_reads 1 none) ({ frames := 2, cells := 0, slots := 0, locals := 45 } : Room) (kPre D H [.ref a]) (kQv (fun H' => (kO D H' a 2 [.ref ra, .ref sa, .int (kI ((sn : Nat) : Int)), .ref ka, .int (kI (kb (ik))), .ref ta, .int (kI ((t.length : Nat) : Int)), .int (kI (th)), .int (kI (((rdW t spn).2.1 : Nat) : Int)), .int (kI (kb ((rdW t spn).1))), .int (kI (tsg t spn)), .int (kI ((rdW t spn).2.2.1)), .int (kI ((rdW t spn).2.2.2))])) (fun q : Nat => q = a)) (0) (0) ((fun q : Nat => q = a)) := by
  refine Met.ofW (cc := cX3_reads) (maxL := 1) (ret := none) (by decide) rfl ?_
  intro p e s m args below meth c s₁ B hml hv
  obtain ⟨rfl, hH, hK⟩ := hv
  subst hH
  have hx := B.exec
  have hb := B.bytes
  have hr := B.returns
  have hts := atoms_spec (ws := ws_ yX3_reads cX3_reads 1 none) B.pre
  have hts : ∀ w ∈ lw_all, w.before _ s = true := fun w h => hts w (List.mem_cons_of_mem _ h)
  have hown : s.vm.findClass RX3 = some m.cls := findClass_of_methodNamed B.named
  have hlk := B.notSynchronized
  have hS : va_S (fun q : Nat => q = a) s.heap s.heap [] := va_S.rf
  have hB : ∀ q, (fun q : Nat => q = a) q → kBase D ≤ q := fun q h => by (try dsimp only at h); (try simp only [kNW] at h); have hks := hK.size; omega
  have hl := lv_entry ([.ref a]) (n := 1) (Nat.le_of_ble_eq_true rfl)
  rw [lg_entry_eq]
  generalize (lg_sl ([.ref a]) ++ List.replicate (1 - (lg_sl ([.ref a])).length) Slot.unset).toArray = ls at hl ⊢
  have hl : lv_has ls 1 [(0, .ref a)] := hl
  have hlt := hT.lt (i := spn) (by omega)
  refine lv_aload_n hx hb dX3_reads_0 rfl (lv_at hl 0 rfl) ?_
  refine lv_aload_n hx hb dX3_reads_1 rfl (lv_at hl 0 rfl) ?_
  refine kx_ci0 (va_runV (As := []) (rest := [.ref a]) ⟨hx, hb, hml, hown, hts⟩ (m_X3_sign l D s.heap a ra sa ka ta sn ik th iw le fi se spn gt t hO_a hA_ta (by first | assumption | omega) (by first | assumption | omega) (by first | assumption | omega) (by first | assumption | omega) (by first | assumption | omega)) (cwV 0 hts (lw_V q2609 q2611 qs74 q89 q2612) rfl rfl rfl (by decide +kernel) ⟨Nat.le_of_ble_eq_true rfl, Nat.le_of_ble_eq_true rfl⟩) (kx_pv hK hS hB (kx_rc hK hO_a (C := RX3) (T := TX3) (N := 13) rfl)) rfl rfl hl.1 rfl (lv_room (Nat.le_of_ble_eq_true rfl)) dX3_reads_2 ⟨by first | exact Nat.le_of_ble_eq_true rfl | omega | (show _ ≤ _; omega) | (dsimp only [headSpec]; omega), by first | exact Nat.le_of_ble_eq_true rfl | omega | (show _ ≤ _; omega) | (dsimp only [headSpec]; omega)⟩) hS (fun z_4 locs_1 hz_3 hS_2 => ?_)
  subst z_4
  refine kx_eqi (97) (hlt9) ?_
  refine kx_put (v := .int (kI (97))) (C := RX3) (T := TX3) (N := 13) hx hb hts in_X3 hown hK hO_a rfl 10 (by decide) tyX3 tyX3_ok nmX3 hS_2 (by first | rfl | exact Or.inl rfl | exact Or.inr rfl | exact Or.inr (Or.inl rfl) | exact Or.inr (Or.inr rfl) | exact Or.inr (Or.inr (Or.inl rfl)) | exact Or.inr (Or.inr (Or.inr rfl)) | ((try dsimp only); (try simp only [kNW]); omega)) q2248 (fun _ h9 => h9) rfl rfl rfl rfl (Nat.le_of_ble_eq_true rfl) dX3_reads_5 (fun H_7 locs_8 hO_6 hU_5 hS_9 => ?_)
  have hO_6 : kO D H_7 a 2 [.ref ra, .ref sa, .int (kI ((sn : Nat) : Int)), .ref ka, .int (kI (kb (ik))), .ref ta, .int (kI ((t.length : Nat) : Int)), .int (kI (th)), .int (kI ((spn : Nat) : Int)), .int (kI (kb (iw))), .int (kI (97)), .int (kI (fi)), .int (kI (se))] := hO_6
  have hzu_10 := hU_5.1
  refine lv_aload_n hx hb dX3_reads_8 rfl (lv_at hl 0 rfl) ?_
  refine lv_aload_n hx hb dX3_reads_9 rfl (lv_at hl 0 rfl) ?_
  refine kx_get (v := .int (kI (97))) (C := RX3) (T := TX3) (N := 13) hx hb hts in_X3 hown hK hO_6 rfl 10 (by decide) q2248 (fun _ h9 => h9) rfl dX3_reads_10 ?_
  refine kx_bipush hx hb (by decide) dX3_reads_13 ?_
  refine kx_icmp_eq (x := 97) (y := 110) (tgt := 81) hx hb dX3_reads_15 (by decide) (by omega) (by omega) (by omega) (by omega) (fun c_15_11 => ?_) (fun c_15_11 => ?_)
  · -- taken at 15
    exfalso; omega
  · -- not taken at 15
    refine lv_aload_n hx hb dX3_reads_18 rfl (lv_at hl 0 rfl) ?_
    refine kx_get (v := .int (kI (97))) (C := RX3) (T := TX3) (N := 13) hx hb hts in_X3 hown hK hO_6 rfl 10 (by decide) q2248 (fun _ h9 => h9) rfl dX3_reads_19 ?_
    refine kx_bipush hx hb (by decide) dX3_reads_22 ?_
    refine kx_icmp_eq (x := 97) (y := 115) (tgt := 81) hx hb dX3_reads_24 (by decide) (by omega) (by omega) (by omega) (by omega) (fun c_24_12 => ?_) (fun c_24_12 => ?_)
    · -- taken at 24
      exfalso; omega
    · -- not taken at 24
      refine lv_aload_n hx hb dX3_reads_27 rfl (lv_at hl 0 rfl) ?_
      refine kx_get (v := .int (kI (97))) (C := RX3) (T := TX3) (N := 13) hx hb hts in_X3 hown hK hO_6 rfl 10 (by decide) q2248 (fun _ h9 => h9) rfl dX3_reads_28 ?_
      refine kx_bipush hx hb (by decide) dX3_reads_31 ?_
      refine kx_icmp_eq (x := 97) (y := 119) (tgt := 81) hx hb dX3_reads_33 (by decide) (by omega) (by omega) (by omega) (by omega) (fun c_33_13 => ?_) (fun c_33_13 => ?_)
      · -- taken at 33
        exfalso; omega
      · -- not taken at 33
        refine lv_aload_n hx hb dX3_reads_36 rfl (lv_at hl 0 rfl) ?_
        refine kx_get (v := .int (kI (97))) (C := RX3) (T := TX3) (N := 13) hx hb hts in_X3 hown hK hO_6 rfl 10 (by decide) q2248 (fun _ h9 => h9) rfl dX3_reads_37 ?_
        refine kx_bipush hx hb (by decide) dX3_reads_40 ?_
        refine kx_icmp_eq (x := 97) (y := 108) (tgt := 81) hx hb dX3_reads_42 (by decide) (by omega) (by omega) (by omega) (by omega) (fun c_42_14 => ?_) (fun c_42_14 => ?_)
        · -- taken at 42
          exfalso; omega
        · -- not taken at 42
          refine lv_aload_n hx hb dX3_reads_45 rfl (lv_at hl 0 rfl) ?_
          refine kx_get (v := .int (kI (97))) (C := RX3) (T := TX3) (N := 13) hx hb hts in_X3 hown hK hO_6 rfl 10 (by decide) q2248 (fun _ h9 => h9) rfl dX3_reads_46 ?_
          refine kx_bipush hx hb (by decide) dX3_reads_49 ?_
          refine kx_icmp_eq (x := 97) (y := 117) (tgt := 81) hx hb dX3_reads_51 (by decide) (by omega) (by omega) (by omega) (by omega) (fun c_51_15 => ?_) (fun c_51_15 => ?_)
          · -- taken at 51
            exfalso; omega
          · -- not taken at 51
            refine lv_aload_n hx hb dX3_reads_54 rfl (lv_at hl 0 rfl) ?_
            refine kx_get (v := .int (kI (97))) (C := RX3) (T := TX3) (N := 13) hx hb hts in_X3 hown hK hO_6 rfl 10 (by decide) q2248 (fun _ h9 => h9) rfl dX3_reads_55 ?_
            refine kx_bipush hx hb (by decide) dX3_reads_58 ?_
            refine kx_icmp_eq (x := 97) (y := 98) (tgt := 81) hx hb dX3_reads_60 (by decide) (by omega) (by omega) (by omega) (by omega) (fun c_60_16 => ?_) (fun c_60_16 => ?_)
            · -- taken at 60
              exfalso; omega
            · -- not taken at 60
              refine lv_aload_n hx hb dX3_reads_63 rfl (lv_at hl 0 rfl) ?_
              refine kx_get (v := .int (kI (97))) (C := RX3) (T := TX3) (N := 13) hx hb hts in_X3 hown hK hO_6 rfl 10 (by decide) q2248 (fun _ h9 => h9) rfl dX3_reads_64 ?_
              refine kx_bipush hx hb (by decide) dX3_reads_67 ?_
              refine kx_icmp_eq (x := 97) (y := 97) (tgt := 81) hx hb dX3_reads_69 (by decide) (by omega) (by omega) (by omega) (by omega) (fun c_69_17 => ?_) (fun c_69_17 => ?_)
              · -- taken at 69
                refine kx_iconst hx hb dX3_reads_81 ?_
                refine lv_goto (tgt := 86) hx hb dX3_reads_82 (by decide) ?_
                refine kx_put (v := .int (kI (kb (true)))) (C := RX3) (T := TX3) (N := 13) hx hb hts in_X3 hown hK hO_6 rfl 9 (by decide) tyX3 tyX3_ok nmX3 hS_9 (by first | rfl | exact Or.inl rfl | exact Or.inr rfl | exact Or.inr (Or.inl rfl) | exact Or.inr (Or.inr rfl) | exact Or.inr (Or.inr (Or.inl rfl)) | exact Or.inr (Or.inr (Or.inr rfl)) | ((try dsimp only); (try simp only [kNW]); omega)) q2247 (fun _ h9 => h9) rfl rfl (kb_narZ _) (kb_fitZ _) (Nat.le_of_ble_eq_true rfl) dX3_reads_86 (fun H_20 locs_21 hO_19 hU_18 hS_22 => ?_)
                have hO_19 : kO D H_20 a 2 [.ref ra, .ref sa, .int (kI ((sn : Nat) : Int)), .ref ka, .int (kI (kb (ik))), .ref ta, .int (kI ((t.length : Nat) : Int)), .int (kI (th)), .int (kI ((spn : Nat) : Int)), .int (kI (kb (true))), .int (kI (97)), .int (kI (fi)), .int (kI (se))] := hO_19
                have hzu_23 := hU_18.1
                refine lv_aload_n hx hb dX3_reads_89 rfl (lv_at hl 0 rfl) ?_
                refine lv_dup hx hb dX3_reads_90 rfl ?_
                refine kx_get (v := .int (kI ((spn : Nat) : Int))) (C := RX3) (T := TX3) (N := 13) hx hb hts in_X3 hown hK hO_19 rfl 8 (by decide) q2246 (fun _ h9 => h9) rfl dX3_reads_91 ?_
                refine lv_aload_n hx hb dX3_reads_94 rfl (lv_at hl 0 rfl) ?_
                refine kx_get (v := .int (kI (kb (true)))) (C := RX3) (T := TX3) (N := 13) hx hb hts in_X3 hown hK hO_19 rfl 9 (by decide) q2247 (fun _ h9 => h9) rfl dX3_reads_95 ?_
                refine kx_ifz (tgt := 105) hx hb dX3_reads_98 (by decide) (fun c_98_24 => ?_) (fun c_98_24 => ?_)
                · -- taken at 98
                  exact absurd c_98_24 (by decide)
                · -- not taken at 98
                  refine kx_iconst hx hb dX3_reads_101 ?_
                  refine lv_goto (tgt := 106) hx hb dX3_reads_102 (by decide) ?_
                  refine kx_iadd hx hb dX3_reads_106 ?_
                  refine kx_eqi (((spn + 1 : Nat) : Int)) (by omega) ?_
                  refine kx_put (v := .int (kI ((spn + 1 : Nat) : Int))) (C := RX3) (T := TX3) (N := 13) hx hb hts in_X3 hown hK hO_19 rfl 8 (by decide) tyX3 tyX3_ok nmX3 hS_22 (by first | rfl | exact Or.inl rfl | exact Or.inr rfl | exact Or.inr (Or.inl rfl) | exact Or.inr (Or.inr rfl) | exact Or.inr (Or.inr (Or.inl rfl)) | exact Or.inr (Or.inr (Or.inr rfl)) | ((try dsimp only); (try simp only [kNW]); omega)) q2246 (fun _ h9 => h9) rfl rfl rfl rfl (Nat.le_of_ble_eq_true rfl) dX3_reads_107 (fun H_27 locs_28 hO_26 hU_25 hS_29 => ?_)
                  have hO_26 : kO D H_27 a 2 [.ref ra, .ref sa, .int (kI ((sn : Nat) : Int)), .ref ka, .int (kI (kb (ik))), .ref ta, .int (kI ((t.length : Nat) : Int)), .int (kI (th)), .int (kI ((spn + 1 : Nat) : Int)), .int (kI (kb (true))), .int (kI (97)), .int (kI (fi)), .int (kI (se))] := hO_26
                  have hzu_30 := hU_25.1
                  refine lv_aload_n hx hb dX3_reads_110 rfl (lv_at hl 0 rfl) ?_
                  refine lv_aload_n hx hb dX3_reads_111 rfl (lv_at hl 0 rfl) ?_
                  refine kx_get (v := .int (kI ((spn + 1 : Nat) : Int))) (C := RX3) (T := TX3) (N := 13) hx hb hts in_X3 hown hK hO_26 rfl 8 (by decide) q2246 (fun _ h9 => h9) rfl dX3_reads_112 ?_
                  refine kx_put (v := .int (kI ((spn + 1 : Nat) : Int))) (C := RX3) (T := TX3) (N := 13) hx hb hts in_X3 hown hK hO_26 rfl 11 (by decide) tyX3 tyX3_ok nmX3 hS_29 (by first | rfl | exact Or.inl rfl | exact Or.inr rfl | exact Or.inr (Or.inl rfl) | exact Or.inr (Or.inr rfl) | exact Or.inr (Or.inr (Or.inl rfl)) | exact Or.inr (Or.inr (Or.inr rfl)) | ((try dsimp only); (try simp only [kNW]); omega)) q2249 (fun _ h9 => h9) rfl rfl rfl rfl (Nat.le_of_ble_eq_true rfl) dX3_reads_115 (fun H_33 locs_34 hO_32 hU_31 hS_35 => ?_)
                  have hO_32 : kO D H_33 a 2 [.ref ra, .ref sa, .int (kI ((sn : Nat) : Int)), .ref ka, .int (kI (kb (ik))), .ref ta, .int (kI ((t.length : Nat) : Int)), .int (kI (th)), .int (kI ((spn + 1 : Nat) : Int)), .int (kI (kb (true))), .int (kI (97)), .int (kI ((spn + 1 : Nat) : Int)), .int (kI (se))] := hO_32
                  have hzu_36 := hU_31.1
                  refine lv_aload_n hx hb dX3_reads_118 rfl (lv_at hl 0 rfl) ?_
                  refine kx_iconst hx hb dX3_reads_119 ?_
                  refine kx_put (v := .int (kI (0))) (C := RX3) (T := TX3) (N := 13) hx hb hts in_X3 hown hK hO_32 rfl 12 (by decide) tyX3 tyX3_ok nmX3 hS_35 (by first | rfl | exact Or.inl rfl | exact Or.inr rfl | exact Or.inr (Or.inl rfl) | exact Or.inr (Or.inr rfl) | exact Or.inr (Or.inr (Or.inl rfl)) | exact Or.inr (Or.inr (Or.inr rfl)) | ((try dsimp only); (try simp only [kNW]); omega)) q2250 (fun _ h9 => h9) rfl rfl rfl rfl (Nat.le_of_ble_eq_true rfl) dX3_reads_120 (fun H_39 locs_40 hO_38 hU_37 hS_41 => ?_)
                  have hO_38 : kO D H_39 a 2 [.ref ra, .ref sa, .int (kI ((sn : Nat) : Int)), .ref ka, .int (kI (kb (ik))), .ref ta, .int (kI ((t.length : Nat) : Int)), .int (kI (th)), .int (kI ((spn + 1 : Nat) : Int)), .int (kI (kb (true))), .int (kI (97)), .int (kI ((spn + 1 : Nat) : Int)), .int (kI (0))] := hO_38
                  have hzu_42 := hU_37.1
                  refine lv_aload_n hx hb dX3_reads_123 rfl (lv_at hl 0 rfl) ?_
                  refine kx_get (v := .int (kI (97))) (C := RX3) (T := TX3) (N := 13) hx hb hts in_X3 hown hK hO_38 rfl 10 (by decide) q2248 (fun _ h9 => h9) rfl dX3_reads_124 ?_
                  refine kx_bipush hx hb (by decide) dX3_reads_127 ?_
                  refine kx_icmp_ne (x := 97) (y := 115) (tgt := 193) hx hb dX3_reads_129 (by decide) (by omega) (by omega) (by omega) (by omega) (fun c_129_43 => ?_) (fun c_129_43 => ?_)
                  · -- taken at 129
                    refine lv_aload_n hx hb dX3_reads_193 rfl (lv_at hl 0 rfl) ?_
                    refine kx_get (v := .int (kI (97))) (C := RX3) (T := TX3) (N := 13) hx hb hts in_X3 hown hK hO_38 rfl 10 (by decide) q2248 (fun _ h9 => h9) rfl dX3_reads_194 ?_
                    refine kx_bipush hx hb (by decide) dX3_reads_197 ?_
                    refine kx_icmp_eq (x := 97) (y := 97) (tgt := 336) hx hb dX3_reads_199 (by decide) (by omega) (by omega) (by omega) (by omega) (fun c_199_44 => ?_) (fun c_199_44 => ?_)
                    · -- taken at 199
                      have hrd_45 : rdW t spn = (true, spn + 1, ((spn + 1 : Nat) : Int), 0) := by rw [rdW, if_neg (by omega), if_pos hlt9]
                      have hOz_46 : kO D H_39 a 2 [.ref ra, .ref sa, .int (kI ((sn : Nat) : Int)), .ref ka, .int (kI (kb (ik))), .ref ta, .int (kI ((t.length : Nat) : Int)), .int (kI (th)), .int (kI (((rdW t spn).2.1 : Nat) : Int)), .int (kI (kb ((rdW t spn).1))), .int (kI (tsg t spn)), .int (kI ((rdW t spn).2.2.1)), .int (kI ((rdW t spn).2.2.2))] := by rw [hrd_45, hlt9]; exact hO_38
                      exact kx_vret hx hb hr hlk (hOz_46) hS_41 dX3_reads_336
                    · -- not taken at 199
                      exfalso; omega
                  · -- not taken at 129
                    exfalso; omega
              · -- not taken at 69
                exfalso; omega

set_option maxHeartbeats 4000000 in
set_option maxRecDepth 100000 in
theorem m_reads_s (l : Launch) (D : kG) (H : Heap) (a : Nat) (ra : Nat) (sa : Nat) (ka : Nat) (ta : Nat) (sn : Nat) (ik : Bool) (th : Int) (spn : Nat) (gt : Nat → Int) (t : List Int) (iw : Bool) (le : Int) (fi : Int) (se : Int) (hO_a : kO D H a 2 [.ref ra, .ref sa, .int (kI ((sn : Nat) : Int)), .ref ka, .int (kI (kb (ik))), .ref ta, .int (kI ((t.length : Nat) : Int)), .int (kI (th)), .int (kI ((spn : Nat) : Int)), .int (kI (kb (iw))), .int (kI (le)), .int (kI (fi)), .int (kI (se))]) (hA_ta : kAi D H ta 60 gt) (hsp : spn ≤ 1000) (hT : MTx gt t) (ht60 : t.length ≤ 60) (ne_a_ta : a ≠ ta) (bs_a : kBase D ≤ a) (hlt9 : tsg t spn = 115) : Met l yX3_reads (ws_ yX3_reads cX3_reads 1 none) ({ frames := 2, cells := 0, slots := 0, locals := 45 } : Room) (kPre D H [.ref a]) (kQv (fun H' => (kO D H' a 2 [.ref ra, .ref sa, .int (kI ((sn : Nat) : Int)), .ref ka, .int (kI (kb (ik))), .ref ta, .int (kI ((t.length : Nat) : Int)), .int (kI (th)), .int (kI (((rdW t spn).2.1 : Nat) : Int)), .int (kI (kb ((rdW t spn).1))), .int (kI (tsg t spn)), .int (kI ((rdW t spn).2.2.1)), .int (kI ((rdW t spn).2.2.2))])) (fun q : Nat => q = a)) (0) (0) ((fun q : Nat => q = a)) := by
  refine Met.ofW (cc := cX3_reads) (maxL := 1) (ret := none) (by decide) rfl ?_
  intro p e s m args below meth c s₁ B hml hv
  obtain ⟨rfl, hH, hK⟩ := hv
  subst hH
  have hx := B.exec
  have hb := B.bytes
  have hr := B.returns
  have hts := atoms_spec (ws := ws_ yX3_reads cX3_reads 1 none) B.pre
  have hts : ∀ w ∈ lw_all, w.before _ s = true := fun w h => hts w (List.mem_cons_of_mem _ h)
  have hown : s.vm.findClass RX3 = some m.cls := findClass_of_methodNamed B.named
  have hlk := B.notSynchronized
  have hS : va_S (fun q : Nat => q = a) s.heap s.heap [] := va_S.rf
  have hB : ∀ q, (fun q : Nat => q = a) q → kBase D ≤ q := fun q h => by (try dsimp only at h); (try simp only [kNW] at h); have hks := hK.size; omega
  have hl := lv_entry ([.ref a]) (n := 1) (Nat.le_of_ble_eq_true rfl)
  rw [lg_entry_eq]
  generalize (lg_sl ([.ref a]) ++ List.replicate (1 - (lg_sl ([.ref a])).length) Slot.unset).toArray = ls at hl ⊢
  have hl : lv_has ls 1 [(0, .ref a)] := hl
  have hlt := hT.lt (i := spn) (by omega)
  refine lv_aload_n hx hb dX3_reads_0 rfl (lv_at hl 0 rfl) ?_
  refine lv_aload_n hx hb dX3_reads_1 rfl (lv_at hl 0 rfl) ?_
  refine kx_ci0 (va_runV (As := []) (rest := [.ref a]) ⟨hx, hb, hml, hown, hts⟩ (m_X3_sign l D s.heap a ra sa ka ta sn ik th iw le fi se spn gt t hO_a hA_ta (by first | assumption | omega) (by first | assumption | omega) (by first | assumption | omega) (by first | assumption | omega) (by first | assumption | omega)) (cwV 0 hts (lw_V q2609 q2611 qs74 q89 q2612) rfl rfl rfl (by decide +kernel) ⟨Nat.le_of_ble_eq_true rfl, Nat.le_of_ble_eq_true rfl⟩) (kx_pv hK hS hB (kx_rc hK hO_a (C := RX3) (T := TX3) (N := 13) rfl)) rfl rfl hl.1 rfl (lv_room (Nat.le_of_ble_eq_true rfl)) dX3_reads_2 ⟨by first | exact Nat.le_of_ble_eq_true rfl | omega | (show _ ≤ _; omega) | (dsimp only [headSpec]; omega), by first | exact Nat.le_of_ble_eq_true rfl | omega | (show _ ≤ _; omega) | (dsimp only [headSpec]; omega)⟩) hS (fun z_4 locs_1 hz_3 hS_2 => ?_)
  subst z_4
  refine kx_eqi (115) (hlt9) ?_
  refine kx_put (v := .int (kI (115))) (C := RX3) (T := TX3) (N := 13) hx hb hts in_X3 hown hK hO_a rfl 10 (by decide) tyX3 tyX3_ok nmX3 hS_2 (by first | rfl | exact Or.inl rfl | exact Or.inr rfl | exact Or.inr (Or.inl rfl) | exact Or.inr (Or.inr rfl) | exact Or.inr (Or.inr (Or.inl rfl)) | exact Or.inr (Or.inr (Or.inr rfl)) | ((try dsimp only); (try simp only [kNW]); omega)) q2248 (fun _ h9 => h9) rfl rfl rfl rfl (Nat.le_of_ble_eq_true rfl) dX3_reads_5 (fun H_7 locs_8 hO_6 hU_5 hS_9 => ?_)
  have hO_6 : kO D H_7 a 2 [.ref ra, .ref sa, .int (kI ((sn : Nat) : Int)), .ref ka, .int (kI (kb (ik))), .ref ta, .int (kI ((t.length : Nat) : Int)), .int (kI (th)), .int (kI ((spn : Nat) : Int)), .int (kI (kb (iw))), .int (kI (115)), .int (kI (fi)), .int (kI (se))] := hO_6
  have hzu_10 := hU_5.1
  refine lv_aload_n hx hb dX3_reads_8 rfl (lv_at hl 0 rfl) ?_
  refine lv_aload_n hx hb dX3_reads_9 rfl (lv_at hl 0 rfl) ?_
  refine kx_get (v := .int (kI (115))) (C := RX3) (T := TX3) (N := 13) hx hb hts in_X3 hown hK hO_6 rfl 10 (by decide) q2248 (fun _ h9 => h9) rfl dX3_reads_10 ?_
  refine kx_bipush hx hb (by decide) dX3_reads_13 ?_
  refine kx_icmp_eq (x := 115) (y := 110) (tgt := 81) hx hb dX3_reads_15 (by decide) (by omega) (by omega) (by omega) (by omega) (fun c_15_11 => ?_) (fun c_15_11 => ?_)
  · -- taken at 15
    exfalso; omega
  · -- not taken at 15
    refine lv_aload_n hx hb dX3_reads_18 rfl (lv_at hl 0 rfl) ?_
    refine kx_get (v := .int (kI (115))) (C := RX3) (T := TX3) (N := 13) hx hb hts in_X3 hown hK hO_6 rfl 10 (by decide) q2248 (fun _ h9 => h9) rfl dX3_reads_19 ?_
    refine kx_bipush hx hb (by decide) dX3_reads_22 ?_
    refine kx_icmp_eq (x := 115) (y := 115) (tgt := 81) hx hb dX3_reads_24 (by decide) (by omega) (by omega) (by omega) (by omega) (fun c_24_12 => ?_) (fun c_24_12 => ?_)
    · -- taken at 24
      refine kx_iconst hx hb dX3_reads_81 ?_
      refine lv_goto (tgt := 86) hx hb dX3_reads_82 (by decide) ?_
      refine kx_put (v := .int (kI (kb (true)))) (C := RX3) (T := TX3) (N := 13) hx hb hts in_X3 hown hK hO_6 rfl 9 (by decide) tyX3 tyX3_ok nmX3 hS_9 (by first | rfl | exact Or.inl rfl | exact Or.inr rfl | exact Or.inr (Or.inl rfl) | exact Or.inr (Or.inr rfl) | exact Or.inr (Or.inr (Or.inl rfl)) | exact Or.inr (Or.inr (Or.inr rfl)) | ((try dsimp only); (try simp only [kNW]); omega)) q2247 (fun _ h9 => h9) rfl rfl (kb_narZ _) (kb_fitZ _) (Nat.le_of_ble_eq_true rfl) dX3_reads_86 (fun H_15 locs_16 hO_14 hU_13 hS_17 => ?_)
      have hO_14 : kO D H_15 a 2 [.ref ra, .ref sa, .int (kI ((sn : Nat) : Int)), .ref ka, .int (kI (kb (ik))), .ref ta, .int (kI ((t.length : Nat) : Int)), .int (kI (th)), .int (kI ((spn : Nat) : Int)), .int (kI (kb (true))), .int (kI (115)), .int (kI (fi)), .int (kI (se))] := hO_14
      have hzu_18 := hU_13.1
      refine lv_aload_n hx hb dX3_reads_89 rfl (lv_at hl 0 rfl) ?_
      refine lv_dup hx hb dX3_reads_90 rfl ?_
      refine kx_get (v := .int (kI ((spn : Nat) : Int))) (C := RX3) (T := TX3) (N := 13) hx hb hts in_X3 hown hK hO_14 rfl 8 (by decide) q2246 (fun _ h9 => h9) rfl dX3_reads_91 ?_
      refine lv_aload_n hx hb dX3_reads_94 rfl (lv_at hl 0 rfl) ?_
      refine kx_get (v := .int (kI (kb (true)))) (C := RX3) (T := TX3) (N := 13) hx hb hts in_X3 hown hK hO_14 rfl 9 (by decide) q2247 (fun _ h9 => h9) rfl dX3_reads_95 ?_
      refine kx_ifz (tgt := 105) hx hb dX3_reads_98 (by decide) (fun c_98_19 => ?_) (fun c_98_19 => ?_)
      · -- taken at 98
        exact absurd c_98_19 (by decide)
      · -- not taken at 98
        refine kx_iconst hx hb dX3_reads_101 ?_
        refine lv_goto (tgt := 106) hx hb dX3_reads_102 (by decide) ?_
        refine kx_iadd hx hb dX3_reads_106 ?_
        refine kx_eqi (((spn + 1 : Nat) : Int)) (by omega) ?_
        refine kx_put (v := .int (kI ((spn + 1 : Nat) : Int))) (C := RX3) (T := TX3) (N := 13) hx hb hts in_X3 hown hK hO_14 rfl 8 (by decide) tyX3 tyX3_ok nmX3 hS_17 (by first | rfl | exact Or.inl rfl | exact Or.inr rfl | exact Or.inr (Or.inl rfl) | exact Or.inr (Or.inr rfl) | exact Or.inr (Or.inr (Or.inl rfl)) | exact Or.inr (Or.inr (Or.inr rfl)) | ((try dsimp only); (try simp only [kNW]); omega)) q2246 (fun _ h9 => h9) rfl rfl rfl rfl (Nat.le_of_ble_eq_true rfl) dX3_reads_107 (fun H_22 locs_23 hO_21 hU_20 hS_24 => ?_)
        have hO_21 : kO D H_22 a 2 [.ref ra, .ref sa, .int (kI ((sn : Nat) : Int)), .ref ka, .int (kI (kb (ik))), .ref ta, .int (kI ((t.length : Nat) : Int)), .int (kI (th)), .int (kI ((spn + 1 : Nat) : Int)), .int (kI (kb (true))), .int (kI (115)), .int (kI (fi)), .int (kI (se))] := hO_21
        have hzu_25 := hU_20.1
        refine lv_aload_n hx hb dX3_reads_110 rfl (lv_at hl 0 rfl) ?_
        refine lv_aload_n hx hb dX3_reads_111 rfl (lv_at hl 0 rfl) ?_
        refine kx_get (v := .int (kI ((spn + 1 : Nat) : Int))) (C := RX3) (T := TX3) (N := 13) hx hb hts in_X3 hown hK hO_21 rfl 8 (by decide) q2246 (fun _ h9 => h9) rfl dX3_reads_112 ?_
        refine kx_put (v := .int (kI ((spn + 1 : Nat) : Int))) (C := RX3) (T := TX3) (N := 13) hx hb hts in_X3 hown hK hO_21 rfl 11 (by decide) tyX3 tyX3_ok nmX3 hS_24 (by first | rfl | exact Or.inl rfl | exact Or.inr rfl | exact Or.inr (Or.inl rfl) | exact Or.inr (Or.inr rfl) | exact Or.inr (Or.inr (Or.inl rfl)) | exact Or.inr (Or.inr (Or.inr rfl)) | ((try dsimp only); (try simp only [kNW]); omega)) q2249 (fun _ h9 => h9) rfl rfl rfl rfl (Nat.le_of_ble_eq_true rfl) dX3_reads_115 (fun H_28 locs_29 hO_27 hU_26 hS_30 => ?_)
        have hO_27 : kO D H_28 a 2 [.ref ra, .ref sa, .int (kI ((sn : Nat) : Int)), .ref ka, .int (kI (kb (ik))), .ref ta, .int (kI ((t.length : Nat) : Int)), .int (kI (th)), .int (kI ((spn + 1 : Nat) : Int)), .int (kI (kb (true))), .int (kI (115)), .int (kI ((spn + 1 : Nat) : Int)), .int (kI (se))] := hO_27
        have hzu_31 := hU_26.1
        refine lv_aload_n hx hb dX3_reads_118 rfl (lv_at hl 0 rfl) ?_
        refine kx_iconst hx hb dX3_reads_119 ?_
        refine kx_put (v := .int (kI (0))) (C := RX3) (T := TX3) (N := 13) hx hb hts in_X3 hown hK hO_27 rfl 12 (by decide) tyX3 tyX3_ok nmX3 hS_30 (by first | rfl | exact Or.inl rfl | exact Or.inr rfl | exact Or.inr (Or.inl rfl) | exact Or.inr (Or.inr rfl) | exact Or.inr (Or.inr (Or.inl rfl)) | exact Or.inr (Or.inr (Or.inr rfl)) | ((try dsimp only); (try simp only [kNW]); omega)) q2250 (fun _ h9 => h9) rfl rfl rfl rfl (Nat.le_of_ble_eq_true rfl) dX3_reads_120 (fun H_34 locs_35 hO_33 hU_32 hS_36 => ?_)
        have hO_33 : kO D H_34 a 2 [.ref ra, .ref sa, .int (kI ((sn : Nat) : Int)), .ref ka, .int (kI (kb (ik))), .ref ta, .int (kI ((t.length : Nat) : Int)), .int (kI (th)), .int (kI ((spn + 1 : Nat) : Int)), .int (kI (kb (true))), .int (kI (115)), .int (kI ((spn + 1 : Nat) : Int)), .int (kI (0))] := hO_33
        have hzu_37 := hU_32.1
        refine lv_aload_n hx hb dX3_reads_123 rfl (lv_at hl 0 rfl) ?_
        refine kx_get (v := .int (kI (115))) (C := RX3) (T := TX3) (N := 13) hx hb hts in_X3 hown hK hO_33 rfl 10 (by decide) q2248 (fun _ h9 => h9) rfl dX3_reads_124 ?_
        refine kx_bipush hx hb (by decide) dX3_reads_127 ?_
        refine kx_icmp_ne (x := 115) (y := 115) (tgt := 193) hx hb dX3_reads_129 (by decide) (by omega) (by omega) (by omega) (by omega) (fun c_129_38 => ?_) (fun c_129_38 => ?_)
        · -- taken at 129
          exfalso; omega
        · -- not taken at 129
          refine lv_aload_n hx hb dX3_reads_132 rfl (lv_at hl 0 rfl) ?_
          refine lv_aload_n hx hb dX3_reads_133 rfl (lv_at hl 0 rfl) ?_
          have h_39 := hA_ta.up hU_5 (by first | assumption | exact Ne.symm (by assumption) | omega | (have h9 := hA_ta.lt; omega))
          have h_40 := h_39.up hU_13 (by first | assumption | exact Ne.symm (by assumption) | omega | (have h9 := h_39.lt; omega))
          have h_41 := h_40.up hU_20 (by first | assumption | exact Ne.symm (by assumption) | omega | (have h9 := h_40.lt; omega))
          have h_42 := h_41.up hU_26 (by first | assumption | exact Ne.symm (by assumption) | omega | (have h9 := h_41.lt; omega))
          have h_43 := h_42.up hU_32 (by first | assumption | exact Ne.symm (by assumption) | omega | (have h9 := h_42.lt; omega))
          refine kx_ci0 (va_runV (As := []) (rest := [.ref a]) ⟨hx, hb, hml, hown, hts⟩ (m_X3_sign l D H_34 a ra sa ka ta sn ik th true 115 (((spn + 1 : Nat) : Int)) 0 (spn + 1) gt t hO_33 h_43 (by first | assumption | omega) (by first | assumption | omega) (by first | assumption | omega) (by first | assumption | omega) (by first | assumption | omega)) (cwV 0 hts (lw_V q2609 q2611 qs74 q89 q2612) rfl rfl rfl (by decide +kernel) ⟨Nat.le_of_ble_eq_true rfl, Nat.le_of_ble_eq_true rfl⟩) (kx_pv hK hS_36 hB (kx_rc hK hO_33 (C := RX3) (T := TX3) (N := 13) rfl)) rfl rfl hl.1 rfl (lv_room (Nat.le_of_ble_eq_true rfl)) dX3_reads_134 ⟨by first | exact Nat.le_of_ble_eq_true rfl | omega | (show _ ≤ _; omega) | (dsimp only [headSpec]; omega), by first | exact Nat.le_of_ble_eq_true rfl | omega | (show _ ≤ _; omega) | (dsimp only [headSpec]; omega)⟩) hS_36 (fun z_47 locs_44 hz_46 hS_45 => ?_)
          subst z_47
          have hsr9 := hT.rng (spn + 1)
          refine kx_bipush hx hb (by decide) dX3_reads_137 ?_
          refine kx_bipush hx hb (by decide) dX3_reads_139 ?_
          refine kx_cb0 (va_runS (As := [.int (kI (tsg t (spn + 1))), .int (kI (48)), .int (kI (55))]) (rest := [.ref a]) ⟨hx, hb, hml, hown, hts⟩ (m_X3_in l D H_34 (tsg t (spn + 1)) 48 55  (by first | assumption | omega) (by first | assumption | omega) (by first | assumption | omega)) (va_cwS 3 hts (lw_S q2297 q2298 q89 q2299) rfl rfl rfl (by decide +kernel) ⟨Nat.le_of_ble_eq_true rfl, Nat.le_of_ble_eq_true rfl⟩) (kx_ps hK hS_45 hB) rfl rfl hl.1 rfl (lv_room (Nat.le_of_ble_eq_true rfl)) dX3_reads_141 ⟨by first | exact Nat.le_of_ble_eq_true rfl | omega | (show _ ≤ _; omega) | (dsimp only [headSpec]; omega), by first | exact Nat.le_of_ble_eq_true rfl | omega | (show _ ≤ _; omega) | (dsimp only [headSpec]; omega)⟩) hS_45 (fun z_51 locs_48 hz_50 hS_49 => ?_)
          subst z_51
          refine kx_put (v := .int (kI (kb (decide (48 ≤ (tsg t (spn + 1)) ∧ (tsg t (spn + 1)) ≤ 55))))) (C := RX3) (T := TX3) (N := 13) hx hb hts in_X3 hown hK hO_33 rfl 9 (by decide) tyX3 tyX3_ok nmX3 hS_49 (by first | rfl | exact Or.inl rfl | exact Or.inr rfl | exact Or.inr (Or.inl rfl) | exact Or.inr (Or.inr rfl) | exact Or.inr (Or.inr (Or.inl rfl)) | exact Or.inr (Or.inr (Or.inr rfl)) | ((try dsimp only); (try simp only [kNW]); omega)) q2247 (fun _ h9 => h9) rfl rfl (kb_narZ _) (kb_fitZ _) (Nat.le_of_ble_eq_true rfl) dX3_reads_144 (fun H_54 locs_55 hO_53 hU_52 hS_56 => ?_)
          have hO_53 : kO D H_54 a 2 [.ref ra, .ref sa, .int (kI ((sn : Nat) : Int)), .ref ka, .int (kI (kb (ik))), .ref ta, .int (kI ((t.length : Nat) : Int)), .int (kI (th)), .int (kI ((spn + 1 : Nat) : Int)), .int (kI (kb (decide (48 ≤ (tsg t (spn + 1)) ∧ (tsg t (spn + 1)) ≤ 55)))), .int (kI (115)), .int (kI ((spn + 1 : Nat) : Int)), .int (kI (0))] := hO_53
          have hzu_57 := hU_52.1
          have lp_147_x_58 : ∀ (n_147 : Nat) (j : Nat) (H : Heap) (hO_a : kO D H a 2 [.ref ra, .ref sa, .int (kI ((sn : Nat) : Int)), .ref ka, .int (kI (kb (ik))), .ref ta, .int (kI ((t.length : Nat) : Int)), .int (kI (th)), .int (kI ((spn + 1 + j : Nat) : Int)), .int (kI (kb (decide (48 ≤ tsg t (spn + 1) ∧ tsg t (spn + 1) ≤ 55)))), .int (kI (115)), .int (kI ((spn + 1 : Nat) : Int)), .int (kI ((j : Nat) : Int))]) (hA_ta : kAi D H ta 60 gt) (hj : j ≤ 20) (hcnt : tx_cnt t (spn + 1) 20 = j + tx_cnt t (spn + 1 + j) (20 - j)) (locs : List Loc) (hS : va_S (fun q : Nat => q = a) s.heap H locs) (hm_147 : 20 - j < n_147) (ls : Array Slot), lv_has ls 1 [(0, .ref a)] → W p l e (headSpec (ws_ yX3_reads cX3_reads 1 none) ({ frames := 2, cells := 0, slots := 0, locals := 45 } : Room)).room s m ([.ref a] : List Value).toArray below meth c H locs (0) (0) (MQ below (kQv (fun H' => (kO D H' a 2 [.ref ra, .ref sa, .int (kI ((sn : Nat) : Int)), .ref ka, .int (kI (kb (ik))), .ref ta, .int (kI ((t.length : Nat) : Int)), .int (kI (th)), .int (kI (((rdW t spn).2.1 : Nat) : Int)), .int (kI (kb ((rdW t spn).1))), .int (kI (tsg t spn)), .int (kI ((rdW t spn).2.2.1)), .int (kI ((rdW t spn).2.2.2))])) (fun q : Nat => q = a)) ([.ref a] : List Value).toArray s (0) (0) ((fun q : Nat => q = a))) (F0 m 147 ls []) := by
            intro n_147
            induction n_147 with
            | zero => intro j H hO_a hA_ta hj hcnt locs hS hm_147; exact absurd hm_147 (Nat.not_lt_zero _)
            | succ n_147 ih_147 =>
              intro j H hO_a hA_ta hj hcnt locs hS hm_147 ls hl
              refine lv_aload_n hx hb dX3_reads_147 rfl (lv_at hl 0 rfl) ?_
              refine kx_get (v := .int (kI ((j : Nat) : Int))) (C := RX3) (T := TX3) (N := 13) hx hb hts in_X3 hown hK hO_a rfl 12 (by decide) q2250 (fun _ h9 => h9) rfl dX3_reads_148 ?_
              refine kx_bipush hx hb (by decide) dX3_reads_151 ?_
              refine kx_icmp_ge (x := ((j : Nat) : Int)) (y := 20) (tgt := 336) hx hb dX3_reads_153 (by decide) (by omega) (by omega) (by omega) (by omega) (fun c_153_59 => ?_) (fun c_153_59 => ?_)
              · -- taken at 153
                have hfin : tx_cnt t (spn + 1 + j) (20 - j) = 0 := by rw [show 20 - j = 0 by omega]; rfl
                have hrd_60 : rdW t spn = (decide (48 ≤ tsg t (spn + 1) ∧ tsg t (spn + 1) ≤ 55), spn + 1 + j, ((spn + 1 : Nat) : Int), ((j : Nat) : Int)) := by rw [rdW, if_pos hlt9, hcnt, hfin]; first | rfl | (simp only [Nat.add_zero])
                have hOz_61 : kO D H a 2 [.ref ra, .ref sa, .int (kI ((sn : Nat) : Int)), .ref ka, .int (kI (kb (ik))), .ref ta, .int (kI ((t.length : Nat) : Int)), .int (kI (th)), .int (kI (((rdW t spn).2.1 : Nat) : Int)), .int (kI (kb ((rdW t spn).1))), .int (kI (tsg t spn)), .int (kI ((rdW t spn).2.2.1)), .int (kI ((rdW t spn).2.2.2))] := by rw [hrd_60, hlt9]; exact hO_a
                exact kx_vret hx hb hr hlk (hOz_61) hS dX3_reads_336
              · -- not taken at 153
                have hsr8 := hT.rng (spn + 1 + j)
                have hlt3 : spn + 1 + j ≤ t.length := by have := tx_cnt_place hT 20 (spn + 1) hlt; omega
                refine lv_aload_n hx hb dX3_reads_156 rfl (lv_at hl 0 rfl) ?_
                refine kx_ci0 (va_runV (As := []) (rest := []) ⟨hx, hb, hml, hown, hts⟩ (m_X3_sign l D H a ra sa ka ta sn ik th (decide (48 ≤ tsg t (spn + 1) ∧ tsg t (spn + 1) ≤ 55)) 115 (((spn + 1 : Nat) : Int)) (((j : Nat) : Int)) (spn + 1 + j) gt t hO_a hA_ta (by first | assumption | omega) (by first | assumption | omega) (by first | assumption | omega) (by first | assumption | omega) (by first | assumption | omega)) (cwV 0 hts (lw_V q2609 q2611 qs74 q89 q2612) rfl rfl rfl (by decide +kernel) ⟨Nat.le_of_ble_eq_true rfl, Nat.le_of_ble_eq_true rfl⟩) (kx_pv hK hS hB (kx_rc hK hO_a (C := RX3) (T := TX3) (N := 13) rfl)) rfl rfl hl.1 rfl (lv_room (Nat.le_of_ble_eq_true rfl)) dX3_reads_157 ⟨by first | exact Nat.le_of_ble_eq_true rfl | omega | (show _ ≤ _; omega) | (dsimp only [headSpec]; omega), by first | exact Nat.le_of_ble_eq_true rfl | omega | (show _ ≤ _; omega) | (dsimp only [headSpec]; omega)⟩) hS (fun z_65 locs_62 hz_64 hS_63 => ?_)
                subst z_65
                refine kx_bipush hx hb (by decide) dX3_reads_160 ?_
                refine kx_bipush hx hb (by decide) dX3_reads_162 ?_
                refine kx_cb0 (va_runS (As := [.int (kI (tsg t (spn + 1 + j))), .int (kI (48)), .int (kI (55))]) (rest := []) ⟨hx, hb, hml, hown, hts⟩ (m_X3_in l D H (tsg t (spn + 1 + j)) 48 55  (by first | assumption | omega) (by first | assumption | omega) (by first | assumption | omega)) (va_cwS 3 hts (lw_S q2297 q2298 q89 q2299) rfl rfl rfl (by decide +kernel) ⟨Nat.le_of_ble_eq_true rfl, Nat.le_of_ble_eq_true rfl⟩) (kx_ps hK hS_63 hB) rfl rfl hl.1 rfl (lv_room (Nat.le_of_ble_eq_true rfl)) dX3_reads_164 ⟨by first | exact Nat.le_of_ble_eq_true rfl | omega | (show _ ≤ _; omega) | (dsimp only [headSpec]; omega), by first | exact Nat.le_of_ble_eq_true rfl | omega | (show _ ≤ _; omega) | (dsimp only [headSpec]; omega)⟩) hS_63 (fun z_69 locs_66 hz_68 hS_67 => ?_)
                subst z_69
                refine kx_ifz (tgt := 336) hx hb dX3_reads_167 (by decide) (fun c_167_70 => ?_) (fun c_167_70 => ?_)
                · -- taken at 167
                  have c_167_70 := of_decide_eq_false c_167_70
                  have hfin : tx_cnt t (spn + 1 + j) (20 - j) = 0 := by cases hz : 20 - j with | zero => rfl | succ f => rw [tx_cnt, if_neg (by omega)]
                  have hrd_71 : rdW t spn = (decide (48 ≤ tsg t (spn + 1) ∧ tsg t (spn + 1) ≤ 55), spn + 1 + j, ((spn + 1 : Nat) : Int), ((j : Nat) : Int)) := by rw [rdW, if_pos hlt9, hcnt, hfin]; first | rfl | (simp only [Nat.add_zero])
                  have hOz_72 : kO D H a 2 [.ref ra, .ref sa, .int (kI ((sn : Nat) : Int)), .ref ka, .int (kI (kb (ik))), .ref ta, .int (kI ((t.length : Nat) : Int)), .int (kI (th)), .int (kI (((rdW t spn).2.1 : Nat) : Int)), .int (kI (kb ((rdW t spn).1))), .int (kI (tsg t spn)), .int (kI ((rdW t spn).2.2.1)), .int (kI ((rdW t spn).2.2.2))] := by rw [hrd_71, hlt9]; exact hO_a
                  exact kx_vret hx hb hr hlk (hOz_72) hS_67 dX3_reads_336
                · -- not taken at 167
                  have c_167_70 := of_decide_eq_true c_167_70
                  refine lv_aload_n hx hb dX3_reads_170 rfl (lv_at hl 0 rfl) ?_
                  refine lv_dup hx hb dX3_reads_171 rfl ?_
                  refine kx_get (v := .int (kI ((j : Nat) : Int))) (C := RX3) (T := TX3) (N := 13) hx hb hts in_X3 hown hK hO_a rfl 12 (by decide) q2250 (fun _ h9 => h9) rfl dX3_reads_172 ?_
                  refine kx_iconst hx hb dX3_reads_175 ?_
                  refine kx_iadd hx hb dX3_reads_176 ?_
                  refine kx_eqi (((j + 1 : Nat) : Int)) (by omega) ?_
                  refine kx_put (v := .int (kI ((j + 1 : Nat) : Int))) (C := RX3) (T := TX3) (N := 13) hx hb hts in_X3 hown hK hO_a rfl 12 (by decide) tyX3 tyX3_ok nmX3 hS_67 (by first | rfl | exact Or.inl rfl | exact Or.inr rfl | exact Or.inr (Or.inl rfl) | exact Or.inr (Or.inr rfl) | exact Or.inr (Or.inr (Or.inl rfl)) | exact Or.inr (Or.inr (Or.inr rfl)) | ((try dsimp only); (try simp only [kNW]); omega)) q2250 (fun _ h9 => h9) rfl rfl rfl rfl (Nat.le_of_ble_eq_true rfl) dX3_reads_177 (fun H_75 locs_76 hO_74 hU_73 hS_77 => ?_)
                  have hO_74 : kO D H_75 a 2 [.ref ra, .ref sa, .int (kI ((sn : Nat) : Int)), .ref ka, .int (kI (kb (ik))), .ref ta, .int (kI ((t.length : Nat) : Int)), .int (kI (th)), .int (kI ((spn + 1 + j : Nat) : Int)), .int (kI (kb (decide (48 ≤ tsg t (spn + 1) ∧ tsg t (spn + 1) ≤ 55)))), .int (kI (115)), .int (kI ((spn + 1 : Nat) : Int)), .int (kI ((j + 1 : Nat) : Int))] := hO_74
                  have hzu_78 := hU_73.1
                  refine lv_aload_n hx hb dX3_reads_180 rfl (lv_at hl 0 rfl) ?_
                  refine lv_dup hx hb dX3_reads_181 rfl ?_
                  refine kx_get (v := .int (kI ((spn + 1 + j : Nat) : Int))) (C := RX3) (T := TX3) (N := 13) hx hb hts in_X3 hown hK hO_74 rfl 8 (by decide) q2246 (fun _ h9 => h9) rfl dX3_reads_182 ?_
                  refine kx_iconst hx hb dX3_reads_185 ?_
                  refine kx_iadd hx hb dX3_reads_186 ?_
                  refine kx_eqi (((spn + 1 + (j + 1) : Nat) : Int)) (by omega) ?_
                  refine kx_put (v := .int (kI ((spn + 1 + (j + 1) : Nat) : Int))) (C := RX3) (T := TX3) (N := 13) hx hb hts in_X3 hown hK hO_74 rfl 8 (by decide) tyX3 tyX3_ok nmX3 hS_77 (by first | rfl | exact Or.inl rfl | exact Or.inr rfl | exact Or.inr (Or.inl rfl) | exact Or.inr (Or.inr rfl) | exact Or.inr (Or.inr (Or.inl rfl)) | exact Or.inr (Or.inr (Or.inr rfl)) | ((try dsimp only); (try simp only [kNW]); omega)) q2246 (fun _ h9 => h9) rfl rfl rfl rfl (Nat.le_of_ble_eq_true rfl) dX3_reads_187 (fun H_81 locs_82 hO_80 hU_79 hS_83 => ?_)
                  have hO_80 : kO D H_81 a 2 [.ref ra, .ref sa, .int (kI ((sn : Nat) : Int)), .ref ka, .int (kI (kb (ik))), .ref ta, .int (kI ((t.length : Nat) : Int)), .int (kI (th)), .int (kI ((spn + 1 + (j + 1) : Nat) : Int)), .int (kI (kb (decide (48 ≤ tsg t (spn + 1) ∧ tsg t (spn + 1) ≤ 55)))), .int (kI (115)), .int (kI ((spn + 1 : Nat) : Int)), .int (kI ((j + 1 : Nat) : Int))] := hO_80
                  have hzu_84 := hU_79.1
                  refine lv_goto (tgt := 147) hx hb dX3_reads_190 (by decide) ?_
                  have h_85 := hA_ta.up hU_73 (by first | assumption | exact Ne.symm (by assumption) | omega | (have h9 := hA_ta.lt; omega))
                  have h_86 := h_85.up hU_79 (by first | assumption | exact Ne.symm (by assumption) | omega | (have h9 := h_85.lt; omega))
                  exact ih_147  ((j + 1)) H_81 hO_80 h_86 (by first | assumption | omega | (simp_all; done) | grind) (by rw [hcnt, show 20 - j = (20 - (j + 1)) + 1 by omega, tx_cnt, if_pos ⟨by omega, by omega⟩]; rw [show spn + 1 + (j + 1) = spn + 1 + j + 1 by omega]; omega) _ hS_83 (by omega) ls (lv_sub hl [0] rfl)
          have h_87 := h_43.up hU_52 (by first | assumption | exact Ne.symm (by assumption) | omega | (have h9 := h_43.lt; omega))
          exact lp_147_x_58 (20 - 0 + 1) 0 H_54 hO_53 h_87 (by first | assumption | omega | (simp_all; done) | grind) (by simp) _ hS_56 (Nat.lt_succ_self _) ls (lv_sub hl [0] rfl)
    · -- not taken at 24
      exfalso; omega

set_option maxHeartbeats 4000000 in
set_option maxRecDepth 100000 in
theorem m_reads_o (l : Launch) (D : kG) (H : Heap) (a : Nat) (ra : Nat) (sa : Nat) (ka : Nat) (ta : Nat) (sn : Nat) (ik : Bool) (th : Int) (spn : Nat) (gt : Nat → Int) (t : List Int) (iw : Bool) (le : Int) (fi : Int) (se : Int) (hO_a : kO D H a 2 [.ref ra, .ref sa, .int (kI ((sn : Nat) : Int)), .ref ka, .int (kI (kb (ik))), .ref ta, .int (kI ((t.length : Nat) : Int)), .int (kI (th)), .int (kI ((spn : Nat) : Int)), .int (kI (kb (iw))), .int (kI (le)), .int (kI (fi)), .int (kI (se))]) (hA_ta : kAi D H ta 60 gt) (hsp : spn ≤ 1000) (hT : MTx gt t) (ht60 : t.length ≤ 60) (ne_a_ta : a ≠ ta) (bs_a : kBase D ≤ a) (hlt9 : ¬ tx_let (tsg t spn)) : Met l yX3_reads (ws_ yX3_reads cX3_reads 1 none) ({ frames := 2, cells := 0, slots := 0, locals := 45 } : Room) (kPre D H [.ref a]) (kQv (fun H' => (kO D H' a 2 [.ref ra, .ref sa, .int (kI ((sn : Nat) : Int)), .ref ka, .int (kI (kb (ik))), .ref ta, .int (kI ((t.length : Nat) : Int)), .int (kI (th)), .int (kI (((rdW t spn).2.1 : Nat) : Int)), .int (kI (kb ((rdW t spn).1))), .int (kI (tsg t spn)), .int (kI ((rdW t spn).2.2.1)), .int (kI ((rdW t spn).2.2.2))])) (fun q : Nat => q = a)) (0) (0) ((fun q : Nat => q = a)) := by
  refine Met.ofW (cc := cX3_reads) (maxL := 1) (ret := none) (by decide) rfl ?_
  intro p e s m args below meth c s₁ B hml hv
  obtain ⟨rfl, hH, hK⟩ := hv
  subst hH
  have hx := B.exec
  have hb := B.bytes
  have hr := B.returns
  have hts := atoms_spec (ws := ws_ yX3_reads cX3_reads 1 none) B.pre
  have hts : ∀ w ∈ lw_all, w.before _ s = true := fun w h => hts w (List.mem_cons_of_mem _ h)
  have hown : s.vm.findClass RX3 = some m.cls := findClass_of_methodNamed B.named
  have hlk := B.notSynchronized
  have hS : va_S (fun q : Nat => q = a) s.heap s.heap [] := va_S.rf
  have hB : ∀ q, (fun q : Nat => q = a) q → kBase D ≤ q := fun q h => by (try dsimp only at h); (try simp only [kNW] at h); have hks := hK.size; omega
  have hl := lv_entry ([.ref a]) (n := 1) (Nat.le_of_ble_eq_true rfl)
  rw [lg_entry_eq]
  generalize (lg_sl ([.ref a]) ++ List.replicate (1 - (lg_sl ([.ref a])).length) Slot.unset).toArray = ls at hl ⊢
  have hl : lv_has ls 1 [(0, .ref a)] := hl
  unfold tx_let at hlt9
  have hsr := hT.rng spn
  refine lv_aload_n hx hb dX3_reads_0 rfl (lv_at hl 0 rfl) ?_
  refine lv_aload_n hx hb dX3_reads_1 rfl (lv_at hl 0 rfl) ?_
  refine kx_ci0 (va_runV (As := []) (rest := [.ref a]) ⟨hx, hb, hml, hown, hts⟩ (m_X3_sign l D s.heap a ra sa ka ta sn ik th iw le fi se spn gt t hO_a hA_ta (by first | assumption | omega) (by first | assumption | omega) (by first | assumption | omega) (by first | assumption | omega) (by first | assumption | omega)) (cwV 0 hts (lw_V q2609 q2611 qs74 q89 q2612) rfl rfl rfl (by decide +kernel) ⟨Nat.le_of_ble_eq_true rfl, Nat.le_of_ble_eq_true rfl⟩) (kx_pv hK hS hB (kx_rc hK hO_a (C := RX3) (T := TX3) (N := 13) rfl)) rfl rfl hl.1 rfl (lv_room (Nat.le_of_ble_eq_true rfl)) dX3_reads_2 ⟨by first | exact Nat.le_of_ble_eq_true rfl | omega | (show _ ≤ _; omega) | (dsimp only [headSpec]; omega), by first | exact Nat.le_of_ble_eq_true rfl | omega | (show _ ≤ _; omega) | (dsimp only [headSpec]; omega)⟩) hS (fun z_4 locs_1 hz_3 hS_2 => ?_)
  subst z_4
  refine kx_put (v := .int (kI (tsg t spn))) (C := RX3) (T := TX3) (N := 13) hx hb hts in_X3 hown hK hO_a rfl 10 (by decide) tyX3 tyX3_ok nmX3 hS_2 (by first | rfl | exact Or.inl rfl | exact Or.inr rfl | exact Or.inr (Or.inl rfl) | exact Or.inr (Or.inr rfl) | exact Or.inr (Or.inr (Or.inl rfl)) | exact Or.inr (Or.inr (Or.inr rfl)) | ((try dsimp only); (try simp only [kNW]); omega)) q2248 (fun _ h9 => h9) rfl rfl rfl rfl (Nat.le_of_ble_eq_true rfl) dX3_reads_5 (fun H_7 locs_8 hO_6 hU_5 hS_9 => ?_)
  have hO_6 : kO D H_7 a 2 [.ref ra, .ref sa, .int (kI ((sn : Nat) : Int)), .ref ka, .int (kI (kb (ik))), .ref ta, .int (kI ((t.length : Nat) : Int)), .int (kI (th)), .int (kI ((spn : Nat) : Int)), .int (kI (kb (iw))), .int (kI (tsg t spn)), .int (kI (fi)), .int (kI (se))] := hO_6
  have hzu_10 := hU_5.1
  refine lv_aload_n hx hb dX3_reads_8 rfl (lv_at hl 0 rfl) ?_
  refine lv_aload_n hx hb dX3_reads_9 rfl (lv_at hl 0 rfl) ?_
  refine kx_get (v := .int (kI (tsg t spn))) (C := RX3) (T := TX3) (N := 13) hx hb hts in_X3 hown hK hO_6 rfl 10 (by decide) q2248 (fun _ h9 => h9) rfl dX3_reads_10 ?_
  refine kx_bipush hx hb (by decide) dX3_reads_13 ?_
  refine kx_icmp_eq (x := tsg t spn) (y := 110) (tgt := 81) hx hb dX3_reads_15 (by decide) (by omega) (by omega) (by omega) (by omega) (fun c_15_11 => ?_) (fun c_15_11 => ?_)
  · -- taken at 15
    exfalso; omega
  · -- not taken at 15
    refine lv_aload_n hx hb dX3_reads_18 rfl (lv_at hl 0 rfl) ?_
    refine kx_get (v := .int (kI (tsg t spn))) (C := RX3) (T := TX3) (N := 13) hx hb hts in_X3 hown hK hO_6 rfl 10 (by decide) q2248 (fun _ h9 => h9) rfl dX3_reads_19 ?_
    refine kx_bipush hx hb (by decide) dX3_reads_22 ?_
    refine kx_icmp_eq (x := tsg t spn) (y := 115) (tgt := 81) hx hb dX3_reads_24 (by decide) (by omega) (by omega) (by omega) (by omega) (fun c_24_12 => ?_) (fun c_24_12 => ?_)
    · -- taken at 24
      exfalso; omega
    · -- not taken at 24
      refine lv_aload_n hx hb dX3_reads_27 rfl (lv_at hl 0 rfl) ?_
      refine kx_get (v := .int (kI (tsg t spn))) (C := RX3) (T := TX3) (N := 13) hx hb hts in_X3 hown hK hO_6 rfl 10 (by decide) q2248 (fun _ h9 => h9) rfl dX3_reads_28 ?_
      refine kx_bipush hx hb (by decide) dX3_reads_31 ?_
      refine kx_icmp_eq (x := tsg t spn) (y := 119) (tgt := 81) hx hb dX3_reads_33 (by decide) (by omega) (by omega) (by omega) (by omega) (fun c_33_13 => ?_) (fun c_33_13 => ?_)
      · -- taken at 33
        exfalso; omega
      · -- not taken at 33
        refine lv_aload_n hx hb dX3_reads_36 rfl (lv_at hl 0 rfl) ?_
        refine kx_get (v := .int (kI (tsg t spn))) (C := RX3) (T := TX3) (N := 13) hx hb hts in_X3 hown hK hO_6 rfl 10 (by decide) q2248 (fun _ h9 => h9) rfl dX3_reads_37 ?_
        refine kx_bipush hx hb (by decide) dX3_reads_40 ?_
        refine kx_icmp_eq (x := tsg t spn) (y := 108) (tgt := 81) hx hb dX3_reads_42 (by decide) (by omega) (by omega) (by omega) (by omega) (fun c_42_14 => ?_) (fun c_42_14 => ?_)
        · -- taken at 42
          exfalso; omega
        · -- not taken at 42
          refine lv_aload_n hx hb dX3_reads_45 rfl (lv_at hl 0 rfl) ?_
          refine kx_get (v := .int (kI (tsg t spn))) (C := RX3) (T := TX3) (N := 13) hx hb hts in_X3 hown hK hO_6 rfl 10 (by decide) q2248 (fun _ h9 => h9) rfl dX3_reads_46 ?_
          refine kx_bipush hx hb (by decide) dX3_reads_49 ?_
          refine kx_icmp_eq (x := tsg t spn) (y := 117) (tgt := 81) hx hb dX3_reads_51 (by decide) (by omega) (by omega) (by omega) (by omega) (fun c_51_15 => ?_) (fun c_51_15 => ?_)
          · -- taken at 51
            exfalso; omega
          · -- not taken at 51
            refine lv_aload_n hx hb dX3_reads_54 rfl (lv_at hl 0 rfl) ?_
            refine kx_get (v := .int (kI (tsg t spn))) (C := RX3) (T := TX3) (N := 13) hx hb hts in_X3 hown hK hO_6 rfl 10 (by decide) q2248 (fun _ h9 => h9) rfl dX3_reads_55 ?_
            refine kx_bipush hx hb (by decide) dX3_reads_58 ?_
            refine kx_icmp_eq (x := tsg t spn) (y := 98) (tgt := 81) hx hb dX3_reads_60 (by decide) (by omega) (by omega) (by omega) (by omega) (fun c_60_16 => ?_) (fun c_60_16 => ?_)
            · -- taken at 60
              exfalso; omega
            · -- not taken at 60
              refine lv_aload_n hx hb dX3_reads_63 rfl (lv_at hl 0 rfl) ?_
              refine kx_get (v := .int (kI (tsg t spn))) (C := RX3) (T := TX3) (N := 13) hx hb hts in_X3 hown hK hO_6 rfl 10 (by decide) q2248 (fun _ h9 => h9) rfl dX3_reads_64 ?_
              refine kx_bipush hx hb (by decide) dX3_reads_67 ?_
              refine kx_icmp_eq (x := tsg t spn) (y := 97) (tgt := 81) hx hb dX3_reads_69 (by decide) (by omega) (by omega) (by omega) (by omega) (fun c_69_17 => ?_) (fun c_69_17 => ?_)
              · -- taken at 69
                exfalso; omega
              · -- not taken at 69
                refine lv_aload_n hx hb dX3_reads_72 rfl (lv_at hl 0 rfl) ?_
                refine kx_get (v := .int (kI (tsg t spn))) (C := RX3) (T := TX3) (N := 13) hx hb hts in_X3 hown hK hO_6 rfl 10 (by decide) q2248 (fun _ h9 => h9) rfl dX3_reads_73 ?_
                refine kx_bipush hx hb (by decide) dX3_reads_76 ?_
                refine kx_icmp_ne (x := tsg t spn) (y := 103) (tgt := 85) hx hb dX3_reads_78 (by decide) (by omega) (by omega) (by omega) (by omega) (fun c_78_18 => ?_) (fun c_78_18 => ?_)
                · -- taken at 78
                  refine kx_iconst hx hb dX3_reads_85 ?_
                  refine kx_put (v := .int (kI (kb (false)))) (C := RX3) (T := TX3) (N := 13) hx hb hts in_X3 hown hK hO_6 rfl 9 (by decide) tyX3 tyX3_ok nmX3 hS_9 (by first | rfl | exact Or.inl rfl | exact Or.inr rfl | exact Or.inr (Or.inl rfl) | exact Or.inr (Or.inr rfl) | exact Or.inr (Or.inr (Or.inl rfl)) | exact Or.inr (Or.inr (Or.inr rfl)) | ((try dsimp only); (try simp only [kNW]); omega)) q2247 (fun _ h9 => h9) rfl rfl (kb_narZ _) (kb_fitZ _) (Nat.le_of_ble_eq_true rfl) dX3_reads_86 (fun H_21 locs_22 hO_20 hU_19 hS_23 => ?_)
                  have hO_20 : kO D H_21 a 2 [.ref ra, .ref sa, .int (kI ((sn : Nat) : Int)), .ref ka, .int (kI (kb (ik))), .ref ta, .int (kI ((t.length : Nat) : Int)), .int (kI (th)), .int (kI ((spn : Nat) : Int)), .int (kI (kb (false))), .int (kI (tsg t spn)), .int (kI (fi)), .int (kI (se))] := hO_20
                  have hzu_24 := hU_19.1
                  refine lv_aload_n hx hb dX3_reads_89 rfl (lv_at hl 0 rfl) ?_
                  refine lv_dup hx hb dX3_reads_90 rfl ?_
                  refine kx_get (v := .int (kI ((spn : Nat) : Int))) (C := RX3) (T := TX3) (N := 13) hx hb hts in_X3 hown hK hO_20 rfl 8 (by decide) q2246 (fun _ h9 => h9) rfl dX3_reads_91 ?_
                  refine lv_aload_n hx hb dX3_reads_94 rfl (lv_at hl 0 rfl) ?_
                  refine kx_get (v := .int (kI (kb (false)))) (C := RX3) (T := TX3) (N := 13) hx hb hts in_X3 hown hK hO_20 rfl 9 (by decide) q2247 (fun _ h9 => h9) rfl dX3_reads_95 ?_
                  refine kx_ifz (tgt := 105) hx hb dX3_reads_98 (by decide) (fun c_98_25 => ?_) (fun c_98_25 => ?_)
                  · -- taken at 98
                    refine kx_iconst hx hb dX3_reads_105 ?_
                    refine kx_iadd hx hb dX3_reads_106 ?_
                    refine kx_eqi (((spn : Nat) : Int)) (by omega) ?_
                    refine kx_put (v := .int (kI ((spn : Nat) : Int))) (C := RX3) (T := TX3) (N := 13) hx hb hts in_X3 hown hK hO_20 rfl 8 (by decide) tyX3 tyX3_ok nmX3 hS_23 (by first | rfl | exact Or.inl rfl | exact Or.inr rfl | exact Or.inr (Or.inl rfl) | exact Or.inr (Or.inr rfl) | exact Or.inr (Or.inr (Or.inl rfl)) | exact Or.inr (Or.inr (Or.inr rfl)) | ((try dsimp only); (try simp only [kNW]); omega)) q2246 (fun _ h9 => h9) rfl rfl rfl rfl (Nat.le_of_ble_eq_true rfl) dX3_reads_107 (fun H_28 locs_29 hO_27 hU_26 hS_30 => ?_)
                    have hO_27 : kO D H_28 a 2 [.ref ra, .ref sa, .int (kI ((sn : Nat) : Int)), .ref ka, .int (kI (kb (ik))), .ref ta, .int (kI ((t.length : Nat) : Int)), .int (kI (th)), .int (kI ((spn : Nat) : Int)), .int (kI (kb (false))), .int (kI (tsg t spn)), .int (kI (fi)), .int (kI (se))] := hO_27
                    have hzu_31 := hU_26.1
                    refine lv_aload_n hx hb dX3_reads_110 rfl (lv_at hl 0 rfl) ?_
                    refine lv_aload_n hx hb dX3_reads_111 rfl (lv_at hl 0 rfl) ?_
                    refine kx_get (v := .int (kI ((spn : Nat) : Int))) (C := RX3) (T := TX3) (N := 13) hx hb hts in_X3 hown hK hO_27 rfl 8 (by decide) q2246 (fun _ h9 => h9) rfl dX3_reads_112 ?_
                    refine kx_put (v := .int (kI ((spn : Nat) : Int))) (C := RX3) (T := TX3) (N := 13) hx hb hts in_X3 hown hK hO_27 rfl 11 (by decide) tyX3 tyX3_ok nmX3 hS_30 (by first | rfl | exact Or.inl rfl | exact Or.inr rfl | exact Or.inr (Or.inl rfl) | exact Or.inr (Or.inr rfl) | exact Or.inr (Or.inr (Or.inl rfl)) | exact Or.inr (Or.inr (Or.inr rfl)) | ((try dsimp only); (try simp only [kNW]); omega)) q2249 (fun _ h9 => h9) rfl rfl rfl rfl (Nat.le_of_ble_eq_true rfl) dX3_reads_115 (fun H_34 locs_35 hO_33 hU_32 hS_36 => ?_)
                    have hO_33 : kO D H_34 a 2 [.ref ra, .ref sa, .int (kI ((sn : Nat) : Int)), .ref ka, .int (kI (kb (ik))), .ref ta, .int (kI ((t.length : Nat) : Int)), .int (kI (th)), .int (kI ((spn : Nat) : Int)), .int (kI (kb (false))), .int (kI (tsg t spn)), .int (kI ((spn : Nat) : Int)), .int (kI (se))] := hO_33
                    have hzu_37 := hU_32.1
                    refine lv_aload_n hx hb dX3_reads_118 rfl (lv_at hl 0 rfl) ?_
                    refine kx_iconst hx hb dX3_reads_119 ?_
                    refine kx_put (v := .int (kI (0))) (C := RX3) (T := TX3) (N := 13) hx hb hts in_X3 hown hK hO_33 rfl 12 (by decide) tyX3 tyX3_ok nmX3 hS_36 (by first | rfl | exact Or.inl rfl | exact Or.inr rfl | exact Or.inr (Or.inl rfl) | exact Or.inr (Or.inr rfl) | exact Or.inr (Or.inr (Or.inl rfl)) | exact Or.inr (Or.inr (Or.inr rfl)) | ((try dsimp only); (try simp only [kNW]); omega)) q2250 (fun _ h9 => h9) rfl rfl rfl rfl (Nat.le_of_ble_eq_true rfl) dX3_reads_120 (fun H_40 locs_41 hO_39 hU_38 hS_42 => ?_)
                    have hO_39 : kO D H_40 a 2 [.ref ra, .ref sa, .int (kI ((sn : Nat) : Int)), .ref ka, .int (kI (kb (ik))), .ref ta, .int (kI ((t.length : Nat) : Int)), .int (kI (th)), .int (kI ((spn : Nat) : Int)), .int (kI (kb (false))), .int (kI (tsg t spn)), .int (kI ((spn : Nat) : Int)), .int (kI (0))] := hO_39
                    have hzu_43 := hU_38.1
                    refine lv_aload_n hx hb dX3_reads_123 rfl (lv_at hl 0 rfl) ?_
                    refine kx_get (v := .int (kI (tsg t spn))) (C := RX3) (T := TX3) (N := 13) hx hb hts in_X3 hown hK hO_39 rfl 10 (by decide) q2248 (fun _ h9 => h9) rfl dX3_reads_124 ?_
                    refine kx_bipush hx hb (by decide) dX3_reads_127 ?_
                    refine kx_icmp_ne (x := tsg t spn) (y := 115) (tgt := 193) hx hb dX3_reads_129 (by decide) (by omega) (by omega) (by omega) (by omega) (fun c_129_44 => ?_) (fun c_129_44 => ?_)
                    · -- taken at 129
                      refine lv_aload_n hx hb dX3_reads_193 rfl (lv_at hl 0 rfl) ?_
                      refine kx_get (v := .int (kI (tsg t spn))) (C := RX3) (T := TX3) (N := 13) hx hb hts in_X3 hown hK hO_39 rfl 10 (by decide) q2248 (fun _ h9 => h9) rfl dX3_reads_194 ?_
                      refine kx_bipush hx hb (by decide) dX3_reads_197 ?_
                      refine kx_icmp_eq (x := tsg t spn) (y := 97) (tgt := 336) hx hb dX3_reads_199 (by decide) (by omega) (by omega) (by omega) (by omega) (fun c_199_45 => ?_) (fun c_199_45 => ?_)
                      · -- taken at 199
                        exfalso; omega
                      · -- not taken at 199
                        refine lv_aload_n hx hb dX3_reads_202 rfl (lv_at hl 0 rfl) ?_
                        refine kx_get (v := .int (kI (kb (false)))) (C := RX3) (T := TX3) (N := 13) hx hb hts in_X3 hown hK hO_39 rfl 9 (by decide) q2247 (fun _ h9 => h9) rfl dX3_reads_203 ?_
                        refine kx_ifz (tgt := 336) hx hb dX3_reads_206 (by decide) (fun c_206_46 => ?_) (fun c_206_46 => ?_)
                        · -- taken at 206
                          have hrd_47 : rdW t spn = (false, spn, ((spn : Nat) : Int), 0) := by rw [rdW, if_neg (by omega), if_neg (by omega), if_neg (by omega), if_neg (by omega), if_neg (by omega), if_neg (by omega)]
                          have hOz_48 : kO D H_40 a 2 [.ref ra, .ref sa, .int (kI ((sn : Nat) : Int)), .ref ka, .int (kI (kb (ik))), .ref ta, .int (kI ((t.length : Nat) : Int)), .int (kI (th)), .int (kI (((rdW t spn).2.1 : Nat) : Int)), .int (kI (kb ((rdW t spn).1))), .int (kI (tsg t spn)), .int (kI ((rdW t spn).2.2.1)), .int (kI ((rdW t spn).2.2.2))] := by rw [hrd_47]; exact hO_39
                          exact kx_vret hx hb hr hlk (hOz_48) hS_42 dX3_reads_336
                        · -- not taken at 206
                          exact absurd c_206_46 (by decide)
                    · -- not taken at 129
                      exfalso; omega
                  · -- not taken at 98
                    exact absurd c_98_25 (by decide)
                · -- not taken at 78
                  exfalso; omega

set_option maxHeartbeats 4000000 in
set_option maxRecDepth 100000 in
theorem m_X3_reads (l : Launch) (D : kG) (H : Heap) (a : Nat) (ra : Nat) (sa : Nat) (ka : Nat) (ta : Nat) (sn : Nat) (ik : Bool) (th : Int) (spn : Nat) (gt : Nat → Int) (t : List Int) (iw : Bool) (le : Int) (fi : Int) (se : Int) (hO_a : kO D H a 2 [.ref ra, .ref sa, .int (kI ((sn : Nat) : Int)), .ref ka, .int (kI (kb (ik))), .ref ta, .int (kI ((t.length : Nat) : Int)), .int (kI (th)), .int (kI ((spn : Nat) : Int)), .int (kI (kb (iw))), .int (kI (le)), .int (kI (fi)), .int (kI (se))]) (hA_ta : kAi D H ta 60 gt) (hsp : spn ≤ 1000) (hT : MTx gt t) (ht60 : t.length ≤ 60) (ne_a_ta : a ≠ ta) (bs_a : kBase D ≤ a) : Met l yX3_reads (ws_ yX3_reads cX3_reads 1 none) ({ frames := 2, cells := 0, slots := 0, locals := 45 } : Room) (kPre D H [.ref a]) (kQv (fun H' => (kO D H' a 2 [.ref ra, .ref sa, .int (kI ((sn : Nat) : Int)), .ref ka, .int (kI (kb (ik))), .ref ta, .int (kI ((t.length : Nat) : Int)), .int (kI (th)), .int (kI (((rdW t spn).2.1 : Nat) : Int)), .int (kI (kb ((rdW t spn).1))), .int (kI (tsg t spn)), .int (kI ((rdW t spn).2.2.1)), .int (kI ((rdW t spn).2.2.2))])) (fun q : Nat => q = a)) (0) (0) ((fun q : Nat => q = a)) := by
  by_cases hlt9 : tx_let (tsg t spn)
  · rcases hlt9 with hlt9 | hlt9 | hlt9 | hlt9 | hlt9 | hlt9 | hlt9 | hlt9
    · exact m_reads_n l D H a ra sa ka ta sn ik th spn gt t iw le fi se hO_a hA_ta hsp hT ht60 ne_a_ta bs_a hlt9
    · exact m_reads_s l D H a ra sa ka ta sn ik th spn gt t iw le fi se hO_a hA_ta hsp hT ht60 ne_a_ta bs_a hlt9
    · exact m_reads_w l D H a ra sa ka ta sn ik th spn gt t iw le fi se hO_a hA_ta hsp hT ht60 ne_a_ta bs_a hlt9
    · exact m_reads_l l D H a ra sa ka ta sn ik th spn gt t iw le fi se hO_a hA_ta hsp hT ht60 ne_a_ta bs_a hlt9
    · exact m_reads_u l D H a ra sa ka ta sn ik th spn gt t iw le fi se hO_a hA_ta hsp hT ht60 ne_a_ta bs_a hlt9
    · exact m_reads_b l D H a ra sa ka ta sn ik th spn gt t iw le fi se hO_a hA_ta hsp hT ht60 ne_a_ta bs_a hlt9
    · exact m_reads_a l D H a ra sa ka ta sn ik th spn gt t iw le fi se hO_a hA_ta hsp hT ht60 ne_a_ta bs_a hlt9
    · exact m_reads_g l D H a ra sa ka ta sn ik th spn gt t iw le fi se hO_a hA_ta hsp hT ht60 ne_a_ta bs_a hlt9
  · exact m_reads_o l D H a ra sa ka ta sn ik th spn gt t iw le fi se hO_a hA_ta hsp hT ht60 ne_a_ta bs_a hlt9

