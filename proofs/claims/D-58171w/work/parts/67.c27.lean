/-! MATH 44: a line's cells after a step -/
theorem LnAt.stepO {D : kG} {H : Heap} {a pa sa ea : Nat} {gp gs : Nat → Int} {L : Ln} {d : Int} (ho : kO D H a 3 [.int (kI (ln_lv L)), .ref pa, .ref sa, .int (kI ((ln_n L + 1 : Nat) : Int)), .ref ea, .int (kI (ln_lb L))]) (hp : kAi D H pa 61 gp) (hs : kAi D H sa 60 gs) (he : kO D H ea 4 []) (hc : ln_cl (w_step L d) = false) (hm : MLn gp gs (w_step L d)) : LnAt D H a pa sa (w_step L d) :=
  ⟨ea, gp, gs, by rw [ln_n_step]; exact ho, hp, hs, by rw [hc]; exact he, hm⟩
theorem LnAt.stepC {D : kG} {H : Heap} {a pa sa ea : Nat} {gp gs : Nat → Int} {L : Ln} {d : Int} (ho : kO D H a 3 [.int (kI (ln_lv L)), .ref pa, .ref sa, .int (kI ((ln_n L + 1 : Nat) : Int)), .ref ea, .int (kI (ln_lb L))]) (hp : kAi D H pa 61 gp) (hs : kAi D H sa 60 gs) (he : kO D H ea 5 []) (hc : ln_cl (w_step L d) = true) (hm : MLn gp gs (w_step L d)) : LnAt D H a pa sa (w_step L d) :=
  ⟨ea, gp, gs, by rw [ln_n_step]; exact ho, hp, hs, by rw [hc]; exact he, hm⟩
theorem kState.ex {D : kG} {H H1 : Heap} {st la ea : Nat} {gap : Int} {S : Ls} {F : Fts} (h : kState D H st la ea gap S F) (q : kEx H H1) : kState D H1 st la ea gap S F := by
  obtain ⟨⟨h1, mc, h2⟩, h3, h4, h5⟩ := h
  exact ⟨⟨h1.ex q, mc, h2.ex q⟩, h3.ex q, h4.ex q, h5⟩
set_option maxHeartbeats 4000000 in
set_option maxRecDepth 100000 in
theorem m_X2_label (l : Launch) (D : kG) (H : Heap) (st : Nat) (la : Nat) (ea : Nat) (F : Fts) (S : Ls) (gap : Int) (ln : Nat) (pl : Nat) (hP_kState_st : kState D H st la ea gap S F) (hok : LsOK S gap) (hln : ln < S.length) (hpl : pl ≤ ln_n (st_ln S ln)) (hwz : st_whyL S gap ln pl = 0) : Met l yX2_label (ws_ yX2_label cX2_label 4 (some .boolean)) ({ frames := 8, cells := 5, slots := 13, locals := 3124 } : Room) (kPre D H [.ref st, .int (kI ((ln : Nat) : Int)), .int (kI ((pl : Nat) : Int))]) (kQb (fun (r : Bool) H' => (r = true) ∧ (kState D H' st la ea gap ((S.set ln (w_lb (st_ln S ln) (pl : Int)))) F)) (fun q : Nat => q = fA F ln ∨ H.size ≤ q)) (5) (13) ((fun q : Nat => q = fA F ln ∨ H.size ≤ q)) := by
  refine Met.ofW (cc := cX2_label) (maxL := 4) (ret := (some .boolean)) (by decide) rfl ?_
  intro p e s m args below meth c s₁ B hml hv
  obtain ⟨rfl, hH, hK⟩ := hv
  subst hH
  have hx := B.exec
  have hb := B.bytes
  have hr := B.returns
  have hts := atoms_spec (ws := ws_ yX2_label cX2_label 4 (some .boolean)) B.pre
  have hts : ∀ w ∈ lw_all, w.before _ s = true := fun w h => hts w (List.mem_cons_of_mem _ h)
  have hown : s.vm.findClass RX2 = some m.cls := findClass_of_methodNamed B.named
  have hlk := B.notSynchronized
  have hS : va_S (fun q : Nat => q = fA F ln ∨ s.heap.size ≤ q) s.heap s.heap [] := va_S.rf
  have hB : ∀ q, (fun q : Nat => q = fA F ln ∨ s.heap.size ≤ q) q → kBase D ≤ q := fun q h => by (have h1 := hP_kState_st.2.2.2.2.2.2.2 ln hln; have h2 := hK.size; rcases h with h | h; (rw [h]; exact h1.1); omega)
  have hl := lv_entry ([.ref st, .int (kI ((ln : Nat) : Int)), .int (kI ((pl : Nat) : Int))]) (n := 4) (Nat.le_of_ble_eq_true rfl)
  rw [lg_entry_eq]
  generalize (lg_sl ([.ref st, .int (kI ((ln : Nat) : Int)), .int (kI ((pl : Nat) : Int))]) ++ List.replicate (4 - (lg_sl ([.ref st, .int (kI ((ln : Nat) : Int)), .int (kI ((pl : Nat) : Int))])).length) Slot.unset).toArray = ls at hl ⊢
  have hl : lv_has ls 4 [(0, .ref st), (1, .int (kI ((ln : Nat) : Int))), (2, .int (kI ((pl : Nat) : Int)))] := hl
  have hL8 := hok.1
  have hn60 := (hok.ln hln).n
  have hd9 := hK.dis
  have hx9 : ¬ kBase D ≤ D.2.2.2 2 := hK.tE.out
  obtain ⟨⟨hO_st, mc, hO_la⟩, hLs9, hLn9, hF9, hDs9, hb1, hb2, hb3⟩ := id hP_kState_st
  refine lv_aload_n hx hb dX2_label_0 rfl (lv_at hl 0 rfl) ?_
  refine lv_iload_n hx hb dX2_label_1 rfl (lv_at hl 1 rfl) ?_
  refine kx_cb0 (va_runV (As := [.int (kI ((ln : Nat) : Int))]) (rest := []) ⟨hx, hb, hml, hown, hts⟩ (m_X2_has l D s.heap st la mc ea S.length gap ln hO_st hO_la (by first | assumption | omega) (by first | assumption | omega)) (cwV 1 hts (lw_V q1009 q1010 q1011 q80 q1012) rfl rfl rfl (by decide +kernel) ⟨Nat.le_of_ble_eq_true rfl, Nat.le_of_ble_eq_true rfl⟩) (kx_pv hK hS hB (kx_rc hK hO_st (C := RX2) (T := TX2) (N := 2) rfl)) rfl rfl hl.1 rfl (lv_room (Nat.le_of_ble_eq_true rfl)) dX2_label_2 ⟨by first | exact Nat.le_of_ble_eq_true rfl | omega | (show _ ≤ _; omega) | (dsimp only [headSpec]; omega), by first | exact Nat.le_of_ble_eq_true rfl | omega | (show _ ≤ _; omega) | (dsimp only [headSpec]; omega)⟩) hS (fun z_4 locs_1 hz_3 hS_2 => ?_)
  subst z_4
  refine kx_ifz (tgt := 41) hx hb dX2_label_5 (by decide) (fun c_5_5 => ?_) (fun c_5_5 => ?_)
  · -- taken at 5
    have c_5_5 := of_decide_eq_false c_5_5
    exfalso; exact absurd hln (of_decide_eq_false (by assumption))
  · -- not taken at 5
    have c_5_5 := of_decide_eq_true c_5_5
    refine lv_iload_n hx hb dX2_label_8 rfl (lv_at hl 2 rfl) ?_
    refine lv_aload_n hx hb dX2_label_9 rfl (lv_at hl 0 rfl) ?_
    refine kx_get (v := .ref la) (C := RX2) (T := TX2) (N := 2) hx hb hts in_X2 hown hK hO_st rfl 0 (by decide) q167 (fun _ h9 => h9) rfl dX2_label_10 ?_
    refine lv_iload_n hx hb dX2_label_13 rfl (lv_at hl 1 rfl) ?_
    refine kx_cFr0 (va_runF (C := RJ2) (As := [.int (kI ((ln : Nat) : Int))]) (rest := [.int (kI ((pl : Nat) : Int))]) (hK.at (ci := 9) rfl) ⟨hx, hb, hml, hown, hts⟩ (m_get l D s.heap la mc ea S.length F ln hO_la hLs9 (by first | assumption | omega)) (va_cwF (x := ({ cls := "java/util/List", name := "get", desc := "(I)Ljava/lang/Object;" } : Jvm.MethodName)) 1 hts (lw_F q289 q292 q294 q83 q296) rfl rfl rfl (hK.fw (by decide)) (by decide +kernel) ⟨Nat.le_of_ble_eq_true rfl, Nat.le_of_ble_eq_true rfl⟩) (kx_pv hK hS_2 hB (kx_rc hK hO_la (C := RJ2) (T := TJ2) (N := 3) rfl)) rfl rfl hl.1 rfl (lv_room (Nat.le_of_ble_eq_true rfl)) dX2_label_14 ⟨by first | exact Nat.le_of_ble_eq_true rfl | omega | (show _ ≤ _; omega) | (dsimp only [headSpec]; omega), by first | exact Nat.le_of_ble_eq_true rfl | omega | (show _ ≤ _; omega) | (dsimp only [headSpec]; omega)⟩) hS_2 (fun z_9 locs_6 hz_8 hS_7 => ?_)
    subst z_9
    obtain ⟨ea_10, gp_10, gs_10, ho_10, hp_10, hs_10, he_10, hm_10⟩ := (hLn9 ln (hln))
    have hen_10 := ((hLn9 ln (hln)).tyA.1).ne hd9 (b := ln_cl (st_ln S ln)) he_10
    have hpn_10 := kOA_ne hd9 ho_10 hp_10 (by decide) (by decide)
    have hsn_10 := kOA_ne hd9 ho_10 hs_10 (by decide) (by decide)
    have hb3_10 := hb3 ln (hln)
    refine kx_castS hx hb hts hown q307 hK ho_10 rfl dX2_label_19 ?_
    refine kx_getN (v := .int (kI ((ln_n (st_ln S ln) : Nat) : Int))) (C := RX4) (T := TX4) (N := 6) hx hb hts in_X4 hown hK ho_10 rfl 3 (by decide) (hK.w q345 rfl) (fun _ h9 => h9) rfl dX2_label_22 ?_
    refine kx_icmp_gt (x := ((pl : Nat) : Int)) (y := ((ln_n (st_ln S ln) : Nat) : Int)) (tgt := 41) hx hb dX2_label_25 (by decide) (by omega) (by omega) (by omega) (by omega) (fun c_25_11 => ?_) (fun c_25_11 => ?_)
    · -- taken at 25
      exfalso; omega
    · -- not taken at 25
      refine lv_aload_n hx hb dX2_label_28 rfl (lv_at hl 0 rfl) ?_
      refine lv_iload_n hx hb dX2_label_29 rfl (lv_at hl 1 rfl) ?_
      refine lv_iload_n hx hb dX2_label_30 rfl (lv_at hl 2 rfl) ?_
      refine kx_ci (va_runV (As := [.int (kI ((ln : Nat) : Int)), .int (kI ((pl : Nat) : Int))]) (rest := []) ⟨hx, hb, hml, hown, hts⟩ (m_X2_whyNotLabelled l D s.heap st la mc ea F S gap ln pl hO_st hO_la hLs9 hLn9 (by first | assumption | omega) (by first | assumption | omega) (by first | assumption | omega)) (cwV 2 hts (lw_V q1068 q1069 q1070 q80 q1071) rfl rfl rfl (by decide +kernel) ⟨Nat.le_of_ble_eq_true rfl, Nat.le_of_ble_eq_true rfl⟩) (kx_pv hK hS_7 hB (kx_rc hK hO_st (C := RX2) (T := TX2) (N := 2) rfl)) rfl rfl hl.1 rfl (lv_room (Nat.le_of_ble_eq_true rfl)) dX2_label_31 ⟨by first | exact Nat.le_of_ble_eq_true rfl | omega | (show _ ≤ _; omega) | (dsimp only [headSpec]; omega), by first | exact Nat.le_of_ble_eq_true rfl | omega | (show _ ≤ _; omega) | (dsimp only [headSpec]; omega)⟩) hS_7 (fun q _ h => by have h9 := hS_7.1; (try dsimp only at h); (try dsimp only); (try simp only [kNW] at h); (try simp only [kNW]); omega) (fun q h => by have h9 := hS_7.1; (try dsimp only at h); (try dsimp only); (try simp only [kNW] at h); (try simp only [kNW]); omega) (fun z_17 H_15 locs_12 hz_14 hF_16 hS_13 => ?_)
      have hzf_18 := hF_16.1
      have hF_16 := hF_16.nw
      refine W.widen (k := 5) (n := 13) (Nat.le_of_ble_eq_true rfl) (Nat.le_of_ble_eq_true rfl) ?_
      obtain ⟨hv_19, hnw_20⟩ := hz_14
      subst z_17
      refine kx_if_ne (x := st_whyL S gap ln pl) (tgt := 41) hx hb dX2_label_34 (by decide) (by omega) (by omega) (fun c_34_21 => ?_) (fun c_34_21 => ?_)
      · -- taken at 34
        exfalso; omega
      · -- not taken at 34
        refine kx_iconst hx hb dX2_label_37 ?_
        refine lv_goto (tgt := 42) hx hb dX2_label_38 (by decide) ?_
        refine lv_istore_n (lv' := [(3, .int (kI (1))), (0, .ref st), (1, .int (kI ((ln : Nat) : Int))), (2, .int (kI ((pl : Nat) : Int)))]) hx hb dX2_label_42 rfl hl (by decide) rfl (fun ls hl => ?_)
        refine lv_iload_n hx hb dX2_label_43 rfl (lv_at hl 0 rfl) ?_
        refine kx_if_eq (x := 1) (tgt := 64) hx hb dX2_label_44 (by decide) (by omega) (by omega) (fun c_44_22 => ?_) (fun c_44_22 => ?_)
        · -- taken at 44
          exfalso; omega
        · -- not taken at 44
          refine lv_aload_n hx hb dX2_label_47 rfl (lv_at hl 1 rfl) ?_
          have h_23 := hO_st.ex hF_16
          refine kx_get (v := .ref la) (C := RX2) (T := TX2) (N := 2) hx hb hts in_X2 hown hK h_23 rfl 0 (by decide) q167 (fun _ h9 => h9) rfl dX2_label_48 ?_
          refine lv_iload_n hx hb dX2_label_51 rfl (lv_at hl 2 rfl) ?_
          have h_24 := hO_la.ex hF_16
          have h_25 := hLs9.ex hF_16
          refine kx_cFr0 (va_runF (C := RJ2) (As := [.int (kI ((ln : Nat) : Int))]) (rest := []) (hK.at (ci := 9) rfl) ⟨hx, hb, hml, hown, hts⟩ (m_get l D H_15 la mc ea S.length F ln h_24 h_25 (by first | assumption | omega)) (va_cwF (x := ({ cls := "java/util/List", name := "get", desc := "(I)Ljava/lang/Object;" } : Jvm.MethodName)) 1 hts (lw_F q289 q292 q294 q83 q296) rfl rfl rfl (hK.fw (by decide)) (by decide +kernel) ⟨Nat.le_of_ble_eq_true rfl, Nat.le_of_ble_eq_true rfl⟩) (kx_pv hK hS_13 hB (kx_rc hK h_24 (C := RJ2) (T := TJ2) (N := 3) rfl)) rfl rfl hl.1 rfl (lv_room (Nat.le_of_ble_eq_true rfl)) dX2_label_52 ⟨by first | exact Nat.le_of_ble_eq_true rfl | omega | (show _ ≤ _; omega) | (dsimp only [headSpec]; omega), by first | exact Nat.le_of_ble_eq_true rfl | omega | (show _ ≤ _; omega) | (dsimp only [headSpec]; omega)⟩) hS_13 (fun z_29 locs_26 hz_28 hS_27 => ?_)
          subst z_29
          have h_30 := hLn9.ex hF_16
          obtain ⟨ea_31, gp_31, gs_31, ho_31, hp_31, hs_31, he_31, hm_31⟩ := (h_30 ln (hln))
          have hen_31 := ((h_30 ln (hln)).tyA.1).ne hd9 (b := ln_cl (st_ln S ln)) he_31
          have hpn_31 := kOA_ne hd9 ho_31 hp_31 (by decide) (by decide)
          have hsn_31 := kOA_ne hd9 ho_31 hs_31 (by decide) (by decide)
          have hb3_31 := hb3 ln (hln)
          refine kx_castS hx hb hts hown q307 hK ho_31 rfl dX2_label_57 ?_
          refine lv_iload_n hx hb dX2_label_60 rfl (lv_at hl 3 rfl) ?_
          refine kx_put (v := .int (kI ((pl : Nat) : Int))) (C := RX4) (T := TX4) (N := 6) hx hb hts in_X4 hown hK ho_31 rfl 5 (by decide) tyX4 tyX4_ok nmX4 hS_27 (by first | rfl | exact Or.inl rfl | exact Or.inr rfl | exact Or.inr (Or.inl rfl) | exact Or.inr (Or.inr rfl) | exact Or.inr (Or.inr (Or.inl rfl)) | exact Or.inr (Or.inr (Or.inr rfl)) | ((try dsimp only); (try simp only [kNW]); omega)) q349 (fun _ h9 => h9) rfl rfl rfl rfl (Nat.le_of_ble_eq_true rfl) dX2_label_61 (fun H_34 locs_35 hO_33 hU_32 hS_36 => ?_)
          have hO_33 : kO D H_34 (fA F ln) 3 [.int (kI (ln_lv (st_ln S ln))), .ref (fP F ln), .ref (fS F ln), .int (kI ((ln_n (st_ln S ln) : Nat) : Int)), .ref ea_31, .int (kI ((pl : Nat) : Int))] := hO_33
          have hzu_37 := hU_32.1
          have h_38 := hp_31.up hU_32 (by first | assumption | exact Ne.symm (by assumption) | omega | (have h9 := hp_31.lt; omega))
          have h_39 := hs_31.up hU_32 (by first | assumption | exact Ne.symm (by assumption) | omega | (have h9 := hs_31.lt; omega))
          have h_40 := he_31.up hU_32 (by first | assumption | exact Ne.symm (by assumption) | omega | (have h9 := he_31.lt; omega))
          have hSt_41 : kState D H_34 st la ea gap (S.set ln (w_lb (st_ln S ln) (pl : Int))) F := hP_kState_st.line hd9 (hln) (va_S.toFr hS_36) (fun x hx => by rcases hx with z | z; exact Or.inr (Or.inl z); exact Or.inl z) (LnAt.of (M := st_ln S ln) rfl rfl hO_33 h_38 h_39 h_40 hm_31)
          refine lv_iload_n hx hb dX2_label_64 rfl (lv_at hl 0 rfl) ?_
          exact kx_zret (z := true) hx hb hr hlk (⟨by rfl, hSt_41⟩) hS_36 dX2_label_65

set_option maxHeartbeats 4000000 in
set_option maxRecDepth 100000 in
theorem m_X2_label_no (l : Launch) (D : kG) (H : Heap) (st : Nat) (la : Nat) (mc : Int) (ea : Nat) (F : Fts) (S : Ls) (gap : Int) (ln : Nat) (pl : Nat) (hO_st : kO D H st 1 [.ref la, .int (kI (gap))]) (hO_la : kO D H la 9 [.int (kI (mc)), .ref ea, .int (kI ((S.length : Nat) : Int))]) (hP_kLs_ea : kLs D H ea S.length F) (hP_kLn_F : kLn D H F S) (hok : LsOK S gap) (hln9 : ln ≤ 1000) (hpl9 : pl ≤ 1000) (hno : S.length ≤ ln ∨ (ln_n (st_ln S ln) < pl ∨ st_whyL S gap ln pl ≠ 0)) : Met l yX2_label (ws_ yX2_label cX2_label 4 (some .boolean)) ({ frames := 8, cells := 5, slots := 13, locals := 3124 } : Room) (kPre D H [.ref st, .int (kI ((ln : Nat) : Int)), .int (kI ((pl : Nat) : Int))]) (kQb (fun (r : Bool) H' => (r = false) ∧ (True)) (kNW H)) (5) (13) ((kNW H)) := by
  refine Met.ofW (cc := cX2_label) (maxL := 4) (ret := (some .boolean)) (by decide) rfl ?_
  intro p e s m args below meth c s₁ B hml hv
  obtain ⟨rfl, hH, hK⟩ := hv
  subst hH
  have hx := B.exec
  have hb := B.bytes
  have hr := B.returns
  have hts := atoms_spec (ws := ws_ yX2_label cX2_label 4 (some .boolean)) B.pre
  have hts : ∀ w ∈ lw_all, w.before _ s = true := fun w h => hts w (List.mem_cons_of_mem _ h)
  have hown : s.vm.findClass RX2 = some m.cls := findClass_of_methodNamed B.named
  have hlk := B.notSynchronized
  have hS : va_S (kNW s.heap) s.heap s.heap [] := va_S.rf
  have hB : ∀ q, (kNW s.heap) q → kBase D ≤ q := fun q h => Nat.le_trans hK.size h
  have hl := lv_entry ([.ref st, .int (kI ((ln : Nat) : Int)), .int (kI ((pl : Nat) : Int))]) (n := 4) (Nat.le_of_ble_eq_true rfl)
  rw [lg_entry_eq]
  generalize (lg_sl ([.ref st, .int (kI ((ln : Nat) : Int)), .int (kI ((pl : Nat) : Int))]) ++ List.replicate (4 - (lg_sl ([.ref st, .int (kI ((ln : Nat) : Int)), .int (kI ((pl : Nat) : Int))])).length) Slot.unset).toArray = ls at hl ⊢
  have hl : lv_has ls 4 [(0, .ref st), (1, .int (kI ((ln : Nat) : Int))), (2, .int (kI ((pl : Nat) : Int)))] := hl
  have hL8 := hok.1
  refine lv_aload_n hx hb dX2_label_0 rfl (lv_at hl 0 rfl) ?_
  refine lv_iload_n hx hb dX2_label_1 rfl (lv_at hl 1 rfl) ?_
  refine kx_cb0 (va_runV (As := [.int (kI ((ln : Nat) : Int))]) (rest := []) ⟨hx, hb, hml, hown, hts⟩ (m_X2_has l D s.heap st la mc ea S.length gap ln hO_st hO_la (by first | assumption | omega) (by first | assumption | omega)) (cwV 1 hts (lw_V q1009 q1010 q1011 q80 q1012) rfl rfl rfl (by decide +kernel) ⟨Nat.le_of_ble_eq_true rfl, Nat.le_of_ble_eq_true rfl⟩) (kx_pv hK hS hB (kx_rc hK hO_st (C := RX2) (T := TX2) (N := 2) rfl)) rfl rfl hl.1 rfl (lv_room (Nat.le_of_ble_eq_true rfl)) dX2_label_2 ⟨by first | exact Nat.le_of_ble_eq_true rfl | omega | (show _ ≤ _; omega) | (dsimp only [headSpec]; omega), by first | exact Nat.le_of_ble_eq_true rfl | omega | (show _ ≤ _; omega) | (dsimp only [headSpec]; omega)⟩) hS (fun z_4 locs_1 hz_3 hS_2 => ?_)
  subst z_4
  refine kx_ifz (tgt := 41) hx hb dX2_label_5 (by decide) (fun c_5_5 => ?_) (fun c_5_5 => ?_)
  · -- taken at 5
    have c_5_5 := of_decide_eq_false c_5_5
    refine kx_iconst hx hb dX2_label_41 ?_
    refine lv_istore_n (lv' := [(3, .int (kI (0))), (0, .ref st), (1, .int (kI ((ln : Nat) : Int))), (2, .int (kI ((pl : Nat) : Int)))]) hx hb dX2_label_42 rfl hl (by decide) rfl (fun ls hl => ?_)
    refine lv_iload_n hx hb dX2_label_43 rfl (lv_at hl 0 rfl) ?_
    refine kx_if_eq (x := 0) (tgt := 64) hx hb dX2_label_44 (by decide) (by omega) (by omega) (fun c_44_6 => ?_) (fun c_44_6 => ?_)
    · -- taken at 44
      refine lv_iload_n hx hb dX2_label_64 rfl (lv_at hl 0 rfl) ?_
      refine W.widen (k := 5) (n := 13) (by omega) (by omega) ?_
      exact kx_zret (z := false) hx hb hr hlk (⟨by rfl, by first | assumption | rfl | omega | grind⟩) hS_2 dX2_label_65
    · -- not taken at 44
      exfalso; omega
  · -- not taken at 5
    have c_5_5 := of_decide_eq_true c_5_5
    have hln : ln < S.length := of_decide_eq_true (by assumption)
    refine lv_iload_n hx hb dX2_label_8 rfl (lv_at hl 2 rfl) ?_
    refine lv_aload_n hx hb dX2_label_9 rfl (lv_at hl 0 rfl) ?_
    refine kx_get (v := .ref la) (C := RX2) (T := TX2) (N := 2) hx hb hts in_X2 hown hK hO_st rfl 0 (by decide) q167 (fun _ h9 => h9) rfl dX2_label_10 ?_
    refine lv_iload_n hx hb dX2_label_13 rfl (lv_at hl 1 rfl) ?_
    refine kx_cFr0 (va_runF (C := RJ2) (As := [.int (kI ((ln : Nat) : Int))]) (rest := [.int (kI ((pl : Nat) : Int))]) (hK.at (ci := 9) rfl) ⟨hx, hb, hml, hown, hts⟩ (m_get l D s.heap la mc ea S.length F ln hO_la hP_kLs_ea (by first | assumption | omega)) (va_cwF (x := ({ cls := "java/util/List", name := "get", desc := "(I)Ljava/lang/Object;" } : Jvm.MethodName)) 1 hts (lw_F q289 q292 q294 q83 q296) rfl rfl rfl (hK.fw (by decide)) (by decide +kernel) ⟨Nat.le_of_ble_eq_true rfl, Nat.le_of_ble_eq_true rfl⟩) (kx_pv hK hS_2 hB (kx_rc hK hO_la (C := RJ2) (T := TJ2) (N := 3) rfl)) rfl rfl hl.1 rfl (lv_room (Nat.le_of_ble_eq_true rfl)) dX2_label_14 ⟨by first | exact Nat.le_of_ble_eq_true rfl | omega | (show _ ≤ _; omega) | (dsimp only [headSpec]; omega), by first | exact Nat.le_of_ble_eq_true rfl | omega | (show _ ≤ _; omega) | (dsimp only [headSpec]; omega)⟩) hS_2 (fun z_10 locs_7 hz_9 hS_8 => ?_)
    subst z_10
    obtain ⟨ea_11, gp_11, gs_11, ho_11, hp_11, hs_11, he_11, hm_11⟩ := (hP_kLn_F ln (by omega))
    have hn60 := (hok.ln (by omega : ln < S.length)).n
    refine kx_castS hx hb hts hown q307 hK ho_11 rfl dX2_label_19 ?_
    refine kx_getN (v := .int (kI ((ln_n (st_ln S ln) : Nat) : Int))) (C := RX4) (T := TX4) (N := 6) hx hb hts in_X4 hown hK ho_11 rfl 3 (by decide) (hK.w q345 rfl) (fun _ h9 => h9) rfl dX2_label_22 ?_
    refine kx_icmp_gt (x := ((pl : Nat) : Int)) (y := ((ln_n (st_ln S ln) : Nat) : Int)) (tgt := 41) hx hb dX2_label_25 (by decide) (by omega) (by omega) (by omega) (by omega) (fun c_25_12 => ?_) (fun c_25_12 => ?_)
    · -- taken at 25
      refine kx_iconst hx hb dX2_label_41 ?_
      refine lv_istore_n (lv' := [(3, .int (kI (0))), (0, .ref st), (1, .int (kI ((ln : Nat) : Int))), (2, .int (kI ((pl : Nat) : Int)))]) hx hb dX2_label_42 rfl hl (by decide) rfl (fun ls hl => ?_)
      refine lv_iload_n hx hb dX2_label_43 rfl (lv_at hl 0 rfl) ?_
      refine kx_if_eq (x := 0) (tgt := 64) hx hb dX2_label_44 (by decide) (by omega) (by omega) (fun c_44_13 => ?_) (fun c_44_13 => ?_)
      · -- taken at 44
        refine lv_iload_n hx hb dX2_label_64 rfl (lv_at hl 0 rfl) ?_
        refine W.widen (k := 5) (n := 13) (by omega) (by omega) ?_
        exact kx_zret (z := false) hx hb hr hlk (⟨by rfl, by first | assumption | rfl | omega | grind⟩) hS_8 dX2_label_65
      · -- not taken at 44
        exfalso; omega
    · -- not taken at 25
      refine lv_aload_n hx hb dX2_label_28 rfl (lv_at hl 0 rfl) ?_
      refine lv_iload_n hx hb dX2_label_29 rfl (lv_at hl 1 rfl) ?_
      refine lv_iload_n hx hb dX2_label_30 rfl (lv_at hl 2 rfl) ?_
      refine kx_ci (va_runV (As := [.int (kI ((ln : Nat) : Int)), .int (kI ((pl : Nat) : Int))]) (rest := []) ⟨hx, hb, hml, hown, hts⟩ (m_X2_whyNotLabelled l D s.heap st la mc ea F S gap ln pl hO_st hO_la hP_kLs_ea hP_kLn_F (by first | assumption | omega) (by first | assumption | omega) (by first | assumption | omega)) (cwV 2 hts (lw_V q1068 q1069 q1070 q80 q1071) rfl rfl rfl (by decide +kernel) ⟨Nat.le_of_ble_eq_true rfl, Nat.le_of_ble_eq_true rfl⟩) (kx_pv hK hS_8 hB (kx_rc hK hO_st (C := RX2) (T := TX2) (N := 2) rfl)) rfl rfl hl.1 rfl (lv_room (Nat.le_of_ble_eq_true rfl)) dX2_label_31 ⟨by first | exact Nat.le_of_ble_eq_true rfl | omega | (show _ ≤ _; omega) | (dsimp only [headSpec]; omega), by first | exact Nat.le_of_ble_eq_true rfl | omega | (show _ ≤ _; omega) | (dsimp only [headSpec]; omega)⟩) hS_8 (fun q _ h => Nat.le_trans hS_8.1 h) (fun q h => Nat.le_trans hS_8.1 h) (fun z_19 H_17 locs_14 hz_16 hF_18 hS_15 => ?_)
      have hzf_20 := hF_18.1
      have hF_18 := hF_18.nw
      refine W.widen (k := 5) (n := 13) (Nat.le_of_ble_eq_true rfl) (Nat.le_of_ble_eq_true rfl) ?_
      obtain ⟨hv_21, hnw_22⟩ := hz_16
      subst z_19
      refine kx_if_ne (x := st_whyL S gap ln pl) (tgt := 41) hx hb dX2_label_34 (by decide) (by have := st_whyL_rng S gap ln pl; omega) (by have := st_whyL_rng S gap ln pl; omega) (fun c_34_23 => ?_) (fun c_34_23 => ?_)
      · -- taken at 34
        refine kx_iconst hx hb dX2_label_41 ?_
        refine lv_istore_n (lv' := [(3, .int (kI (0))), (0, .ref st), (1, .int (kI ((ln : Nat) : Int))), (2, .int (kI ((pl : Nat) : Int)))]) hx hb dX2_label_42 rfl hl (by decide) rfl (fun ls hl => ?_)
        refine lv_iload_n hx hb dX2_label_43 rfl (lv_at hl 0 rfl) ?_
        refine kx_if_eq (x := 0) (tgt := 64) hx hb dX2_label_44 (by decide) (by omega) (by omega) (fun c_44_24 => ?_) (fun c_44_24 => ?_)
        · -- taken at 44
          refine lv_iload_n hx hb dX2_label_64 rfl (lv_at hl 0 rfl) ?_
          exact kx_zret (z := false) hx hb hr hlk (⟨by rfl, by first | assumption | rfl | omega | grind⟩) hS_15 dX2_label_65
        · -- not taken at 44
          exfalso; omega
      · -- not taken at 34
        exfalso; rcases hno with z | z | z <;> omega

set_option maxHeartbeats 4000000 in
set_option maxRecDepth 100000 in
theorem m_X2_labelBest (l : Launch) (D : kG) (H : Heap) (st : Nat) (la : Nat) (ea : Nat) (F : Fts) (S : Ls) (gap : Int) (ln : Nat) (hP_kState_st : kState D H st la ea gap S F) (hok : LsOK S gap) (hln : ln < S.length) (hbp : st_best S gap ln ≠ -1) : Met l yX2_labelBest (ws_ yX2_labelBest cX2_labelBest 3 (some .boolean)) ({ frames := 9, cells := 374, slots := 1053, locals := 3147 } : Room) (kPre D H [.ref st, .int (kI ((ln : Nat) : Int))]) (kQb (fun (r : Bool) H' => (r = true) ∧ (kState D H' st la ea gap ((S.set ln (w_lb (st_ln S ln) (st_best S gap ln)))) F)) (fun q : Nat => q = fA F ln ∨ H.size ≤ q)) (374) (1053) ((fun q : Nat => q = fA F ln ∨ H.size ≤ q)) := by
  refine Met.ofW (cc := cX2_labelBest) (maxL := 3) (ret := (some .boolean)) (by decide) rfl ?_
  intro p e s m args below meth c s₁ B hml hv
  obtain ⟨rfl, hH, hK⟩ := hv
  subst hH
  have hx := B.exec
  have hb := B.bytes
  have hr := B.returns
  have hts := atoms_spec (ws := ws_ yX2_labelBest cX2_labelBest 3 (some .boolean)) B.pre
  have hts : ∀ w ∈ lw_all, w.before _ s = true := fun w h => hts w (List.mem_cons_of_mem _ h)
  have hown : s.vm.findClass RX2 = some m.cls := findClass_of_methodNamed B.named
  have hlk := B.notSynchronized
  have hS : va_S (fun q : Nat => q = fA F ln ∨ s.heap.size ≤ q) s.heap s.heap [] := va_S.rf
  have hB : ∀ q, (fun q : Nat => q = fA F ln ∨ s.heap.size ≤ q) q → kBase D ≤ q := fun q h => by (have h1 := hP_kState_st.2.2.2.2.2.2.2 ln hln; have h2 := hK.size; rcases h with h | h; (rw [h]; exact h1.1); omega)
  have hl := lv_entry ([.ref st, .int (kI ((ln : Nat) : Int))]) (n := 3) (Nat.le_of_ble_eq_true rfl)
  rw [lg_entry_eq]
  generalize (lg_sl ([.ref st, .int (kI ((ln : Nat) : Int))]) ++ List.replicate (3 - (lg_sl ([.ref st, .int (kI ((ln : Nat) : Int))])).length) Slot.unset).toArray = ls at hl ⊢
  have hl : lv_has ls 3 [(0, .ref st), (1, .int (kI ((ln : Nat) : Int)))] := hl
  have hL8 := hok.1
  have hn60 := (hok.ln hln).n
  have hbo9 := (st_best_ok S gap ln).resolve_left hbp
  have hbr9 := hbo9.1
  have hbn9 := hbo9.2.1
  have hd9 := hK.dis
  have hx9 : ¬ kBase D ≤ D.2.2.2 2 := hK.tE.out
  obtain ⟨⟨hO_st, mc, hO_la⟩, hLs9, hLn9, hF9, hDs9, hb1, hb2, hb3⟩ := id hP_kState_st
  refine lv_aload_n hx hb dX2_labelBest_0 rfl (lv_at hl 0 rfl) ?_
  refine lv_iload_n hx hb dX2_labelBest_1 rfl (lv_at hl 1 rfl) ?_
  refine kx_cb0 (va_runV (As := [.int (kI ((ln : Nat) : Int))]) (rest := []) ⟨hx, hb, hml, hown, hts⟩ (m_X2_has l D s.heap st la mc ea S.length gap ln hO_st hO_la (by first | assumption | omega) (by first | assumption | omega)) (cwV 1 hts (lw_V q1009 q1010 q1011 q80 q1012) rfl rfl rfl (by decide +kernel) ⟨Nat.le_of_ble_eq_true rfl, Nat.le_of_ble_eq_true rfl⟩) (kx_pv hK hS hB (kx_rc hK hO_st (C := RX2) (T := TX2) (N := 2) rfl)) rfl rfl hl.1 rfl (lv_room (Nat.le_of_ble_eq_true rfl)) dX2_labelBest_2 ⟨by first | exact Nat.le_of_ble_eq_true rfl | omega | (show _ ≤ _; omega) | (dsimp only [headSpec]; omega), by first | exact Nat.le_of_ble_eq_true rfl | omega | (show _ ≤ _; omega) | (dsimp only [headSpec]; omega)⟩) hS (fun z_4 locs_1 hz_3 hS_2 => ?_)
  subst z_4
  refine kx_ifz (tgt := 16) hx hb dX2_labelBest_5 (by decide) (fun c_5_5 => ?_) (fun c_5_5 => ?_)
  · -- taken at 5
    have c_5_5 := of_decide_eq_false c_5_5
    exfalso; exact absurd hln (of_decide_eq_false (by assumption))
  · -- not taken at 5
    have c_5_5 := of_decide_eq_true c_5_5
    refine lv_aload_n hx hb dX2_labelBest_8 rfl (lv_at hl 0 rfl) ?_
    refine lv_iload_n hx hb dX2_labelBest_9 rfl (lv_at hl 1 rfl) ?_
    refine kx_ci (va_runV (As := [.int (kI ((ln : Nat) : Int))]) (rest := []) ⟨hx, hb, hml, hown, hts⟩ (m_X2_bestPlace l D s.heap st la mc ea F S gap ln hO_st hO_la hLs9 hLn9 (by first | assumption | omega) (by first | assumption | omega)) (cwV 1 hts (lw_V q1013 q1014 q1015 q80 q1016) rfl rfl rfl (by decide +kernel) ⟨Nat.le_of_ble_eq_true rfl, Nat.le_of_ble_eq_true rfl⟩) (kx_pv hK hS_2 hB (kx_rc hK hO_st (C := RX2) (T := TX2) (N := 2) rfl)) rfl rfl hl.1 rfl (lv_room (Nat.le_of_ble_eq_true rfl)) dX2_labelBest_10 ⟨by first | exact Nat.le_of_ble_eq_true rfl | omega | (show _ ≤ _; omega) | (dsimp only [headSpec]; omega), by first | exact Nat.le_of_ble_eq_true rfl | omega | (show _ ≤ _; omega) | (dsimp only [headSpec]; omega)⟩) hS_2 (fun q _ h => by have h9 := hS_2.1; (try dsimp only at h); (try dsimp only); (try simp only [kNW] at h); (try simp only [kNW]); omega) (fun q h => by have h9 := hS_2.1; (try dsimp only at h); (try dsimp only); (try simp only [kNW] at h); (try simp only [kNW]); omega) (fun z_11 H_9 locs_6 hz_8 hF_10 hS_7 => ?_)
    have hzf_12 := hF_10.1
    have hF_10 := hF_10.nw
    refine W.widen (k := 369) (n := 1040) (Nat.le_of_ble_eq_true rfl) (Nat.le_of_ble_eq_true rfl) ?_
    obtain ⟨hv_13, hnw_14⟩ := hz_8
    subst z_11
    refine lv_goto (tgt := 17) hx hb dX2_labelBest_13 (by decide) ?_
    refine lv_istore_n (lv' := [(2, .int (kI (st_best S gap ln))), (0, .ref st), (1, .int (kI ((ln : Nat) : Int)))]) hx hb dX2_labelBest_17 rfl hl (by decide) rfl (fun ls hl => ?_)
    refine lv_iload_n hx hb dX2_labelBest_18 rfl (lv_at hl 0 rfl) ?_
    refine kx_iconst hx hb dX2_labelBest_19 ?_
    refine kx_icmp_eq (x := st_best S gap ln) (y := (-1)) (tgt := 36) hx hb dX2_labelBest_20 (by decide) (by omega) (by omega) (by omega) (by omega) (fun c_20_15 => ?_) (fun c_20_15 => ?_)
    · -- taken at 20
      exfalso; omega
    · -- not taken at 20
      refine lv_aload_n hx hb dX2_labelBest_23 rfl (lv_at hl 1 rfl) ?_
      refine lv_iload_n hx hb dX2_labelBest_24 rfl (lv_at hl 2 rfl) ?_
      refine lv_iload_n hx hb dX2_labelBest_25 rfl (lv_at hl 0 rfl) ?_
      refine kx_eqi ((((st_best S gap ln).toNat : Nat) : Int)) (by omega) ?_
      have h_16 := hP_kState_st.ex hF_10
      have h_17 := hO_st.ex hF_10
      refine kx_cb (va_runV (As := [.int (kI ((ln : Nat) : Int)), .int (kI (((st_best S gap ln).toNat : Nat) : Int))]) (rest := []) ⟨hx, hb, hml, hown, hts⟩ (m_X2_label l D H_9 st la ea F S gap ln ((st_best S gap ln).toNat) h_16 (by first | assumption | omega) (by first | assumption | omega) (by omega) hbo9.2.2.1) (cwV 2 hts (lw_V q1258 q1259 q1260 q80 q1261) rfl rfl rfl (by decide +kernel) ⟨Nat.le_of_ble_eq_true rfl, Nat.le_of_ble_eq_true rfl⟩) (kx_pv hK hS_7 hB (kx_rc hK h_17 (C := RX2) (T := TX2) (N := 2) rfl)) rfl rfl hl.1 rfl (lv_room (Nat.le_of_ble_eq_true rfl)) dX2_labelBest_26 ⟨by first | exact Nat.le_of_ble_eq_true rfl | omega | (show _ ≤ _; omega) | (dsimp only [headSpec]; omega), by first | exact Nat.le_of_ble_eq_true rfl | omega | (show _ ≤ _; omega) | (dsimp only [headSpec]; omega)⟩) hS_7 (fun q _ h => by have h9 := hS_7.1; (try dsimp only at h); (try dsimp only); (try simp only [kNW] at h); (try simp only [kNW]); omega) (fun q h => by have h9 := hS_7.1; (try dsimp only at h); (try dsimp only); (try simp only [kNW] at h); (try simp only [kNW]); omega) (fun z_23 H_21 locs_18 hz_20 hF_22 hS_19 => ?_)
      have hzf_24 := hF_22.1
      refine W.widen (k := 374) (n := 1053) (Nat.le_of_ble_eq_true rfl) (Nat.le_of_ble_eq_true rfl) ?_
      obtain ⟨hv_25, ho_26⟩ := hz_20
      subst z_23
      have hSb9 : kState D H_21 st la ea gap (S.set ln (w_lb (st_ln S ln) (st_best S gap ln))) F := by have h9 := ho_26; rw [show (((st_best S gap ln).toNat : Nat) : Int) = (st_best S gap ln) by omega] at h9; exact h9
      refine kx_ifz (tgt := 36) hx hb dX2_labelBest_29 (by decide) (fun c_29_27 => ?_) (fun c_29_27 => ?_)
      · -- taken at 29
        exact absurd c_29_27 (by decide)
      · -- not taken at 29
        refine kx_iconst hx hb dX2_labelBest_32 ?_
        refine lv_goto (tgt := 37) hx hb dX2_labelBest_33 (by decide) ?_
        exact kx_zret (z := true) hx hb hr hlk (⟨by rfl, hSb9⟩) hS_19 dX2_labelBest_37

set_option maxHeartbeats 4000000 in
set_option maxRecDepth 100000 in
theorem m_X2_labelBest_no (l : Launch) (D : kG) (H : Heap) (st : Nat) (la : Nat) (mc : Int) (ea : Nat) (F : Fts) (S : Ls) (gap : Int) (ln : Nat) (hO_st : kO D H st 1 [.ref la, .int (kI (gap))]) (hO_la : kO D H la 9 [.int (kI (mc)), .ref ea, .int (kI ((S.length : Nat) : Int))]) (hP_kLs_ea : kLs D H ea S.length F) (hP_kLn_F : kLn D H F S) (hok : LsOK S gap) (hln9 : ln ≤ 1000) (hno : S.length ≤ ln ∨ st_best S gap ln = -1) : Met l yX2_labelBest (ws_ yX2_labelBest cX2_labelBest 3 (some .boolean)) ({ frames := 9, cells := 374, slots := 1053, locals := 3147 } : Room) (kPre D H [.ref st, .int (kI ((ln : Nat) : Int))]) (kQb (fun (r : Bool) H' => (r = false) ∧ (True)) (kNW H)) (374) (1053) ((kNW H)) := by
  refine Met.ofW (cc := cX2_labelBest) (maxL := 3) (ret := (some .boolean)) (by decide) rfl ?_
  intro p e s m args below meth c s₁ B hml hv
  obtain ⟨rfl, hH, hK⟩ := hv
  subst hH
  have hx := B.exec
  have hb := B.bytes
  have hr := B.returns
  have hts := atoms_spec (ws := ws_ yX2_labelBest cX2_labelBest 3 (some .boolean)) B.pre
  have hts : ∀ w ∈ lw_all, w.before _ s = true := fun w h => hts w (List.mem_cons_of_mem _ h)
  have hown : s.vm.findClass RX2 = some m.cls := findClass_of_methodNamed B.named
  have hlk := B.notSynchronized
  have hS : va_S (kNW s.heap) s.heap s.heap [] := va_S.rf
  have hB : ∀ q, (kNW s.heap) q → kBase D ≤ q := fun q h => Nat.le_trans hK.size h
  have hl := lv_entry ([.ref st, .int (kI ((ln : Nat) : Int))]) (n := 3) (Nat.le_of_ble_eq_true rfl)
  rw [lg_entry_eq]
  generalize (lg_sl ([.ref st, .int (kI ((ln : Nat) : Int))]) ++ List.replicate (3 - (lg_sl ([.ref st, .int (kI ((ln : Nat) : Int))])).length) Slot.unset).toArray = ls at hl ⊢
  have hl : lv_has ls 3 [(0, .ref st), (1, .int (kI ((ln : Nat) : Int)))] := hl
  have hL8 := hok.1
  refine lv_aload_n hx hb dX2_labelBest_0 rfl (lv_at hl 0 rfl) ?_
  refine lv_iload_n hx hb dX2_labelBest_1 rfl (lv_at hl 1 rfl) ?_
  refine kx_cb0 (va_runV (As := [.int (kI ((ln : Nat) : Int))]) (rest := []) ⟨hx, hb, hml, hown, hts⟩ (m_X2_has l D s.heap st la mc ea S.length gap ln hO_st hO_la (by first | assumption | omega) (by first | assumption | omega)) (cwV 1 hts (lw_V q1009 q1010 q1011 q80 q1012) rfl rfl rfl (by decide +kernel) ⟨Nat.le_of_ble_eq_true rfl, Nat.le_of_ble_eq_true rfl⟩) (kx_pv hK hS hB (kx_rc hK hO_st (C := RX2) (T := TX2) (N := 2) rfl)) rfl rfl hl.1 rfl (lv_room (Nat.le_of_ble_eq_true rfl)) dX2_labelBest_2 ⟨by first | exact Nat.le_of_ble_eq_true rfl | omega | (show _ ≤ _; omega) | (dsimp only [headSpec]; omega), by first | exact Nat.le_of_ble_eq_true rfl | omega | (show _ ≤ _; omega) | (dsimp only [headSpec]; omega)⟩) hS (fun z_4 locs_1 hz_3 hS_2 => ?_)
  subst z_4
  refine kx_ifz (tgt := 16) hx hb dX2_labelBest_5 (by decide) (fun c_5_5 => ?_) (fun c_5_5 => ?_)
  · -- taken at 5
    have c_5_5 := of_decide_eq_false c_5_5
    refine kx_iconst hx hb dX2_labelBest_16 ?_
    refine lv_istore_n (lv' := [(2, .int (kI ((-1)))), (0, .ref st), (1, .int (kI ((ln : Nat) : Int)))]) hx hb dX2_labelBest_17 rfl hl (by decide) rfl (fun ls hl => ?_)
    refine lv_iload_n hx hb dX2_labelBest_18 rfl (lv_at hl 0 rfl) ?_
    refine kx_iconst hx hb dX2_labelBest_19 ?_
    refine kx_icmp_eq (x := (-1)) (y := (-1)) (tgt := 36) hx hb dX2_labelBest_20 (by decide) (by omega) (by omega) (by omega) (by omega) (fun c_20_6 => ?_) (fun c_20_6 => ?_)
    · -- taken at 20
      refine kx_iconst hx hb dX2_labelBest_36 ?_
      refine W.widen (k := 374) (n := 1053) (by omega) (by omega) ?_
      exact kx_zret (z := false) hx hb hr hlk (⟨by rfl, by first | assumption | rfl | omega | grind⟩) hS_2 dX2_labelBest_37
    · -- not taken at 20
      exfalso; omega
  · -- not taken at 5
    have c_5_5 := of_decide_eq_true c_5_5
    have hln : ln < S.length := of_decide_eq_true (by assumption)
    have hn60 := (hok.ln hln).n
    have hb1 : st_best S gap ln = -1 := by rcases hno with z | z; omega; exact z
    refine lv_aload_n hx hb dX2_labelBest_8 rfl (lv_at hl 0 rfl) ?_
    refine lv_iload_n hx hb dX2_labelBest_9 rfl (lv_at hl 1 rfl) ?_
    refine kx_ci (va_runV (As := [.int (kI ((ln : Nat) : Int))]) (rest := []) ⟨hx, hb, hml, hown, hts⟩ (m_X2_bestPlace l D s.heap st la mc ea F S gap ln hO_st hO_la hP_kLs_ea hP_kLn_F (by first | assumption | omega) (by first | assumption | omega)) (cwV 1 hts (lw_V q1013 q1014 q1015 q80 q1016) rfl rfl rfl (by decide +kernel) ⟨Nat.le_of_ble_eq_true rfl, Nat.le_of_ble_eq_true rfl⟩) (kx_pv hK hS_2 hB (kx_rc hK hO_st (C := RX2) (T := TX2) (N := 2) rfl)) rfl rfl hl.1 rfl (lv_room (Nat.le_of_ble_eq_true rfl)) dX2_labelBest_10 ⟨by first | exact Nat.le_of_ble_eq_true rfl | omega | (show _ ≤ _; omega) | (dsimp only [headSpec]; omega), by first | exact Nat.le_of_ble_eq_true rfl | omega | (show _ ≤ _; omega) | (dsimp only [headSpec]; omega)⟩) hS_2 (fun q _ h => Nat.le_trans hS_2.1 h) (fun q h => Nat.le_trans hS_2.1 h) (fun z_12 H_10 locs_7 hz_9 hF_11 hS_8 => ?_)
    have hzf_13 := hF_11.1
    have hF_11 := hF_11.nw
    refine W.widen (k := 369) (n := 1040) (Nat.le_of_ble_eq_true rfl) (Nat.le_of_ble_eq_true rfl) ?_
    obtain ⟨hv_14, hnw_15⟩ := hz_9
    subst z_12
    refine lv_goto (tgt := 17) hx hb dX2_labelBest_13 (by decide) ?_
    refine lv_istore_n (lv' := [(2, .int (kI (st_best S gap ln))), (0, .ref st), (1, .int (kI ((ln : Nat) : Int)))]) hx hb dX2_labelBest_17 rfl hl (by decide) rfl (fun ls hl => ?_)
    refine lv_iload_n hx hb dX2_labelBest_18 rfl (lv_at hl 0 rfl) ?_
    refine kx_iconst hx hb dX2_labelBest_19 ?_
    refine kx_icmp_eq (x := st_best S gap ln) (y := (-1)) (tgt := 36) hx hb dX2_labelBest_20 (by decide) (by omega) (by omega) (by omega) (by omega) (fun c_20_16 => ?_) (fun c_20_16 => ?_)
    · -- taken at 20
      refine kx_iconst hx hb dX2_labelBest_36 ?_
      refine W.widen (k := 374) (n := 1053) (by omega) (by omega) ?_
      exact kx_zret (z := false) hx hb hr hlk (⟨by rfl, by first | assumption | rfl | omega | grind⟩) hS_8 dX2_labelBest_37
    · -- not taken at 20
      exfalso; omega

