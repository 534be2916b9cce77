/-! MATH 22 -/
theorem ln_pos_bd {L M : Ln} (h1 : ln_bg L = ln_bg M) (h2 : ln_ds L = ln_ds M) : ∀ k, ln_pos L k = ln_pos M k := by
  intro k
  induction k with
  | zero => exact h1
  | succ k ih => rw [ln_pos, ln_pos, ih]; unfold ln_d; rw [h2]
theorem ln_cl_bd {L M : Ln} (h1 : ln_bg L = ln_bg M) (h2 : ln_ds L = ln_ds M) : ln_cl L = ln_cl M := by
  unfold ln_cl ln_end ln_n
  rw [ln_pos_bd h1 h2, h1, h2]
theorem LnAt.of {D : kG} {H : Heap} {a pa sa ea : Nat} {gp gs : Nat → Int} {L M : Ln} (h1 : ln_bg L = ln_bg M) (h2 : ln_ds L = ln_ds M) (ho : kO D H a 3 [.int (kI (ln_lv L)), .ref pa, .ref sa, .int (kI ((ln_n M : Nat) : Int)), .ref ea, .int (kI (ln_lb L))]) (hp : kAi D H pa 61 gp) (hs : kAi D H sa 60 gs) (he : kO D H ea (if ln_cl M = true then 5 else 4) []) (hm : MLn gp gs M) : LnAt D H a pa sa L := by
  have hn : ln_n L = ln_n M := by unfold ln_n; rw [h2]
  refine ⟨ea, gp, gs, by rw [hn]; exact ho, hp, hs, by rw [ln_cl_bd h1 h2]; exact he, fun k hk => ?_, fun k hk => ?_⟩
  · rw [ln_pos_bd h1 h2]; exact hm.1 k (by omega)
  · unfold ln_d; rw [h2]; exact hm.2 k (by omega)
set_option maxHeartbeats 4000000 in
set_option maxRecDepth 100000 in
theorem m_X2_unlabel (l : Launch) (D : kG) (H : Heap) (st : Nat) (la : Nat) (ea : Nat) (F : Fts) (S : Ls) (gap : Int) (ln : Nat) (hP_kState_st : kState D H st la ea gap S F) (hok : LsOK S gap) (hln : ln < S.length) (hlb : ln_lb (st_ln S ln) ≠ -1) : Met l yX2_unlabel (ws_ yX2_unlabel cX2_unlabel 3 (some .boolean)) ({ frames := 3, cells := 0, slots := 0, locals := 64 } : Room) (kPre D H [.ref st, .int (kI ((ln : Nat) : Int))]) (kQb (fun (r : Bool) H' => (r = true) ∧ (kState D H' st la ea gap ((S.set ln (w_lb (st_ln S ln) (-1)))) F)) (fun q : Nat => q = fA F ln)) (0) (0) ((fun q : Nat => q = fA F ln)) := by
  refine Met.ofW (cc := cX2_unlabel) (maxL := 3) (ret := (some .boolean)) (by decide) rfl ?_
  intro p e s m args below meth c s₁ B hml hv
  obtain ⟨rfl, hH, hK⟩ := hv
  subst hH
  have hx := B.exec
  have hb := B.bytes
  have hr := B.returns
  have hts := atoms_spec (ws := ws_ yX2_unlabel cX2_unlabel 3 (some .boolean)) B.pre
  have hts : ∀ w ∈ lw_all, w.before _ s = true := fun w h => hts w (List.mem_cons_of_mem _ h)
  have hown : s.vm.findClass RX2 = some m.cls := findClass_of_methodNamed B.named
  have hlk := B.notSynchronized
  have hS : va_S (fun q : Nat => q = fA F ln) s.heap s.heap [] := va_S.rf
  have hB : ∀ q, (fun q : Nat => q = fA F ln) q → kBase D ≤ q := fun q h => by (have h1 := hP_kState_st.2.2.2.2.2.2.2 ln hln; rw [h]; exact h1.1)
  have hl := lv_entry ([.ref st, .int (kI ((ln : Nat) : Int))]) (n := 3) (Nat.le_of_ble_eq_true rfl)
  rw [lg_entry_eq]
  generalize (lg_sl ([.ref st, .int (kI ((ln : Nat) : Int))]) ++ List.replicate (3 - (lg_sl ([.ref st, .int (kI ((ln : Nat) : Int))])).length) Slot.unset).toArray = ls at hl ⊢
  have hl : lv_has ls 3 [(0, .ref st), (1, .int (kI ((ln : Nat) : Int)))] := hl
  have hL8 := hok.1
  have hd9 := hK.dis
  have hx9 : ¬ kBase D ≤ D.2.2.2 2 := hK.tE.out
  obtain ⟨⟨hO_st, mc, hO_la⟩, hLs9, hLn9, hF9, hDs9, hb1, hb2, hb3⟩ := id hP_kState_st
  refine lv_aload_n hx hb dX2_unlabel_0 rfl (lv_at hl 0 rfl) ?_
  refine lv_iload_n hx hb dX2_unlabel_1 rfl (lv_at hl 1 rfl) ?_
  refine kx_cb0 (va_runV (As := [.int (kI ((ln : Nat) : Int))]) (rest := []) ⟨hx, hb, hml, hown, hts⟩ (m_X2_has l D s.heap st la mc ea S.length gap ln hO_st hO_la (by first | assumption | omega) (by first | assumption | omega)) (cwV 1 hts (lw_V q1009 q1010 q1011 q80 q1012) rfl rfl rfl (by decide +kernel) ⟨Nat.le_of_ble_eq_true rfl, Nat.le_of_ble_eq_true rfl⟩) (kx_pv hK hS hB (kx_rc hK hO_st (C := RX2) (T := TX2) (N := 2) rfl)) rfl rfl hl.1 rfl (lv_room (Nat.le_of_ble_eq_true rfl)) dX2_unlabel_2 ⟨by first | exact Nat.le_of_ble_eq_true rfl | omega | (show _ ≤ _; omega) | (dsimp only [headSpec]; omega), by first | exact Nat.le_of_ble_eq_true rfl | omega | (show _ ≤ _; omega) | (dsimp only [headSpec]; omega)⟩) hS (fun z_4 locs_1 hz_3 hS_2 => ?_)
  subst z_4
  refine kx_ifz (tgt := 32) hx hb dX2_unlabel_5 (by decide) (fun c_5_5 => ?_) (fun c_5_5 => ?_)
  · -- taken at 5
    have c_5_5 := of_decide_eq_false c_5_5
    exfalso; exact absurd hln (of_decide_eq_false (by assumption))
  · -- not taken at 5
    have c_5_5 := of_decide_eq_true c_5_5
    refine lv_aload_n hx hb dX2_unlabel_8 rfl (lv_at hl 0 rfl) ?_
    refine kx_get (v := .ref la) (C := RX2) (T := TX2) (N := 2) hx hb hts in_X2 hown hK hO_st rfl 0 (by decide) q167 (fun _ h9 => h9) rfl dX2_unlabel_9 ?_
    refine lv_iload_n hx hb dX2_unlabel_12 rfl (lv_at hl 1 rfl) ?_
    refine kx_cFr0 (va_runF (C := RJ2) (As := [.int (kI ((ln : Nat) : Int))]) (rest := []) (hK.at (ci := 9) rfl) ⟨hx, hb, hml, hown, hts⟩ (m_get l D s.heap la mc ea S.length F ln hO_la hLs9 (by first | assumption | omega)) (va_cwF (x := ({ cls := "java/util/List", name := "get", desc := "(I)Ljava/lang/Object;" } : Jvm.MethodName)) 1 hts (lw_F q289 q292 q294 q83 q296) rfl rfl rfl (hK.fw (by decide)) (by decide +kernel) ⟨Nat.le_of_ble_eq_true rfl, Nat.le_of_ble_eq_true rfl⟩) (kx_pv hK hS_2 hB (kx_rc hK hO_la (C := RJ2) (T := TJ2) (N := 3) rfl)) rfl rfl hl.1 rfl (lv_room (Nat.le_of_ble_eq_true rfl)) dX2_unlabel_13 ⟨by first | exact Nat.le_of_ble_eq_true rfl | omega | (show _ ≤ _; omega) | (dsimp only [headSpec]; omega), by first | exact Nat.le_of_ble_eq_true rfl | omega | (show _ ≤ _; omega) | (dsimp only [headSpec]; omega)⟩) hS_2 (fun z_9 locs_6 hz_8 hS_7 => ?_)
    subst z_9
    obtain ⟨ea_10, gp_10, gs_10, ho_10, hp_10, hs_10, he_10, hm_10⟩ := (hLn9 ln (hln))
    have hen_10 := ((hLn9 ln (hln)).tyA.1).ne hd9 (b := ln_cl (st_ln S ln)) he_10
    have hpn_10 := kOA_ne hd9 ho_10 hp_10 (by decide) (by decide)
    have hsn_10 := kOA_ne hd9 ho_10 hs_10 (by decide) (by decide)
    have hb3_10 := hb3 ln (hln)
    have hlbr9 := (hok.ln hln).lbr
    refine kx_castS hx hb hts hown q307 hK ho_10 rfl dX2_unlabel_18 ?_
    refine kx_get (v := .int (kI (ln_lb (st_ln S ln)))) (C := RX4) (T := TX4) (N := 6) hx hb hts in_X4 hown hK ho_10 rfl 5 (by decide) q349 (fun _ h9 => h9) rfl dX2_unlabel_21 ?_
    refine kx_iconst hx hb dX2_unlabel_24 ?_
    refine kx_icmp_eq (x := ln_lb (st_ln S ln)) (y := (-1)) (tgt := 32) hx hb dX2_unlabel_25 (by decide) (by omega) (by omega) (by omega) (by omega) (fun c_25_11 => ?_) (fun c_25_11 => ?_)
    · -- taken at 25
      exfalso; exact hlb (by assumption)
    · -- not taken at 25
      refine kx_iconst hx hb dX2_unlabel_28 ?_
      refine lv_goto (tgt := 33) hx hb dX2_unlabel_29 (by decide) ?_
      refine lv_istore_n (lv' := [(2, .int (kI (1))), (0, .ref st), (1, .int (kI ((ln : Nat) : Int)))]) hx hb dX2_unlabel_33 rfl hl (by decide) rfl (fun ls hl => ?_)
      refine lv_iload_n hx hb dX2_unlabel_34 rfl (lv_at hl 0 rfl) ?_
      refine kx_if_eq (x := 1) (tgt := 55) hx hb dX2_unlabel_35 (by decide) (by omega) (by omega) (fun c_35_12 => ?_) (fun c_35_12 => ?_)
      · -- taken at 35
        exfalso; omega
      · -- not taken at 35
        refine lv_aload_n hx hb dX2_unlabel_38 rfl (lv_at hl 1 rfl) ?_
        refine kx_get (v := .ref la) (C := RX2) (T := TX2) (N := 2) hx hb hts in_X2 hown hK hO_st rfl 0 (by decide) q167 (fun _ h9 => h9) rfl dX2_unlabel_39 ?_
        refine lv_iload_n hx hb dX2_unlabel_42 rfl (lv_at hl 2 rfl) ?_
        refine kx_cFr0 (va_runF (C := RJ2) (As := [.int (kI ((ln : Nat) : Int))]) (rest := []) (hK.at (ci := 9) rfl) ⟨hx, hb, hml, hown, hts⟩ (m_get l D s.heap la mc ea S.length F ln hO_la hLs9 (by first | assumption | omega)) (va_cwF (x := ({ cls := "java/util/List", name := "get", desc := "(I)Ljava/lang/Object;" } : Jvm.MethodName)) 1 hts (lw_F q289 q292 q294 q83 q296) rfl rfl rfl (hK.fw (by decide)) (by decide +kernel) ⟨Nat.le_of_ble_eq_true rfl, Nat.le_of_ble_eq_true rfl⟩) (kx_pv hK hS_7 hB (kx_rc hK hO_la (C := RJ2) (T := TJ2) (N := 3) rfl)) rfl rfl hl.1 rfl (lv_room (Nat.le_of_ble_eq_true rfl)) dX2_unlabel_43 ⟨by first | exact Nat.le_of_ble_eq_true rfl | omega | (show _ ≤ _; omega) | (dsimp only [headSpec]; omega), by first | exact Nat.le_of_ble_eq_true rfl | omega | (show _ ≤ _; omega) | (dsimp only [headSpec]; omega)⟩) hS_7 (fun z_16 locs_13 hz_15 hS_14 => ?_)
        subst z_16
        obtain ⟨ea_17, gp_17, gs_17, ho_17, hp_17, hs_17, he_17, hm_17⟩ := (hLn9 ln (hln))
        have hen_17 := ((hLn9 ln (hln)).tyA.1).ne hd9 (b := ln_cl (st_ln S ln)) he_17
        have hpn_17 := kOA_ne hd9 ho_17 hp_17 (by decide) (by decide)
        have hsn_17 := kOA_ne hd9 ho_17 hs_17 (by decide) (by decide)
        have hb3_17 := hb3 ln (hln)
        refine kx_castS hx hb hts hown q307 hK ho_17 rfl dX2_unlabel_48 ?_
        refine kx_iconst hx hb dX2_unlabel_51 ?_
        refine kx_put (v := .int (kI ((-1)))) (C := RX4) (T := TX4) (N := 6) hx hb hts in_X4 hown hK ho_17 rfl 5 (by decide) tyX4 tyX4_ok nmX4 hS_14 (by first | rfl | exact Or.inl rfl | exact Or.inr rfl | exact Or.inr (Or.inl rfl) | exact Or.inr (Or.inr rfl) | exact Or.inr (Or.inr (Or.inl rfl)) | exact Or.inr (Or.inr (Or.inr rfl)) | ((try dsimp only); (try simp only [kNW]); omega)) q349 (fun _ h9 => h9) rfl rfl rfl rfl (Nat.le_of_ble_eq_true rfl) dX2_unlabel_52 (fun H_20 locs_21 hO_19 hU_18 hS_22 => ?_)
        have hO_19 : kO D H_20 (fA F ln) 3 [.int (kI (ln_lv (st_ln S ln))), .ref (fP F ln), .ref (fS F ln), .int (kI ((ln_n (st_ln S ln) : Nat) : Int)), .ref ea_17, .int (kI ((-1)))] := hO_19
        have hzu_23 := hU_18.1
        have h_24 := hp_17.up hU_18 (by first | assumption | exact Ne.symm (by assumption) | omega | (have h9 := hp_17.lt; omega))
        have h_25 := hs_17.up hU_18 (by first | assumption | exact Ne.symm (by assumption) | omega | (have h9 := hs_17.lt; omega))
        have h_26 := he_17.up hU_18 (by first | assumption | exact Ne.symm (by assumption) | omega | (have h9 := he_17.lt; omega))
        have hSt_27 : kState D H_20 st la ea gap (S.set ln (w_lb (st_ln S ln) (-1))) F := hP_kState_st.line hd9 (hln) (va_S.toFr hS_22) (fun x hx => Or.inr (Or.inl hx)) (LnAt.of (M := st_ln S ln) rfl rfl hO_19 h_24 h_25 h_26 hm_17)
        refine lv_iload_n hx hb dX2_unlabel_55 rfl (lv_at hl 0 rfl) ?_
        exact kx_zret (z := true) hx hb hr hlk (⟨by rfl, hSt_27⟩) hS_22 dX2_unlabel_56

set_option maxHeartbeats 4000000 in
set_option maxRecDepth 100000 in
theorem m_X2_unlabel_no (l : Launch) (D : kG) (H : Heap) (st : Nat) (la : Nat) (ea : Nat) (F : Fts) (S : Ls) (gap : Int) (ln : Nat) (hP_kState_st : kState D H st la ea gap S F) (hok : LsOK S gap) (hln9 : ln ≤ 1000) (hno : S.length ≤ ln ∨ ln_lb (st_ln S ln) = -1) : Met l yX2_unlabel (ws_ yX2_unlabel cX2_unlabel 3 (some .boolean)) ({ frames := 3, cells := 0, slots := 0, locals := 64 } : Room) (kPre D H [.ref st, .int (kI ((ln : Nat) : Int))]) (kQb (fun (r : Bool) H' => H' = H ∧ r = false) kNO) (0) (0) (kNO) := by
  refine Met.ofW (cc := cX2_unlabel) (maxL := 3) (ret := (some .boolean)) (by decide) rfl ?_
  intro p e s m args below meth c s₁ B hml hv
  obtain ⟨rfl, hH, hK⟩ := hv
  subst hH
  have hx := B.exec
  have hb := B.bytes
  have hr := B.returns
  have hts := atoms_spec (ws := ws_ yX2_unlabel cX2_unlabel 3 (some .boolean)) B.pre
  have hts : ∀ w ∈ lw_all, w.before _ s = true := fun w h => hts w (List.mem_cons_of_mem _ h)
  have hown : s.vm.findClass RX2 = some m.cls := findClass_of_methodNamed B.named
  have hlk := B.notSynchronized
  have hS : va_S kNO s.heap s.heap [] := va_S.rf
  have hB : ∀ q, kNO q → kBase D ≤ q := fun _ h => h.elim
  have hl := lv_entry ([.ref st, .int (kI ((ln : Nat) : Int))]) (n := 3) (Nat.le_of_ble_eq_true rfl)
  rw [lg_entry_eq]
  generalize (lg_sl ([.ref st, .int (kI ((ln : Nat) : Int))]) ++ List.replicate (3 - (lg_sl ([.ref st, .int (kI ((ln : Nat) : Int))])).length) Slot.unset).toArray = ls at hl ⊢
  have hl : lv_has ls 3 [(0, .ref st), (1, .int (kI ((ln : Nat) : Int)))] := hl
  have hL8 := hok.1
  have hd9 := hK.dis
  have hx9 : ¬ kBase D ≤ D.2.2.2 2 := hK.tE.out
  obtain ⟨⟨hO_st, mc, hO_la⟩, hLs9, hLn9, hF9, hDs9, hb1, hb2, hb3⟩ := id hP_kState_st
  refine lv_aload_n hx hb dX2_unlabel_0 rfl (lv_at hl 0 rfl) ?_
  refine lv_iload_n hx hb dX2_unlabel_1 rfl (lv_at hl 1 rfl) ?_
  refine kx_cb0 (va_runV (As := [.int (kI ((ln : Nat) : Int))]) (rest := []) ⟨hx, hb, hml, hown, hts⟩ (m_X2_has l D s.heap st la mc ea S.length gap ln hO_st hO_la (by first | assumption | omega) (by first | assumption | omega)) (cwV 1 hts (lw_V q1009 q1010 q1011 q80 q1012) rfl rfl rfl (by decide +kernel) ⟨Nat.le_of_ble_eq_true rfl, Nat.le_of_ble_eq_true rfl⟩) (kx_pv hK hS hB (kx_rc hK hO_st (C := RX2) (T := TX2) (N := 2) rfl)) rfl rfl hl.1 rfl (lv_room (Nat.le_of_ble_eq_true rfl)) dX2_unlabel_2 ⟨by first | exact Nat.le_of_ble_eq_true rfl | omega | (show _ ≤ _; omega) | (dsimp only [headSpec]; omega), by first | exact Nat.le_of_ble_eq_true rfl | omega | (show _ ≤ _; omega) | (dsimp only [headSpec]; omega)⟩) hS (fun z_4 locs_1 hz_3 hS_2 => ?_)
  subst z_4
  refine kx_ifz (tgt := 32) hx hb dX2_unlabel_5 (by decide) (fun c_5_5 => ?_) (fun c_5_5 => ?_)
  · -- taken at 5
    have c_5_5 := of_decide_eq_false c_5_5
    refine kx_iconst hx hb dX2_unlabel_32 ?_
    refine lv_istore_n (lv' := [(2, .int (kI (0))), (0, .ref st), (1, .int (kI ((ln : Nat) : Int)))]) hx hb dX2_unlabel_33 rfl hl (by decide) rfl (fun ls hl => ?_)
    refine lv_iload_n hx hb dX2_unlabel_34 rfl (lv_at hl 0 rfl) ?_
    refine kx_if_eq (x := 0) (tgt := 55) hx hb dX2_unlabel_35 (by decide) (by omega) (by omega) (fun c_35_6 => ?_) (fun c_35_6 => ?_)
    · -- taken at 35
      refine lv_iload_n hx hb dX2_unlabel_55 rfl (lv_at hl 0 rfl) ?_
      exact kx_zret (z := false) hx hb hr hlk (⟨rfl, by rfl⟩) hS_2 dX2_unlabel_56
    · -- not taken at 35
      exfalso; omega
  · -- not taken at 5
    have c_5_5 := of_decide_eq_true c_5_5
    have hln8 : ln < S.length := of_decide_eq_true (by assumption)
    refine lv_aload_n hx hb dX2_unlabel_8 rfl (lv_at hl 0 rfl) ?_
    refine kx_get (v := .ref la) (C := RX2) (T := TX2) (N := 2) hx hb hts in_X2 hown hK hO_st rfl 0 (by decide) q167 (fun _ h9 => h9) rfl dX2_unlabel_9 ?_
    refine lv_iload_n hx hb dX2_unlabel_12 rfl (lv_at hl 1 rfl) ?_
    refine kx_cFr0 (va_runF (C := RJ2) (As := [.int (kI ((ln : Nat) : Int))]) (rest := []) (hK.at (ci := 9) rfl) ⟨hx, hb, hml, hown, hts⟩ (m_get l D s.heap la mc ea S.length F ln hO_la hLs9 (by first | assumption | omega)) (va_cwF (x := ({ cls := "java/util/List", name := "get", desc := "(I)Ljava/lang/Object;" } : Jvm.MethodName)) 1 hts (lw_F q289 q292 q294 q83 q296) rfl rfl rfl (hK.fw (by decide)) (by decide +kernel) ⟨Nat.le_of_ble_eq_true rfl, Nat.le_of_ble_eq_true rfl⟩) (kx_pv hK hS_2 hB (kx_rc hK hO_la (C := RJ2) (T := TJ2) (N := 3) rfl)) rfl rfl hl.1 rfl (lv_room (Nat.le_of_ble_eq_true rfl)) dX2_unlabel_13 ⟨by first | exact Nat.le_of_ble_eq_true rfl | omega | (show _ ≤ _; omega) | (dsimp only [headSpec]; omega), by first | exact Nat.le_of_ble_eq_true rfl | omega | (show _ ≤ _; omega) | (dsimp only [headSpec]; omega)⟩) hS_2 (fun z_10 locs_7 hz_9 hS_8 => ?_)
    subst z_10
    obtain ⟨ea_11, gp_11, gs_11, ho_11, hp_11, hs_11, he_11, hm_11⟩ := (hLn9 ln (by omega))
    have hlbr9 := (hok.ln (by omega : ln < S.length)).lbr
    refine kx_castS hx hb hts hown q307 hK ho_11 rfl dX2_unlabel_18 ?_
    refine kx_get (v := .int (kI (ln_lb (st_ln S ln)))) (C := RX4) (T := TX4) (N := 6) hx hb hts in_X4 hown hK ho_11 rfl 5 (by decide) q349 (fun _ h9 => h9) rfl dX2_unlabel_21 ?_
    refine kx_iconst hx hb dX2_unlabel_24 ?_
    refine kx_icmp_eq (x := ln_lb (st_ln S ln)) (y := (-1)) (tgt := 32) hx hb dX2_unlabel_25 (by decide) (by omega) (by omega) (by omega) (by omega) (fun c_25_12 => ?_) (fun c_25_12 => ?_)
    · -- taken at 25
      refine kx_iconst hx hb dX2_unlabel_32 ?_
      refine lv_istore_n (lv' := [(2, .int (kI (0))), (0, .ref st), (1, .int (kI ((ln : Nat) : Int)))]) hx hb dX2_unlabel_33 rfl hl (by decide) rfl (fun ls hl => ?_)
      refine lv_iload_n hx hb dX2_unlabel_34 rfl (lv_at hl 0 rfl) ?_
      refine kx_if_eq (x := 0) (tgt := 55) hx hb dX2_unlabel_35 (by decide) (by omega) (by omega) (fun c_35_13 => ?_) (fun c_35_13 => ?_)
      · -- taken at 35
        refine lv_iload_n hx hb dX2_unlabel_55 rfl (lv_at hl 0 rfl) ?_
        exact kx_zret (z := false) hx hb hr hlk (⟨rfl, by rfl⟩) hS_8 dX2_unlabel_56
      · -- not taken at 35
        exfalso; omega
    · -- not taken at 25
      exfalso; rcases hno with z | z; (omega); (exact absurd z (by assumption))

set_option maxHeartbeats 4000000 in
set_option maxRecDepth 100000 in
theorem m_X2_wipe (l : Launch) (D : kG) (H : Heap) (st : Nat) (la : Nat) (ea : Nat) (F : Fts) (S : Ls) (gap : Int) (ln : Nat) (hP_kState_st : kState D H st la ea gap S F) (hok : LsOK S gap) (hln : ln < S.length) : Met l yX2_wipe (ws_ yX2_wipe cX2_wipe 3 (some .boolean)) ({ frames := 3, cells := 0, slots := 0, locals := 106 } : Room) (kPre D H [.ref st, .int (kI ((ln : Nat) : Int))]) (kQb (fun (r : Bool) H' => (r = true) ∧ (kState D H' st la ea gap ((S.eraseIdx ln)) ((F.eraseIdx ln)))) (fun q : Nat => q = la ∨ (q = ea ∧ kBase D ≤ ea))) (0) (0) ((fun q : Nat => q = la ∨ (q = ea ∧ kBase D ≤ ea))) := by
  refine Met.ofW (cc := cX2_wipe) (maxL := 3) (ret := (some .boolean)) (by decide) rfl ?_
  intro p e s m args below meth c s₁ B hml hv
  obtain ⟨rfl, hH, hK⟩ := hv
  subst hH
  have hx := B.exec
  have hb := B.bytes
  have hr := B.returns
  have hts := atoms_spec (ws := ws_ yX2_wipe cX2_wipe 3 (some .boolean)) B.pre
  have hts : ∀ w ∈ lw_all, w.before _ s = true := fun w h => hts w (List.mem_cons_of_mem _ h)
  have hown : s.vm.findClass RX2 = some m.cls := findClass_of_methodNamed B.named
  have hlk := B.notSynchronized
  have hS : va_S (fun q : Nat => q = la ∨ (q = ea ∧ kBase D ≤ ea)) s.heap s.heap [] := va_S.rf
  have hB : ∀ q, (fun q : Nat => q = la ∨ (q = ea ∧ kBase D ≤ ea)) q → kBase D ≤ q := fun q h => by (have h1 := hP_kState_st.2.2.2.2.2.2.1; omega)
  have hl := lv_entry ([.ref st, .int (kI ((ln : Nat) : Int))]) (n := 3) (Nat.le_of_ble_eq_true rfl)
  rw [lg_entry_eq]
  generalize (lg_sl ([.ref st, .int (kI ((ln : Nat) : Int))]) ++ List.replicate (3 - (lg_sl ([.ref st, .int (kI ((ln : Nat) : Int))])).length) Slot.unset).toArray = ls at hl ⊢
  have hl : lv_has ls 3 [(0, .ref st), (1, .int (kI ((ln : Nat) : Int)))] := hl
  have hL8 := hok.1
  have hd9 := hK.dis
  have hx9 : ¬ kBase D ≤ D.2.2.2 2 := hK.tE.out
  obtain ⟨⟨hO_st, mc, hO_la⟩, hLs9, hLn9, hF9, hDs9, hb1, hb2, hb3⟩ := id hP_kState_st
  refine lv_aload_n hx hb dX2_wipe_0 rfl (lv_at hl 0 rfl) ?_
  refine lv_iload_n hx hb dX2_wipe_1 rfl (lv_at hl 1 rfl) ?_
  refine kx_cb0 (va_runV (As := [.int (kI ((ln : Nat) : Int))]) (rest := []) ⟨hx, hb, hml, hown, hts⟩ (m_X2_has l D s.heap st la mc ea S.length gap ln hO_st hO_la (by first | assumption | omega) (by first | assumption | omega)) (cwV 1 hts (lw_V q1009 q1010 q1011 q80 q1012) rfl rfl rfl (by decide +kernel) ⟨Nat.le_of_ble_eq_true rfl, Nat.le_of_ble_eq_true rfl⟩) (kx_pv hK hS hB (kx_rc hK hO_st (C := RX2) (T := TX2) (N := 2) rfl)) rfl rfl hl.1 rfl (lv_room (Nat.le_of_ble_eq_true rfl)) dX2_wipe_2 ⟨by first | exact Nat.le_of_ble_eq_true rfl | omega | (show _ ≤ _; omega) | (dsimp only [headSpec]; omega), by first | exact Nat.le_of_ble_eq_true rfl | omega | (show _ ≤ _; omega) | (dsimp only [headSpec]; omega)⟩) hS (fun z_4 locs_1 hz_3 hS_2 => ?_)
  subst z_4
  refine lv_istore_n (lv' := [(2, .int (kI (kb (decide (ln < S.length))))), (0, .ref st), (1, .int (kI ((ln : Nat) : Int)))]) hx hb dX2_wipe_5 rfl hl (by decide) rfl (fun ls hl => ?_)
  refine lv_iload_n hx hb dX2_wipe_6 rfl (lv_at hl 0 rfl) ?_
  refine kx_ifz (tgt := 21) hx hb dX2_wipe_7 (by decide) (fun c_7_5 => ?_) (fun c_7_5 => ?_)
  · -- taken at 7
    have c_7_5 := of_decide_eq_false c_7_5
    exfalso; exact absurd hln (of_decide_eq_false (by assumption))
  · -- not taken at 7
    have c_7_5 := of_decide_eq_true c_7_5
    refine lv_aload_n hx hb dX2_wipe_10 rfl (lv_at hl 1 rfl) ?_
    refine kx_get (v := .ref la) (C := RX2) (T := TX2) (N := 2) hx hb hts in_X2 hown hK hO_st rfl 0 (by decide) q167 (fun _ h9 => h9) rfl dX2_wipe_11 ?_
    obtain ⟨hbe9, h109, gq, hAq9, hgv9⟩ : kBase D ≤ ea ∧ S.length ≤ 10 ∧ ∃ g, kAq D s.heap ea 4 10 g ∧ ∀ k, k < S.length → g k = some (fA F k) := by rcases hLs9 with z | z; (exact absurd z.1 (by omega)); exact z
    have ne_la_ea : la ≠ ea := kOA_ne hd9 hO_la hAq9 (by decide) (by decide)
    refine lv_iload_n hx hb dX2_wipe_14 rfl (lv_at hl 2 rfl) ?_
    refine kx_cFr (va_runF (C := RJ2) (As := [.int (kI ((ln : Nat) : Int))]) (rest := []) (hK.at (ci := 9) rfl) ⟨hx, hb, hml, hown, hts⟩ (m_J2_remove l D s.heap la mc ea S.length gq ln (fA F ln) hO_la hAq9 (by first | assumption | omega) (by first | assumption | omega) (by first | assumption | omega) (by first | assumption | omega) (by first | assumption | omega) ((hgv9 ln hln)) ((fun j hj y hy => by rw [hgv9 j hj] at hy; cases hy; obtain ⟨_, _, _, z1, _⟩ := hLn9 j hj; exact ⟨kO_ne hd9 z1 hO_la (by decide) (by decide) (by decide), kOA_ne hd9 z1 hAq9 (by decide) (by decide), _, z1⟩))) (va_cwF (x := ({ cls := "java/util/List", name := "remove", desc := "(I)Ljava/lang/Object;" } : Jvm.MethodName)) 1 hts (lw_F q1751 q1754 q1756 q83 q1758) rfl rfl rfl (hK.fw (by decide)) (by decide +kernel) ⟨Nat.le_of_ble_eq_true rfl, Nat.le_of_ble_eq_true rfl⟩) (kx_pv hK hS_2 hB (kx_rc hK hO_la (C := RJ2) (T := TJ2) (N := 3) rfl)) rfl rfl hl.1 rfl (lv_room (Nat.le_of_ble_eq_true rfl)) dX2_wipe_15 ⟨by first | exact Nat.le_of_ble_eq_true rfl | omega | (show _ ≤ _; omega) | (dsimp only [headSpec]; omega), by first | exact Nat.le_of_ble_eq_true rfl | omega | (show _ ≤ _; omega) | (dsimp only [headSpec]; omega)⟩) hS_2 (fun q _ h => by (try dsimp only at h); (try dsimp only); (try simp only [kNW] at h); (try simp only [kNW]); omega) (fun q h => by (try dsimp only at h); (try dsimp only); (try simp only [kNW] at h); (try simp only [kNW]); omega) (fun z_11 H_9 locs_6 hz_8 hF_10 hS_7 => ?_)
    have hzf_12 := hF_10.1
    refine W.widen (k := 0) (n := 0) (Nat.le_of_ble_eq_true rfl) (Nat.le_of_ble_eq_true rfl) ?_
    obtain ⟨g2_13, ho_14, ho_15, hg29⟩ := hz_8
    refine lv_pop hx hb dX2_wipe_20 rfl ?_
    have hSt_16 : kState D H_9 st la ea gap (S.eraseIdx ln) (F.eraseIdx ln) := hP_kState_st.erase hd9 hln hAq9 hgv9 (va_S.toFr hS_7) (fun x hx => by rcases hx with z | z; exact Or.inl z; exact Or.inr z.1) ho_14 ho_15 hg29 hbe9 h109
    refine lv_iload_n hx hb dX2_wipe_21 rfl (lv_at hl 0 rfl) ?_
    exact kx_zret (z := decide (ln < S.length)) hx hb hr hlk (⟨by simpa using hln, hSt_16⟩) hS_7 dX2_wipe_22

set_option maxHeartbeats 4000000 in
set_option maxRecDepth 100000 in
theorem m_X2_init (l : Launch) (D : kG) (H : Heap) (st : Nat) (hO_st : kO D H st 1 [.null, .int (kI (0))]) (bs_st : kBase D ≤ st) : Met l yX2_init (ws_ yX2_init cX2_init 1 none) ({ frames := 4, cells := 1, slots := 3, locals := 80 } : Room) (kPre D H [.ref st]) (kQv (fun H' => ∃ (la : Nat), (kO D H' st 1 [.ref la, .int (kI (2))]) ∧ (kO D H' la 9 [.int (kI (0)), .ref (D.2.2.2 2), .int (kI (0))]) ∧ (H.size ≤ la)) (fun q : Nat => q = st ∨ H.size ≤ q)) (1) (3) ((fun q : Nat => q = st ∨ H.size ≤ q)) := by
  refine Met.ofW (cc := cX2_init) (maxL := 1) (ret := none) (by decide) rfl ?_
  intro p e s m args below meth c s₁ B hml hv
  obtain ⟨rfl, hH, hK⟩ := hv
  subst hH
  have hx := B.exec
  have hb := B.bytes
  have hr := B.returns
  have hts := atoms_spec (ws := ws_ yX2_init cX2_init 1 none) B.pre
  have hts : ∀ w ∈ lw_all, w.before _ s = true := fun w h => hts w (List.mem_cons_of_mem _ h)
  have hown : s.vm.findClass RX2 = some m.cls := findClass_of_methodNamed B.named
  have hlk := B.notSynchronized
  have hin : meth.name = "<init>" := (name_of_methodNamed B.named B.method).1
  have hS : va_S (fun q : Nat => q = st ∨ s.heap.size ≤ q) s.heap s.heap [] := va_S.rf
  have hB : ∀ q, (fun q : Nat => q = st ∨ s.heap.size ≤ q) q → kBase D ≤ q := fun q h => by (try dsimp only at h); (try simp only [kNW] at h); have hks := hK.size; omega
  have hl := lv_entry ([.ref st]) (n := 1) (Nat.le_of_ble_eq_true rfl)
  rw [lg_entry_eq]
  generalize (lg_sl ([.ref st]) ++ List.replicate (1 - (lg_sl ([.ref st])).length) Slot.unset).toArray = ls at hl ⊢
  have hl : lv_has ls 1 [(0, .ref st)] := hl
  have hlt0 := hO_st.lt
  have hks9 := hK.size
  refine lv_aload_n hx hb dX2_init_0 rfl (lv_at hl 0 rfl) ?_
  refine W.objInit hx hb hown (hts _ q140) (hts _ q133) (hts _ q134) rfl (by rw [hml]; exact hl.1) rfl dX2_init_1 (Nat.le_of_ble_eq_true rfl) (Nat.le_of_ble_eq_true rfl) ?_
  refine W.eq (g2 := F0 m 4 ls []) rfl ?_
  refine lv_aload_n hx hb dX2_init_4 rfl (lv_at hl 0 rfl) ?_
  refine kx_new (ci := 9) (fs := [.int (kI (0)), .null, .int (kI (0))]) (C := RJ2) (T := TJ2) (N := 3) hx hb hts in_J2 hown hK tyJ2 tyJ2_ok q141 q142 q83 hS rfl (fun j hj => by rcases (show j = 0 ∨ j = 1 ∨ j = 2 by omega) with rfl | rfl | rfl <;> rfl) (by first | exact Nat.le_of_ble_eq_true rfl | omega | (show _ ≤ _; omega) | (dsimp only [headSpec]; omega)) (by first | exact Nat.le_of_ble_eq_true rfl | omega | (show _ ≤ _; omega) | (dsimp only [headSpec]; omega)) dX2_init_5 (fun nw_1 H_2 hq_3 hz_4 hO_5 hE_6 hS_7 => ?_)
  have hge_nw_1 : s.heap.size ≤ nw_1 := by rw [hq_3]; exact hS.1
  refine W.widen (k := 1) (n := 3) (Nat.le_of_ble_eq_true rfl) (Nat.le_of_ble_eq_true rfl) ?_
  refine lv_dup hx hb dX2_init_8 rfl ?_
  refine kx_cv (va_runI (As := []) (rest := [.ref nw_1, .ref st]) ⟨hx, hb, hml, hown, hts⟩ (m_J2_init l D H_2 nw_1 hO_5 (by first | assumption | omega)) (cwI 0 hts (lw_meth q145) rfl rfl rfl (hts _ q83) (hts _ q143) (hts _ q144) rfl (by decide +kernel) ⟨Nat.le_of_ble_eq_true rfl, Nat.le_of_ble_eq_true rfl⟩) (kx_ps hK hS_7 hB) rfl rfl hl.1 rfl (lv_room (Nat.le_of_ble_eq_true rfl)) dX2_init_9 ⟨by first | exact Nat.le_of_ble_eq_true rfl | omega | (show _ ≤ _; omega) | (dsimp only [headSpec]; omega), by first | exact Nat.le_of_ble_eq_true rfl | omega | (show _ ≤ _; omega) | (dsimp only [headSpec]; omega)⟩) hS_7 (fun q _ h => by (try dsimp only at h); (try dsimp only); (try simp only [kNW] at h); (try simp only [kNW]); omega) (fun q h => by (try dsimp only at h); (try dsimp only); (try simp only [kNW] at h); (try simp only [kNW]); omega) (fun H_11 locs_8 hz_10 hF_12 hS_9 => ?_)
  have hzf_14 := hF_12.1
  refine W.widen (k := 1) (n := 3) (Nat.le_of_ble_eq_true rfl) (Nat.le_of_ble_eq_true rfl) ?_
  have ho_15 := hz_10
  have h_16 := hO_st.ex hE_6
  have h_17 := h_16.fr hF_12 (fun h => by (try dsimp only at h); (try simp only [kNW] at h); omega)
  refine kx_putF (v := .ref nw_1) (C := RX2) (T := TX2) (N := 2) hx hb hts in_X2 hown hK h_17 rfl 0 (by decide) tyX2 tyX2_ok nmX2 hS_9 (by first | rfl | exact Or.inl rfl | exact Or.inr rfl | exact Or.inr (Or.inl rfl) | exact Or.inr (Or.inr rfl) | exact Or.inr (Or.inr (Or.inl rfl)) | exact Or.inr (Or.inr (Or.inr rfl)) | ((try dsimp only); (try simp only [kNW]); omega)) q167 (fun _ h9 => h9) rfl hin rfl rfl rfl rfl (Nat.le_of_ble_eq_true rfl) dX2_init_12 (fun H_20 locs_21 hO_19 hU_18 hS_22 => ?_)
  have hO_19 : kO D H_20 st 1 [.ref nw_1, .int (kI (0))] := hO_19
  have hzu_23 := hU_18.1
  refine lv_aload_n hx hb dX2_init_15 rfl (lv_at hl 0 rfl) ?_
  refine kx_iconst hx hb dX2_init_16 ?_
  refine kx_put (v := .int (kI (2))) (C := RX2) (T := TX2) (N := 2) hx hb hts in_X2 hown hK hO_19 rfl 1 (by decide) tyX2 tyX2_ok nmX2 hS_22 (by first | rfl | exact Or.inl rfl | exact Or.inr rfl | exact Or.inr (Or.inl rfl) | exact Or.inr (Or.inr rfl) | exact Or.inr (Or.inr (Or.inl rfl)) | exact Or.inr (Or.inr (Or.inr rfl)) | ((try dsimp only); (try simp only [kNW]); omega)) q170 (fun _ h9 => h9) rfl rfl rfl rfl (Nat.le_of_ble_eq_true rfl) dX2_init_17 (fun H_26 locs_27 hO_25 hU_24 hS_28 => ?_)
  have hO_25 : kO D H_26 st 1 [.ref nw_1, .int (kI (2))] := hO_25
  have hzu_29 := hU_24.1
  have h_30 := ho_15.up hU_18 (by first | assumption | exact Ne.symm (by assumption) | omega | (have h9 := ho_15.lt; omega))
  have h_31 := h_30.up hU_24 (by first | assumption | exact Ne.symm (by assumption) | omega | (have h9 := h_30.lt; omega))
  exact kx_vret hx hb hr hlk (⟨nw_1, hO_25, h_31, by first | assumption | rfl | omega | grind⟩) hS_28 dX2_init_20

