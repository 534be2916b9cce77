/-! MATH 45 -/
theorem st_whyNot_cl {S : Ls} {l : Nat} {d : Int} (h : st_whyNot S l d = 0) : ln_cl (st_ln S l) = false := by
  unfold st_whyNot at h
  split at h
  · omega
  · rename_i h1; simpa using h1
set_option maxHeartbeats 4000000 in
set_option maxRecDepth 100000 in
theorem m_X2_step (l : Launch) (D : kG) (H : Heap) (st : Nat) (la : Nat) (ea : Nat) (F : Fts) (S : Ls) (gap : Int) (ln : Nat) (d : Int) (hP_kState_st : kState D H st la ea gap S F) (hok : LsOK S gap) (hln : ln < S.length) (hd : 0 ≤ d ∧ d ≤ 7) (hwn : st_whyNot S ln d = 0) (hcs : ln_cl (w_step (st_ln S ln) d) = decide (nx (ln_end (st_ln S ln)) d = ln_bg (st_ln S ln) ∧ 3 ≤ ln_n (st_ln S ln))) : Met l yX2_step (ws_ yX2_step cX2_step 4 (some .boolean)) ({ frames := 8, cells := 7, slots := 14, locals := 3125 } : Room) (kPre D H [.ref st, .int (kI ((ln : Nat) : Int)), .int (kI (d))]) (kQb (fun (r : Bool) H' => (r = true) ∧ (kState D H' st la ea gap ((S.set ln (w_step (st_ln S ln) d))) F)) (fun q : Nat => q = fA F ln ∨ q = fP F ln ∨ q = fS F ln ∨ H.size ≤ q)) (7) (14) ((fun q : Nat => q = fA F ln ∨ q = fP F ln ∨ q = fS F ln ∨ H.size ≤ q)) := by
  refine Met.ofW (cc := cX2_step) (maxL := 4) (ret := (some .boolean)) (by decide) rfl ?_
  intro p e s m args below meth c s₁ B hml hv
  obtain ⟨rfl, hH, hK⟩ := hv
  subst hH
  have hx := B.exec
  have hb := B.bytes
  have hr := B.returns
  have hts := atoms_spec (ws := ws_ yX2_step cX2_step 4 (some .boolean)) B.pre
  have hts : ∀ w ∈ lw_all, w.before _ s = true := fun w h => hts w (List.mem_cons_of_mem _ h)
  have hown : s.vm.findClass RX2 = some m.cls := findClass_of_methodNamed B.named
  have hlk := B.notSynchronized
  have hS : va_S (fun q : Nat => q = fA F ln ∨ q = fP F ln ∨ q = fS F ln ∨ s.heap.size ≤ q) s.heap s.heap [] := va_S.rf
  have hB : ∀ q, (fun q : Nat => q = fA F ln ∨ q = fP F ln ∨ q = fS F ln ∨ s.heap.size ≤ q) q → kBase D ≤ q := fun q h => by (have h1 := hP_kState_st.2.2.2.2.2.2.2 ln hln; have h2 := hK.size; rcases h with h | h | h | h; (rw [h]; exact h1.1); (rw [h]; exact h1.2.1); (rw [h]; exact h1.2.2); omega)
  have hl := lv_entry ([.ref st, .int (kI ((ln : Nat) : Int)), .int (kI (d))]) (n := 4) (Nat.le_of_ble_eq_true rfl)
  rw [lg_entry_eq]
  generalize (lg_sl ([.ref st, .int (kI ((ln : Nat) : Int)), .int (kI (d))]) ++ List.replicate (4 - (lg_sl ([.ref st, .int (kI ((ln : Nat) : Int)), .int (kI (d))])).length) Slot.unset).toArray = ls at hl ⊢
  have hl : lv_has ls 4 [(0, .ref st), (1, .int (kI ((ln : Nat) : Int))), (2, .int (kI (d)))] := hl
  have hL8 := hok.1
  have hd9 := hK.dis
  have hx9 : ¬ kBase D ≤ D.2.2.2 2 := hK.tE.out
  obtain ⟨⟨hO_st, mc, hO_la⟩, hLs9, hLn9, hF9, hDs9, hb1, hb2, hb3⟩ := id hP_kState_st
  refine lv_aload_n hx hb dX2_step_0 rfl (lv_at hl 0 rfl) ?_
  refine lv_iload_n hx hb dX2_step_1 rfl (lv_at hl 1 rfl) ?_
  refine kx_cb0 (va_runV (As := [.int (kI ((ln : Nat) : Int))]) (rest := []) ⟨hx, hb, hml, hown, hts⟩ (m_X2_has l D s.heap st la mc ea S.length gap ln hO_st hO_la (by first | assumption | omega) (by first | assumption | omega)) (cwV 1 hts (lw_V q1009 q1010 q1011 q80 q1012) rfl rfl rfl (by decide +kernel) ⟨Nat.le_of_ble_eq_true rfl, Nat.le_of_ble_eq_true rfl⟩) (kx_pv hK hS hB (kx_rc hK hO_st (C := RX2) (T := TX2) (N := 2) rfl)) rfl rfl hl.1 rfl (lv_room (Nat.le_of_ble_eq_true rfl)) dX2_step_2 ⟨by first | exact Nat.le_of_ble_eq_true rfl | omega | (show _ ≤ _; omega) | (dsimp only [headSpec]; omega), by first | exact Nat.le_of_ble_eq_true rfl | omega | (show _ ≤ _; omega) | (dsimp only [headSpec]; omega)⟩) hS (fun z_4 locs_1 hz_3 hS_2 => ?_)
  subst z_4
  refine kx_ifz (tgt := 21) hx hb dX2_step_5 (by decide) (fun c_5_5 => ?_) (fun c_5_5 => ?_)
  · -- taken at 5
    have c_5_5 := of_decide_eq_false c_5_5
    exfalso; exact absurd hln (of_decide_eq_false (by assumption))
  · -- not taken at 5
    have c_5_5 := of_decide_eq_true c_5_5
    refine lv_aload_n hx hb dX2_step_8 rfl (lv_at hl 0 rfl) ?_
    refine lv_iload_n hx hb dX2_step_9 rfl (lv_at hl 1 rfl) ?_
    refine lv_iload_n hx hb dX2_step_10 rfl (lv_at hl 2 rfl) ?_
    refine kx_ci (va_runV (As := [.int (kI ((ln : Nat) : Int)), .int (kI (d))]) (rest := []) ⟨hx, hb, hml, hown, hts⟩ (m_X2_whyNotStepped l D s.heap st la mc ea F S gap ln d hO_st hO_la hLs9 hLn9 (by first | assumption | omega) (by first | assumption | omega) (by first | assumption | omega)) (cwV 2 hts (lw_V q1678 q1679 q1680 q80 q1681) rfl rfl rfl (by decide +kernel) ⟨Nat.le_of_ble_eq_true rfl, Nat.le_of_ble_eq_true rfl⟩) (kx_pv hK hS_2 hB (kx_rc hK hO_st (C := RX2) (T := TX2) (N := 2) rfl)) rfl rfl hl.1 rfl (lv_room (Nat.le_of_ble_eq_true rfl)) dX2_step_11 ⟨by first | exact Nat.le_of_ble_eq_true rfl | omega | (show _ ≤ _; omega) | (dsimp only [headSpec]; omega), by first | exact Nat.le_of_ble_eq_true rfl | omega | (show _ ≤ _; omega) | (dsimp only [headSpec]; omega)⟩) hS_2 (fun q _ h => by have h9 := hS_2.1; (try dsimp only at h); (try dsimp only); (try simp only [kNW] at h); (try simp only [kNW]); omega) (fun q h => by have h9 := hS_2.1; (try dsimp only at h); (try dsimp only); (try simp only [kNW] at h); (try simp only [kNW]); omega) (fun z_11 H_9 locs_6 hz_8 hF_10 hS_7 => ?_)
    have hzf_12 := hF_10.1
    have hF_10 := hF_10.nw
    refine W.widen (k := 6) (n := 14) (Nat.le_of_ble_eq_true rfl) (Nat.le_of_ble_eq_true rfl) ?_
    obtain ⟨hv_13, hnw_14⟩ := hz_8
    subst z_11
    refine kx_if_ne (x := st_whyNot S ln d) (tgt := 21) hx hb dX2_step_14 (by decide) (by omega) (by omega) (fun c_14_15 => ?_) (fun c_14_15 => ?_)
    · -- taken at 14
      exfalso; omega
    · -- not taken at 14
      refine kx_iconst hx hb dX2_step_17 ?_
      refine lv_goto (tgt := 22) hx hb dX2_step_18 (by decide) ?_
      refine lv_istore_n (lv' := [(3, .int (kI (1))), (0, .ref st), (1, .int (kI ((ln : Nat) : Int))), (2, .int (kI (d)))]) hx hb dX2_step_22 rfl hl (by decide) rfl (fun ls hl => ?_)
      refine lv_iload_n hx hb dX2_step_23 rfl (lv_at hl 0 rfl) ?_
      refine kx_if_eq (x := 1) (tgt := 44) hx hb dX2_step_24 (by decide) (by omega) (by omega) (fun c_24_16 => ?_) (fun c_24_16 => ?_)
      · -- taken at 24
        exfalso; omega
      · -- not taken at 24
        refine lv_aload_n hx hb dX2_step_27 rfl (lv_at hl 1 rfl) ?_
        have h_17 := hO_st.ex hF_10
        refine kx_get (v := .ref la) (C := RX2) (T := TX2) (N := 2) hx hb hts in_X2 hown hK h_17 rfl 0 (by decide) q167 (fun _ h9 => h9) rfl dX2_step_28 ?_
        refine lv_iload_n hx hb dX2_step_31 rfl (lv_at hl 2 rfl) ?_
        have h_18 := hO_la.ex hF_10
        have h_19 := hLs9.ex hF_10
        refine kx_cFr0 (va_runF (C := RJ2) (As := [.int (kI ((ln : Nat) : Int))]) (rest := []) (hK.at (ci := 9) rfl) ⟨hx, hb, hml, hown, hts⟩ (m_get l D H_9 la mc ea S.length F ln h_18 h_19 (by first | assumption | omega)) (va_cwF (x := ({ cls := "java/util/List", name := "get", desc := "(I)Ljava/lang/Object;" } : Jvm.MethodName)) 1 hts (lw_F q289 q292 q294 q83 q296) rfl rfl rfl (hK.fw (by decide)) (by decide +kernel) ⟨Nat.le_of_ble_eq_true rfl, Nat.le_of_ble_eq_true rfl⟩) (kx_pv hK hS_7 hB (kx_rc hK h_18 (C := RJ2) (T := TJ2) (N := 3) rfl)) rfl rfl hl.1 rfl (lv_room (Nat.le_of_ble_eq_true rfl)) dX2_step_32 ⟨by first | exact Nat.le_of_ble_eq_true rfl | omega | (show _ ≤ _; omega) | (dsimp only [headSpec]; omega), by first | exact Nat.le_of_ble_eq_true rfl | omega | (show _ ≤ _; omega) | (dsimp only [headSpec]; omega)⟩) hS_7 (fun z_23 locs_20 hz_22 hS_21 => ?_)
        subst z_23
        have hcl0 : ln_cl (st_ln S ln) = false := st_whyNot_cl hwn
        have h_24 := hLn9.ex hF_10
        obtain ⟨ea_25, gp_25, gs_25, ho_25, hp_25, hs_25, he_25, hm_25⟩ := (h_24 ln (hln)).open_ hcl0
        have hen_25 := ((h_24 ln (hln)).tyA.1).ne hd9 (b := false) he_25
        have hpn_25 := kOA_ne hd9 ho_25 hp_25 (by decide) (by decide)
        have hsn_25 := kOA_ne hd9 ho_25 hs_25 (by decide) (by decide)
        have hb3_25 := hb3 ln (hln)
        have nea9 := kOA_ne hd9 he_25 hp_25 (by decide) (by decide)
        have neb9 := kOA_ne hd9 he_25 hs_25 (by decide) (by decide)
        have nps9 := hDs9.2 ln ln hln hln
        have hw9 := st_whyNot_0 hwn
        have hn60 := (hok.ln hln).n
        refine kx_castS hx hb hts hown q307 hK ho_25 rfl dX2_step_37 ?_
        by_cases hcw9 : ln_cl (w_step (st_ln S ln) d) = true
        · -- hcw9 t
          refine lv_iload_n hx hb dX2_step_40 rfl (lv_at hl 3 rfl) ?_
          refine kx_cv (va_runV (As := [.int (kI (d))]) (rest := []) ⟨hx, hb, hml, hown, hts⟩ (m_step_c l D H_9 (fA F ln) (fP F ln) (fS F ln) ea_25 gp_25 gs_25 ((st_ln S ln)) d ho_25 hp_25 hs_25 (by first | assumption | omega) ((hok.ln hln)) (by first | assumption | omega) (by omega) hw9.2 hcs (by first | assumption | omega) (by first | assumption | omega) (by first | assumption | omega) (by first | assumption | omega) (by first | assumption | omega) (by first | assumption | omega) hcw9) (cwV 1 hts (lw_V q1727 q1728 q1729 q99 q1730) rfl rfl rfl (by decide +kernel) ⟨Nat.le_of_ble_eq_true rfl, Nat.le_of_ble_eq_true rfl⟩) (kx_pv hK hS_21 hB (kx_rc hK ho_25 (C := RX4) (T := TX4) (N := 6) rfl)) rfl rfl hl.1 rfl (lv_room (Nat.le_of_ble_eq_true rfl)) dX2_step_41 ⟨by first | exact Nat.le_of_ble_eq_true rfl | omega | (show _ ≤ _; omega) | (dsimp only [headSpec]; omega), by first | exact Nat.le_of_ble_eq_true rfl | omega | (show _ ≤ _; omega) | (dsimp only [headSpec]; omega)⟩) hS_21 (fun q _ h => by have h9 := hS_21.1; (try dsimp only at h); (try dsimp only); (try simp only [kNW] at h); (try simp only [kNW]); omega) (fun q h => by have h9 := hS_21.1; (try dsimp only at h); (try dsimp only); (try simp only [kNW] at h); (try simp only [kNW]); omega) (fun H_29 locs_26 hz_28 hF_30 hS_27 => ?_)
          have hzf_32 := hF_30.1
          refine W.widen (k := 7) (n := 14) (Nat.le_of_ble_eq_true rfl) (Nat.le_of_ble_eq_true rfl) ?_
          obtain ⟨gp2_33, gs2_34, ea2_35, ho_36, ho_37, ho_38, ho_39, hM29, hnew_40⟩ := hz_28
          have hSt9 : kState D H_29 st la ea gap (S.set ln (w_step (st_ln S ln) d)) F := hP_kState_st.line hd9 hln (va_S.toFr hS_27) (fun x hx => by rcases hx with z | z | z | z; exact Or.inr (Or.inl z); exact Or.inr (Or.inr (Or.inl z)); exact Or.inr (Or.inr (Or.inr z)); exact Or.inl z) (LnAt.stepC ho_36 ho_37 ho_38 ho_39 hcw9 hM29)
          refine lv_iload_n hx hb dX2_step_44 rfl (lv_at hl 0 rfl) ?_
          exact kx_zret (z := true) hx hb hr hlk (⟨by rfl, hSt9⟩) hS_27 dX2_step_45
        · -- hcw9 f
          have hcw9 : ln_cl (w_step (st_ln S ln) d) = false := by simpa using hcw9
          refine lv_iload_n hx hb dX2_step_40 rfl (lv_at hl 3 rfl) ?_
          refine kx_cv (va_runV (As := [.int (kI (d))]) (rest := []) ⟨hx, hb, hml, hown, hts⟩ (m_step_o l D H_9 (fA F ln) (fP F ln) (fS F ln) ea_25 gp_25 gs_25 ((st_ln S ln)) d ho_25 hp_25 hs_25 (by first | assumption | omega) ((hok.ln hln)) (by first | assumption | omega) (by omega) hw9.2 hcs (by first | assumption | omega) (by first | assumption | omega) (by first | assumption | omega) (by first | assumption | omega) (by first | assumption | omega) (by first | assumption | omega) hcw9) (cwV 1 hts (lw_V q1727 q1728 q1729 q99 q1730) rfl rfl rfl (by decide +kernel) ⟨Nat.le_of_ble_eq_true rfl, Nat.le_of_ble_eq_true rfl⟩) (kx_pv hK hS_21 hB (kx_rc hK ho_25 (C := RX4) (T := TX4) (N := 6) rfl)) rfl rfl hl.1 rfl (lv_room (Nat.le_of_ble_eq_true rfl)) dX2_step_41 ⟨by first | exact Nat.le_of_ble_eq_true rfl | omega | (show _ ≤ _; omega) | (dsimp only [headSpec]; omega), by first | exact Nat.le_of_ble_eq_true rfl | omega | (show _ ≤ _; omega) | (dsimp only [headSpec]; omega)⟩) hS_21 (fun q _ h => by have h9 := hS_21.1; (try dsimp only at h); (try dsimp only); (try simp only [kNW] at h); (try simp only [kNW]); omega) (fun q h => by have h9 := hS_21.1; (try dsimp only at h); (try dsimp only); (try simp only [kNW] at h); (try simp only [kNW]); omega) (fun H_44 locs_41 hz_43 hF_45 hS_42 => ?_)
          have hzf_47 := hF_45.1
          refine W.widen (k := 6) (n := 14) (Nat.le_of_ble_eq_true rfl) (Nat.le_of_ble_eq_true rfl) ?_
          obtain ⟨gp2_48, gs2_49, ho_50, ho_51, ho_52, hM29⟩ := hz_43
          have h_53 := he_25.fr hF_45 (fun h => by (try dsimp only at h); (try simp only [kNW] at h); omega)
          have hSt9 : kState D H_44 st la ea gap (S.set ln (w_step (st_ln S ln) d)) F := hP_kState_st.line hd9 hln (va_S.toFr hS_42) (fun x hx => by rcases hx with z | z | z | z; exact Or.inr (Or.inl z); exact Or.inr (Or.inr (Or.inl z)); exact Or.inr (Or.inr (Or.inr z)); exact Or.inl z) (LnAt.stepO ho_50 ho_51 ho_52 h_53 hcw9 hM29)
          refine lv_iload_n hx hb dX2_step_44 rfl (lv_at hl 0 rfl) ?_
          refine W.widen (k := 7) (n := 14) (by omega) (by omega) ?_
          exact kx_zret (z := true) hx hb hr hlk (⟨by rfl, hSt9⟩) hS_42 dX2_step_45

set_option maxHeartbeats 4000000 in
set_option maxRecDepth 100000 in
theorem m_X2_step_no (l : Launch) (D : kG) (H : Heap) (st : Nat) (la : Nat) (mc : Int) (ea : Nat) (F : Fts) (S : Ls) (gap : Int) (ln : Nat) (d : Int) (hO_st : kO D H st 1 [.ref la, .int (kI (gap))]) (hO_la : kO D H la 9 [.int (kI (mc)), .ref ea, .int (kI ((S.length : Nat) : Int))]) (hP_kLs_ea : kLs D H ea S.length F) (hP_kLn_F : kLn D H F S) (hok : LsOK S gap) (hln9 : ln ≤ 1000) (hd : 0 ≤ d ∧ d ≤ 7) (hno : S.length ≤ ln ∨ st_whyNot S ln d ≠ 0) : Met l yX2_step (ws_ yX2_step cX2_step 4 (some .boolean)) ({ frames := 8, cells := 6, slots := 14, locals := 3125 } : Room) (kPre D H [.ref st, .int (kI ((ln : Nat) : Int)), .int (kI (d))]) (kQb (fun (r : Bool) H' => (r = false) ∧ (True)) (kNW H)) (6) (14) ((kNW H)) := by
  refine Met.ofW (cc := cX2_step) (maxL := 4) (ret := (some .boolean)) (by decide) rfl ?_
  intro p e s m args below meth c s₁ B hml hv
  obtain ⟨rfl, hH, hK⟩ := hv
  subst hH
  have hx := B.exec
  have hb := B.bytes
  have hr := B.returns
  have hts := atoms_spec (ws := ws_ yX2_step cX2_step 4 (some .boolean)) B.pre
  have hts : ∀ w ∈ lw_all, w.before _ s = true := fun w h => hts w (List.mem_cons_of_mem _ h)
  have hown : s.vm.findClass RX2 = some m.cls := findClass_of_methodNamed B.named
  have hlk := B.notSynchronized
  have hS : va_S (kNW s.heap) s.heap s.heap [] := va_S.rf
  have hB : ∀ q, (kNW s.heap) q → kBase D ≤ q := fun q h => Nat.le_trans hK.size h
  have hl := lv_entry ([.ref st, .int (kI ((ln : Nat) : Int)), .int (kI (d))]) (n := 4) (Nat.le_of_ble_eq_true rfl)
  rw [lg_entry_eq]
  generalize (lg_sl ([.ref st, .int (kI ((ln : Nat) : Int)), .int (kI (d))]) ++ List.replicate (4 - (lg_sl ([.ref st, .int (kI ((ln : Nat) : Int)), .int (kI (d))])).length) Slot.unset).toArray = ls at hl ⊢
  have hl : lv_has ls 4 [(0, .ref st), (1, .int (kI ((ln : Nat) : Int))), (2, .int (kI (d)))] := hl
  have hL8 := hok.1
  refine lv_aload_n hx hb dX2_step_0 rfl (lv_at hl 0 rfl) ?_
  refine lv_iload_n hx hb dX2_step_1 rfl (lv_at hl 1 rfl) ?_
  refine kx_cb0 (va_runV (As := [.int (kI ((ln : Nat) : Int))]) (rest := []) ⟨hx, hb, hml, hown, hts⟩ (m_X2_has l D s.heap st la mc ea S.length gap ln hO_st hO_la (by first | assumption | omega) (by first | assumption | omega)) (cwV 1 hts (lw_V q1009 q1010 q1011 q80 q1012) rfl rfl rfl (by decide +kernel) ⟨Nat.le_of_ble_eq_true rfl, Nat.le_of_ble_eq_true rfl⟩) (kx_pv hK hS hB (kx_rc hK hO_st (C := RX2) (T := TX2) (N := 2) rfl)) rfl rfl hl.1 rfl (lv_room (Nat.le_of_ble_eq_true rfl)) dX2_step_2 ⟨by first | exact Nat.le_of_ble_eq_true rfl | omega | (show _ ≤ _; omega) | (dsimp only [headSpec]; omega), by first | exact Nat.le_of_ble_eq_true rfl | omega | (show _ ≤ _; omega) | (dsimp only [headSpec]; omega)⟩) hS (fun z_4 locs_1 hz_3 hS_2 => ?_)
  subst z_4
  refine kx_ifz (tgt := 21) hx hb dX2_step_5 (by decide) (fun c_5_5 => ?_) (fun c_5_5 => ?_)
  · -- taken at 5
    have c_5_5 := of_decide_eq_false c_5_5
    refine kx_iconst hx hb dX2_step_21 ?_
    refine lv_istore_n (lv' := [(3, .int (kI (0))), (0, .ref st), (1, .int (kI ((ln : Nat) : Int))), (2, .int (kI (d)))]) hx hb dX2_step_22 rfl hl (by decide) rfl (fun ls hl => ?_)
    refine lv_iload_n hx hb dX2_step_23 rfl (lv_at hl 0 rfl) ?_
    refine kx_if_eq (x := 0) (tgt := 44) hx hb dX2_step_24 (by decide) (by omega) (by omega) (fun c_24_6 => ?_) (fun c_24_6 => ?_)
    · -- taken at 24
      refine lv_iload_n hx hb dX2_step_44 rfl (lv_at hl 0 rfl) ?_
      refine W.widen (k := 6) (n := 14) (by omega) (by omega) ?_
      exact kx_zret (z := false) hx hb hr hlk (⟨by rfl, by first | assumption | rfl | omega | grind⟩) hS_2 dX2_step_45
    · -- not taken at 24
      exfalso; omega
  · -- not taken at 5
    have c_5_5 := of_decide_eq_true c_5_5
    have hln : ln < S.length := of_decide_eq_true (by assumption)
    refine lv_aload_n hx hb dX2_step_8 rfl (lv_at hl 0 rfl) ?_
    refine lv_iload_n hx hb dX2_step_9 rfl (lv_at hl 1 rfl) ?_
    refine lv_iload_n hx hb dX2_step_10 rfl (lv_at hl 2 rfl) ?_
    refine kx_ci (va_runV (As := [.int (kI ((ln : Nat) : Int)), .int (kI (d))]) (rest := []) ⟨hx, hb, hml, hown, hts⟩ (m_X2_whyNotStepped l D s.heap st la mc ea F S gap ln d hO_st hO_la hP_kLs_ea hP_kLn_F (by first | assumption | omega) (by first | assumption | omega) (by first | assumption | omega)) (cwV 2 hts (lw_V q1678 q1679 q1680 q80 q1681) rfl rfl rfl (by decide +kernel) ⟨Nat.le_of_ble_eq_true rfl, Nat.le_of_ble_eq_true rfl⟩) (kx_pv hK hS_2 hB (kx_rc hK hO_st (C := RX2) (T := TX2) (N := 2) rfl)) rfl rfl hl.1 rfl (lv_room (Nat.le_of_ble_eq_true rfl)) dX2_step_11 ⟨by first | exact Nat.le_of_ble_eq_true rfl | omega | (show _ ≤ _; omega) | (dsimp only [headSpec]; omega), by first | exact Nat.le_of_ble_eq_true rfl | omega | (show _ ≤ _; omega) | (dsimp only [headSpec]; omega)⟩) hS_2 (fun q _ h => Nat.le_trans hS_2.1 h) (fun q h => Nat.le_trans hS_2.1 h) (fun z_12 H_10 locs_7 hz_9 hF_11 hS_8 => ?_)
    have hzf_13 := hF_11.1
    have hF_11 := hF_11.nw
    refine W.widen (k := 6) (n := 14) (Nat.le_of_ble_eq_true rfl) (Nat.le_of_ble_eq_true rfl) ?_
    obtain ⟨hv_14, hnw_15⟩ := hz_9
    subst z_12
    refine kx_if_ne (x := st_whyNot S ln d) (tgt := 21) hx hb dX2_step_14 (by decide) (by have := st_whyNot_rng S ln d; omega) (by have := st_whyNot_rng S ln d; omega) (fun c_14_16 => ?_) (fun c_14_16 => ?_)
    · -- taken at 14
      refine kx_iconst hx hb dX2_step_21 ?_
      refine lv_istore_n (lv' := [(3, .int (kI (0))), (0, .ref st), (1, .int (kI ((ln : Nat) : Int))), (2, .int (kI (d)))]) hx hb dX2_step_22 rfl hl (by decide) rfl (fun ls hl => ?_)
      refine lv_iload_n hx hb dX2_step_23 rfl (lv_at hl 0 rfl) ?_
      refine kx_if_eq (x := 0) (tgt := 44) hx hb dX2_step_24 (by decide) (by omega) (by omega) (fun c_24_17 => ?_) (fun c_24_17 => ?_)
      · -- taken at 24
        refine lv_iload_n hx hb dX2_step_44 rfl (lv_at hl 0 rfl) ?_
        exact kx_zret (z := false) hx hb hr hlk (⟨by rfl, by first | assumption | rfl | omega | grind⟩) hS_8 dX2_step_45
      · -- not taken at 24
        exfalso; omega
    · -- not taken at 14
      exfalso; rcases hno with z | z <;> omega

