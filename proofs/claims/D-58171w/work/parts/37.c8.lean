/-! MATH 24 -/
theorem kUp.fr {H H1 : Heap} {a : Nat} (h : kUp H a H1) : kFr (fun q => q = a) H H1 := ⟨Nat.le_of_eq h.1.symm, fun q _ hn => h.2 q hn⟩
set_option maxHeartbeats 4000000 in
set_option maxRecDepth 100000 in
theorem m_X2_copy (l : Launch) (D : kG) (H : Heap) (st : Nat) (la : Nat) (ea : Nat) (F : Fts) (S : Ls) (gap : Int) (hP_kState_st : kState D H st la ea gap S F) (hok : LsOK S gap) : Met l yX2_copy (ws_ yX2_copy cX2_copy 3 (some (.object "ContourLabels$State"))) ({ frames := 5, cells := 42, slots := 1101, locals := 117 } : Room) (kPre D H [.ref st]) (kQr (fun (r : Nat) H' => ∃ (la2 : Nat) (ea2 : Nat) (F2 : Fts), (kState D H' r la2 ea2 gap S F2) ∧ (∀ q, kOwn D r la2 ea2 F2 S.length q → H.size ≤ q)) (kNW H)) (42) (1101) ((kNW H)) := by
  refine Met.ofW (cc := cX2_copy) (maxL := 3) (ret := (some (.object "ContourLabels$State"))) (by decide) rfl ?_
  intro p e s m args below meth c s₁ B hml hv
  obtain ⟨rfl, hH, hK⟩ := hv
  subst hH
  have hx := B.exec
  have hb := B.bytes
  have hr := B.returns
  have hts := atoms_spec (ws := ws_ yX2_copy cX2_copy 3 (some (.object "ContourLabels$State"))) B.pre
  have hts : ∀ w ∈ lw_all, w.before _ s = true := fun w h => hts w (List.mem_cons_of_mem _ h)
  have hown : s.vm.findClass RX2 = some m.cls := findClass_of_methodNamed B.named
  have hlk := B.notSynchronized
  have hS : va_S (kNW s.heap) s.heap s.heap [] := va_S.rf
  have hB : ∀ q, (kNW s.heap) q → kBase D ≤ q := fun q h => Nat.le_trans hK.size h
  have hl := lv_entry ([.ref st]) (n := 3) (Nat.le_of_ble_eq_true rfl)
  rw [lg_entry_eq]
  generalize (lg_sl ([.ref st]) ++ List.replicate (3 - (lg_sl ([.ref st])).length) Slot.unset).toArray = ls at hl ⊢
  have hl : lv_has ls 3 [(0, .ref st)] := hl
  have hL8 := hok.1
  have hks9 := hK.size
  have hgr9 := hok.2.1
  have hd9 := hK.dis
  have hx9 : ¬ kBase D ≤ D.2.2.2 2 := hK.tE.out
  obtain ⟨⟨hO_st, mc, hO_la⟩, hLs9, hLn9, hF9, hDs9, hb1, hb2, hb3⟩ := id hP_kState_st
  refine kx_new (ci := 1) (fs := [.null, .int (kI (0))]) (C := RX2) (T := TX2) (N := 2) hx hb hts in_X2 hown hK tyX2 tyX2_ok q276 q136 q80 hS rfl (fun j hj => by rcases (show j = 0 ∨ j = 1 by omega) with rfl | rfl <;> rfl) (by first | exact Nat.le_of_ble_eq_true rfl | omega | (show _ ≤ _; omega) | (dsimp only [headSpec]; omega)) (by first | exact Nat.le_of_ble_eq_true rfl | omega | (show _ ≤ _; omega) | (dsimp only [headSpec]; omega)) dX2_copy_0 (fun nst H_1 hq_2 hz_3 hO_4 hE_5 hS_6 => ?_)
  have hge_nst : s.heap.size ≤ nst := by rw [hq_2]; exact hS.1
  refine W.widen (k := 1) (n := 2) (Nat.le_of_ble_eq_true rfl) (Nat.le_of_ble_eq_true rfl) ?_
  refine lv_dup hx hb dX2_copy_3 rfl ?_
  refine kx_cv (va_runI (As := []) (rest := [.ref nst]) ⟨hx, hb, hml, hown, hts⟩ (m_X2_init l D H_1 nst hO_4 (by first | assumption | omega)) (cwI 0 hts (lw_meth q139) rfl rfl rfl (hts _ q80) (hts _ q277) (hts _ q138) rfl (by decide +kernel) ⟨Nat.le_of_ble_eq_true rfl, Nat.le_of_ble_eq_true rfl⟩) (kx_ps hK hS_6 hB) rfl rfl hl.1 rfl (lv_room (Nat.le_of_ble_eq_true rfl)) dX2_copy_4 ⟨by first | exact Nat.le_of_ble_eq_true rfl | omega | (show _ ≤ _; omega) | (dsimp only [headSpec]; omega), by first | exact Nat.le_of_ble_eq_true rfl | omega | (show _ ≤ _; omega) | (dsimp only [headSpec]; omega)⟩) hS_6 (fun q _ h => by (try dsimp only at h); (try dsimp only); (try simp only [kNW] at h); (try simp only [kNW]); omega) (fun q h => by (try dsimp only at h); (try dsimp only); (try simp only [kNW] at h); (try simp only [kNW]); omega) (fun H_10 locs_7 hz_9 hF_11 hS_8 => ?_)
  have hzf_13 := hF_11.1
  refine W.widen (k := 2) (n := 5) (Nat.le_of_ble_eq_true rfl) (Nat.le_of_ble_eq_true rfl) ?_
  obtain ⟨la2, ho_15, ho_16, hnl9⟩ := hz_9
  refine lv_astore_n (lv' := [(1, .ref nst), (0, .ref st)]) hx hb dX2_copy_7 rfl hl (by decide) rfl (fun ls hl => ?_)
  have hSt0 : kState D H_10 nst la2 (D.2.2.2 2) 2 (S.take 0) [] := kState.new ho_15 ho_16 (by omega) (by omega)
  refine kx_iconst hx hb dX2_copy_8 ?_
  refine lv_istore_n (lv' := [(2, .int (kI (0))), (1, .ref nst), (0, .ref st)]) hx hb dX2_copy_9 rfl hl (by decide) rfl (fun ls hl => ?_)
  have lp_10_x_17 : ∀ (n_10 : Nat) (k : Nat) (ea2 : Nat) (F2 : Fts) (H : Heap) (hP_kState_nst : kState D H nst la2 ea2 2 ((S.take k)) F2) (hk : k ≤ S.length) (hOwn9 : ∀ q, kOwn D nst la2 ea2 F2 k q → s.heap.size ≤ q) (locs : List Loc) (hS : va_S (kNW s.heap) s.heap H locs) (hm_10 : S.length - k < n_10) (ls : Array Slot), lv_has ls 3 [(0, .ref st), (1, .ref nst), (2, .int (kI ((k : Nat) : Int)))] → W p l e (headSpec (ws_ yX2_copy cX2_copy 3 (some (.object "ContourLabels$State"))) ({ frames := 5, cells := 42, slots := 1101, locals := 117 } : Room)).room s m ([.ref st] : List Value).toArray below meth c H locs (2 + 5 * k) (5 + 137 * k) (MQ below (kQr (fun (r : Nat) H' => ∃ (la2 : Nat) (ea2 : Nat) (F2 : Fts), (kState D H' r la2 ea2 gap S F2) ∧ (∀ q, kOwn D r la2 ea2 F2 S.length q → s.heap.size ≤ q)) (kNW s.heap)) ([.ref st] : List Value).toArray s (42) (1101) ((kNW s.heap))) (F0 m 10 ls []) := by
    intro n_10
    induction n_10 with
    | zero => intro k ea2 F2 H hP_kState_nst hk hOwn9 locs hS hm_10; exact absurd hm_10 (Nat.not_lt_zero _)
    | succ n_10 ih_10 =>
      intro k ea2 F2 H hP_kState_nst hk hOwn9 locs hS hm_10 ls hl
      have hEx9 : kEx s.heap H := va_S.ex hS
      have hkH9 : kBase D ≤ H.size := Nat.le_trans hK.size hEx9.1
      have hO_stH := hO_st.ex hEx9
      have hO_laH := hO_la.ex hEx9
      have hLs9H := hLs9.ex hEx9
      have hLn9H := hLn9.ex hEx9
      have hd9n := hK.dis
      have hx9n : ¬ kBase D ≤ D.2.2.2 2 := hK.tE.out
      obtain ⟨⟨hO_stn, mcn, hO_lan⟩, hLs9n, hLn9n, hF9n, hDs9n, hb1n, hb2n, hb3n⟩ := id hP_kState_nst
      have hlen9 : (S.take k).length = k := by rw [List.length_take]; omega
      have hlt_e2 : ea2 < H.size := by rcases hLs9n with ⟨_, z⟩ | ⟨_, _, g, z, _⟩; (have : ¬ kBase D ≤ D.2.2.2 2 := hx9; omega); exact z.lt
      have hge_l2 : s.heap.size ≤ la2 := hOwn9 la2 (Or.inr (Or.inl rfl))
      have hge_e2 : kBase D ≤ ea2 → s.heap.size ≤ ea2 := fun z => hOwn9 ea2 (Or.inr (Or.inr (Or.inl ⟨rfl, z⟩)))
      have hlt_l2 := hO_lan.lt
      have hlt_n2 := hO_stn.lt
      refine lv_iload_n hx hb dX2_copy_10 rfl (lv_at hl 2 rfl) ?_
      refine lv_aload_n hx hb dX2_copy_11 rfl (lv_at hl 0 rfl) ?_
      refine kx_get (v := .ref la) (C := RX2) (T := TX2) (N := 2) hx hb hts in_X2 hown hK hO_stH rfl 0 (by decide) q167 (fun _ h9 => h9) rfl dX2_copy_12 ?_
      refine kx_cFi0 (va_runF (C := RJ2) (As := []) (rest := [.int (kI ((k : Nat) : Int))]) (hK.at (ci := 9) rfl) ⟨hx, hb, hml, hown, hts⟩ (m_J2_size l D H la mc ea S.length hO_laH ) (va_cwF (x := ({ cls := "java/util/List", name := "size", desc := "()I" } : Jvm.MethodName)) 0 hts (lw_F q279 q283 q285 q83 q287) rfl rfl rfl (hK.fw (by decide)) (by decide +kernel) ⟨Nat.le_of_ble_eq_true rfl, Nat.le_of_ble_eq_true rfl⟩) (kx_pv hK hS hB (kx_rc hK hO_laH (C := RJ2) (T := TJ2) (N := 3) rfl)) rfl rfl hl.1 rfl (lv_room (Nat.le_of_ble_eq_true rfl)) dX2_copy_15 ⟨by first | exact Nat.le_of_ble_eq_true rfl | omega | (show _ ≤ _; omega) | (dsimp only [headSpec]; omega), by first | exact Nat.le_of_ble_eq_true rfl | omega | (show _ ≤ _; omega) | (dsimp only [headSpec]; omega)⟩) hS (fun z_21 locs_18 hz_20 hS_19 => ?_)
      subst z_21
      refine kx_icmp_ge (x := ((k : Nat) : Int)) (y := ((S.length : Nat) : Int)) (tgt := 55) hx hb dX2_copy_20 (by decide) (by omega) (by omega) (by omega) (by omega) (fun c_20_22 => ?_) (fun c_20_22 => ?_)
      · -- taken at 20
        refine lv_aload_n hx hb dX2_copy_55 rfl (lv_at hl 1 rfl) ?_
        refine lv_aload_n hx hb dX2_copy_56 rfl (lv_at hl 0 rfl) ?_
        refine kx_get (v := .int (kI (gap))) (C := RX2) (T := TX2) (N := 2) hx hb hts in_X2 hown hK hO_stH rfl 1 (by decide) q170 (fun _ h9 => h9) rfl dX2_copy_57 ?_
        refine kx_put (v := .int (kI (gap))) (C := RX2) (T := TX2) (N := 2) hx hb hts in_X2 hown hK hO_stn rfl 1 (by decide) tyX2 tyX2_ok nmX2 hS_19 (by first | rfl | exact Or.inl rfl | exact Or.inr rfl | exact Or.inr (Or.inl rfl) | exact Or.inr (Or.inr rfl) | exact Or.inr (Or.inr (Or.inl rfl)) | exact Or.inr (Or.inr (Or.inr rfl)) | ((try dsimp only); (try simp only [kNW]); omega)) q170 (fun _ h9 => h9) rfl rfl rfl rfl (Nat.le_of_ble_eq_true rfl) dX2_copy_60 (fun H_25 locs_26 hO_24 hU_23 hS_27 => ?_)
        have hO_24 : kO D H_25 nst 1 [.ref la2, .int (kI (gap))] := hO_24
        have hzu_28 := hU_23.1
        have hek9 : k = S.length := by omega
        have heS9 : S.take k = S := List.take_of_length_le (by omega)
        have hStF : kState D H_25 nst la2 ea2 gap S F2 := by have h9 := hP_kState_nst.gap hd9 (kUp.fr hU_23) (fun x hx => hx) hO_24; rw [heS9] at h9; exact h9
        refine lv_aload_n hx hb dX2_copy_63 rfl (lv_at hl 1 rfl) ?_
        refine W.widen (k := 42) (n := 1101) (by omega) (by omega) ?_
        exact kx_aret (z := nst) hx hb hr (by first | exact Or.inl ⟨_, rfl⟩ | exact Or.inr ⟨_, rfl⟩) hlk (⟨la2, ea2, F2, hStF, by intro q h; exact hOwn9 q (by rw [hek9]; exact h)⟩) hS_27 dX2_copy_64
      · -- not taken at 20
        refine lv_aload_n hx hb dX2_copy_23 rfl (lv_at hl 1 rfl) ?_
        refine kx_get (v := .ref la2) (C := RX2) (T := TX2) (N := 2) hx hb hts in_X2 hown hK hO_stn rfl 0 (by decide) q167 (fun _ h9 => h9) rfl dX2_copy_24 ?_
        refine lv_aload_n hx hb dX2_copy_27 rfl (lv_at hl 0 rfl) ?_
        refine kx_get (v := .ref la) (C := RX2) (T := TX2) (N := 2) hx hb hts in_X2 hown hK hO_stH rfl 0 (by decide) q167 (fun _ h9 => h9) rfl dX2_copy_28 ?_
        refine lv_iload_n hx hb dX2_copy_31 rfl (lv_at hl 2 rfl) ?_
        refine kx_cFr0 (va_runF (C := RJ2) (As := [.int (kI ((k : Nat) : Int))]) (rest := [.ref la2]) (hK.at (ci := 9) rfl) ⟨hx, hb, hml, hown, hts⟩ (m_get l D H la mc ea S.length F k hO_laH hLs9H (by first | assumption | omega)) (va_cwF (x := ({ cls := "java/util/List", name := "get", desc := "(I)Ljava/lang/Object;" } : Jvm.MethodName)) 1 hts (lw_F q289 q292 q294 q83 q296) rfl rfl rfl (hK.fw (by decide)) (by decide +kernel) ⟨Nat.le_of_ble_eq_true rfl, Nat.le_of_ble_eq_true rfl⟩) (kx_pv hK hS_19 hB (kx_rc hK hO_laH (C := RJ2) (T := TJ2) (N := 3) rfl)) rfl rfl hl.1 rfl (lv_room (Nat.le_of_ble_eq_true rfl)) dX2_copy_32 ⟨by first | exact Nat.le_of_ble_eq_true rfl | omega | (show _ ≤ _; omega) | (dsimp only [headSpec]; omega), by first | exact Nat.le_of_ble_eq_true rfl | omega | (show _ ≤ _; omega) | (dsimp only [headSpec]; omega)⟩) hS_19 (fun z_32 locs_29 hz_31 hS_30 => ?_)
        subst z_32
        obtain ⟨ea_33, gp_33, gs_33, ho0_33, hp0_33, hs0_33, he0_33, hm_33⟩ := hLn9 k (by omega)
        have hol_33 := ho0_33.lt
        have ho_33 := ho0_33.ex hEx9
        have hpl_33 := hp0_33.lt
        have hp_33 := hp0_33.ex hEx9
        have hsl_33 := hs0_33.lt
        have hs_33 := hs0_33.ex hEx9
        have hel_33 := he0_33.lt
        have he_33 := he0_33.ex hEx9
        refine kx_castS hx hb hts hown q307 hK ho_33 rfl dX2_copy_37 ?_
        refine kx_cr (va_runV (As := []) (rest := [.ref la2]) ⟨hx, hb, hml, hown, hts⟩ (m_X4_copy l D H (fA F k) (fP F k) (fS F k) ea_33 gp_33 gs_33 ((st_ln S k)) ho_33 hp_33 hs_33 (by first | assumption | omega) ((hok.ln (by omega : k < S.length)))) (cwV 0 hts (lw_V q308 q309 q310 q99 q311) rfl rfl rfl (by decide +kernel) ⟨Nat.le_of_ble_eq_true rfl, Nat.le_of_ble_eq_true rfl⟩) (kx_pv hK hS_30 hB (kx_rc hK ho_33 (C := RX4) (T := TX4) (N := 6) rfl)) rfl rfl hl.1 rfl (lv_room (Nat.le_of_ble_eq_true rfl)) dX2_copy_40 ⟨by first | exact Nat.le_of_ble_eq_true rfl | omega | (show _ ≤ _; omega) | (dsimp only [headSpec]; omega), by first | exact Nat.le_of_ble_eq_true rfl | omega | (show _ ≤ _; omega) | (dsimp only [headSpec]; omega)⟩) hS_30 (fun q _ h => Nat.le_trans hS_30.1 h) (fun q h => Nat.le_trans hS_30.1 h) (fun z_39 H_37 locs_34 hz_36 hF_38 hS_35 => ?_)
        have hzf_40 := hF_38.1
        have hF_38 := hF_38.nw
        obtain ⟨pa2_41, sa2_42, ho_43, ho_44, ho_45, hnw9, hdw9⟩ := hz_36
        by_cases hcase : kBase D ≤ ea2
        · -- hcase t
          have h_46 := hLs9n.ex hF_38
          obtain ⟨hbe9, h109, gq, hAq9, hgv9⟩ : kBase D ≤ ea2 ∧ (S.take k).length ≤ 10 ∧ ∃ g, kAq D H_37 ea2 4 10 g ∧ ∀ k9, k9 < (S.take k).length → g k9 = some (fA F2 k9) := by rcases h_46 with z | z; (rw [z.2] at hcase; exact absurd hcase hx9n); exact z
          have h_47 := hO_lan.ex hF_38
          have ne_la_ea : la2 ≠ ea2 := kOA_ne hd9n h_47 hAq9 (by decide) (by decide)
          refine kx_cFb (va_runF (C := RJ2) (As := [.ref z_39]) (rest := []) (hK.at (ci := 9) rfl) ⟨hx, hb, hml, hown, hts⟩ (m_J2_add_r l D H_37 la2 mcn ea2 ((S.take k).length) gq z_39 ([.int (kI (ln_lv (((st_ln S k))))), .ref pa2_41, .ref sa2_42, .int (kI ((ln_n (((st_ln S k))) : Nat) : Int)), .ref ea_33, .int (kI (ln_lb (((st_ln S k)))))]) h_47 hAq9 ho_43 (by first | assumption | omega) (by first | assumption | omega) (by first | assumption | omega) (by first | assumption | omega) (by first | assumption | omega)) (va_cwF (x := ({ cls := "java/util/List", name := "add", desc := "(Ljava/lang/Object;)Z" } : Jvm.MethodName)) 1 hts (lw_F q365 q368 q370 q83 q372) rfl rfl rfl (hK.fw (by decide)) (by decide +kernel) ⟨Nat.le_of_ble_eq_true rfl, Nat.le_of_ble_eq_true rfl⟩) (kx_pv hK hS_35 hB (kx_rc hK h_47 (C := RJ2) (T := TJ2) (N := 3) rfl)) rfl rfl hl.1 rfl (lv_room (Nat.le_of_ble_eq_true rfl)) dX2_copy_43 ⟨by first | exact Nat.le_of_ble_eq_true rfl | omega | (show _ ≤ _; omega) | (dsimp only [headSpec]; omega), by first | exact Nat.le_of_ble_eq_true rfl | omega | (show _ ≤ _; omega) | (dsimp only [headSpec]; omega)⟩) hS_35 (fun q _ h => by (try dsimp only at h); (try dsimp only); (try simp only [kNW] at h); (try simp only [kNW]); omega) (fun q h => by (try dsimp only at h); (try dsimp only); (try simp only [kNW] at h); (try simp only [kNW]); omega) (fun z_53 H_51 locs_48 hz_50 hF_52 hS_49 => ?_)
          have hzf_54 := hF_52.1
          obtain ⟨hv_55, ho_56, ho_57⟩ := hz_50
          subst z_53
          refine lv_pop hx hb dX2_copy_48 rfl ?_
          have h_58 := ho_43.fr hF_52 (fun h => by have h9 := ho_43.lt; (try dsimp only at h); (try simp only [kNW] at h); omega)
          have h_59 := ho_44.fr hF_52 (fun h => by have h9 := ho_44.lt; (try dsimp only at h); (try simp only [kNW] at h); omega)
          have h_60 := ho_45.fr hF_52 (fun h => by have h9 := ho_45.lt; (try dsimp only at h); (try simp only [kNW] at h); omega)
          have h_61 := he_33.ex hF_38
          have h_62 := h_61.fr hF_52 (fun h => by (try dsimp only at h); (try simp only [kNW] at h); omega)
          have hfe9 := hF_38.1
          have hSt_63 : kState D H_51 nst la2 ea2 2 (S.take (k + 1)) (F2 ++ [(z_39, pa2_41, sa2_42)]) := by rw [take_push (by omega)]; exact hP_kState_nst.push hd9 hx9 (kFr.exfr hF_38 hF_52) (fun x hx => by (try dsimp only at hx); omega) ho_56 (kLs.push_r ho_57 hgv9 hF9n hbe9 (by omega)) ⟨ea_33, gp_33, gs_33, h_58, h_59, h_60, h_62, hm_33⟩ hnw9 hdw9.2.2 hkH9
          have how_64 : ∀ q, kOwn D nst la2 ea2 (F2 ++ [(z_39, pa2_41, sa2_42)]) (k + 1) q → s.heap.size ≤ q := by
            intro q h
            have hsz9 := hEx9.1
            rcases kOwn_push (ea := ea2) (by omega) h with z | z | z | z | z
            · exact hOwn9 q z
            · exact hOwn9 q (Or.inr (Or.inr (Or.inl ⟨z.1, z.2⟩)))
            · omega
            · omega
            · omega
          refine lv_iinc (v := kI (((k + 1 : Nat) : Int))) (lv' := [(2, .int (kI ((k + 1 : Nat) : Int))), (0, .ref st), (1, .ref nst)]) hx hb dX2_copy_49 hl (k := 2) rfl (kI_incN _ _) (by decide) rfl (fun ls hl => ?_)
          refine lv_goto (tgt := 10) hx hb dX2_copy_52 (by decide) ?_
          refine W.widen (k := 2 + 5 * (((k + 1)))) (n := 5 + 137 * (((k + 1)))) (by omega) (by omega) ?_
          exact ih_10  ((k + 1)) ea2 ((F2 ++ [(z_39, pa2_41, sa2_42)])) H_51 hSt_63 (by first | assumption | omega | (simp_all; done) | grind) (how_64) _ hS_49 (by omega) ls (lv_sub hl [1, 2, 0] rfl)
        · -- hcase f
          have h_65 := hLs9n.ex hF_38
          have h_66 := hO_lan.ex hF_38
          obtain ⟨hn09, hE9⟩ : (S.take k).length = 0 ∧ ea2 = D.2.2.2 2 := by rcases h_65 with z | z; exact z; exact absurd z.1 hcase
          have hOe9 : kO D H_37 la2 9 [.int (kI mcn), .ref (D.2.2.2 2), .int (kI 0)] := by have h9 := h_66; rw [hE9, hn09] at h9; exact h9
          refine kx_cFb (va_runF (C := RJ2) (As := [.ref z_39]) (rest := []) (hK.at (ci := 9) rfl) ⟨hx, hb, hml, hown, hts⟩ (m_J2_add_0 l D H_37 la2 mcn z_39 ([.int (kI (ln_lv (((st_ln S k))))), .ref pa2_41, .ref sa2_42, .int (kI ((ln_n (((st_ln S k))) : Nat) : Int)), .ref ea_33, .int (kI (ln_lb (((st_ln S k)))))]) hOe9 ho_43 (by first | assumption | omega) (by first | assumption | omega)) (va_cwF (x := ({ cls := "java/util/List", name := "add", desc := "(Ljava/lang/Object;)Z" } : Jvm.MethodName)) 1 hts (lw_F q365 q368 q370 q83 q372) rfl rfl rfl (hK.fw (by decide)) (by decide +kernel) ⟨Nat.le_of_ble_eq_true rfl, Nat.le_of_ble_eq_true rfl⟩) (kx_pv hK hS_35 hB (kx_rc hK hOe9 (C := RJ2) (T := TJ2) (N := 3) rfl)) rfl rfl hl.1 rfl (lv_room (Nat.le_of_ble_eq_true rfl)) dX2_copy_43 ⟨by first | exact Nat.le_of_ble_eq_true rfl | omega | (show _ ≤ _; omega) | (dsimp only [headSpec]; omega), by first | exact Nat.le_of_ble_eq_true rfl | omega | (show _ ≤ _; omega) | (dsimp only [headSpec]; omega)⟩) hS_35 (fun q _ h => by (try dsimp only at h); (try dsimp only); (try simp only [kNW] at h); (try simp only [kNW]); omega) (fun q h => by (try dsimp only at h); (try dsimp only); (try simp only [kNW] at h); (try simp only [kNW]); omega) (fun z_72 H_70 locs_67 hz_69 hF_71 hS_68 => ?_)
          have hzf_73 := hF_71.1
          obtain ⟨eaN, hv_75, ho_76, ho_77, hnew_78⟩ := hz_69
          subst z_72
          refine lv_pop hx hb dX2_copy_48 rfl ?_
          have h_79 := ho_43.fr hF_71 (fun h => by have h9 := ho_43.lt; (try dsimp only at h); (try simp only [kNW] at h); omega)
          have h_80 := ho_44.fr hF_71 (fun h => by have h9 := ho_44.lt; (try dsimp only at h); (try simp only [kNW] at h); omega)
          have h_81 := ho_45.fr hF_71 (fun h => by have h9 := ho_45.lt; (try dsimp only at h); (try simp only [kNW] at h); omega)
          have h_82 := he_33.ex hF_38
          have h_83 := h_82.fr hF_71 (fun h => by (try dsimp only at h); (try simp only [kNW] at h); omega)
          have hfe9 := hF_38.1
          have hSt_84 : kState D H_70 nst la2 eaN 2 (S.take (k + 1)) (F2 ++ [(z_39, pa2_41, sa2_42)]) := by rw [take_push (by omega)]; exact hP_kState_nst.push hd9 hx9 (kFr.exfr hF_38 hF_71) (fun x hx => by (try dsimp only at hx); omega) (by rw [hn09]; exact ho_76) (kLs.push_0 ho_77 hF9n hn09 (by omega)) ⟨ea_33, gp_33, gs_33, h_79, h_80, h_81, h_83, hm_33⟩ hnw9 hdw9.2.2 hkH9
          have how_85 : ∀ q, kOwn D nst la2 eaN (F2 ++ [(z_39, pa2_41, sa2_42)]) (k + 1) q → s.heap.size ≤ q := by
            intro q h
            have hsz9 := hEx9.1
            rcases kOwn_push (ea := ea2) (by omega) h with z | z | z | z | z
            · exact hOwn9 q z
            · exact by omega
            · omega
            · omega
            · omega
          refine lv_iinc (v := kI (((k + 1 : Nat) : Int))) (lv' := [(2, .int (kI ((k + 1 : Nat) : Int))), (0, .ref st), (1, .ref nst)]) hx hb dX2_copy_49 hl (k := 2) rfl (kI_incN _ _) (by decide) rfl (fun ls hl => ?_)
          refine lv_goto (tgt := 10) hx hb dX2_copy_52 (by decide) ?_
          refine W.widen (k := 2 + 5 * (((k + 1)))) (n := 5 + 137 * (((k + 1)))) (by omega) (by omega) ?_
          exact ih_10  ((k + 1)) eaN ((F2 ++ [(z_39, pa2_41, sa2_42)])) H_70 hSt_84 (by first | assumption | omega | (simp_all; done) | grind) (how_85) _ hS_68 (by omega) ls (lv_sub hl [1, 2, 0] rfl)
  refine W.widen (k := 2 + 5 * 0) (n := 5 + 137 * 0) (by omega) (by omega) ?_
  exact lp_10_x_17 (S.length - 0 + 1) 0 (D.2.2.2 2) ([]) H_10 hSt0 (by first | assumption | omega | (simp_all; done) | grind) (fun q h => by rcases h with z | z | z | ⟨k9, hk9, _⟩; (rw [z]; omega); (rw [z]; omega); (exact absurd z.2 hx9); (exact absurd hk9 (Nat.not_lt_zero k9))) _ hS_8 (Nat.lt_succ_self _) ls (lv_sub hl [2, 1, 0] rfl)

