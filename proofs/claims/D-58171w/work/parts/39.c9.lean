set_option maxHeartbeats 4000000 in
set_option maxRecDepth 100000 in
theorem m_X2_lineRound (l : Launch) (D : kG) (H : Heap) (st : Nat) (la : Nat) (mc : Int) (ea : Nat) (F : Fts) (S : Ls) (gap : Int) (ln : Nat) (hO_st : kO D H st 1 [.ref la, .int (kI (gap))]) (hO_la : kO D H la 9 [.int (kI (mc)), .ref ea, .int (kI ((S.length : Nat) : Int))]) (hP_kLs_ea : kLs D H ea S.length F) (hP_kLn_F : kLn D H F S) (hok : LsOK S gap) (hln : ln < S.length) (hdis : StDis S) : Met l yX2_lineRound (ws_ yX2_lineRound cX2_lineRound 5 (some .int)) ({ frames := 4, cells := 0, slots := 0, locals := 87 } : Room) (kPre D H [.ref st, .int (kI ((ln : Nat) : Int))]) (kQi (fun (r : Int) H' => H' = H ∧ r = st_round S ln) kNO) (0) (0) (kNO) := by
  refine Met.ofW (cc := cX2_lineRound) (maxL := 5) (ret := (some .int)) (by decide) rfl ?_
  intro p e s m args below meth c s₁ B hml hv
  obtain ⟨rfl, hH, hK⟩ := hv
  subst hH
  have hx := B.exec
  have hb := B.bytes
  have hr := B.returns
  have hts := atoms_spec (ws := ws_ yX2_lineRound cX2_lineRound 5 (some .int)) B.pre
  have hts : ∀ w ∈ lw_all, w.before _ s = true := fun w h => hts w (List.mem_cons_of_mem _ h)
  have hown : s.vm.findClass RX2 = some m.cls := findClass_of_methodNamed B.named
  have hlk := B.notSynchronized
  have hS : va_S kNO s.heap s.heap [] := va_S.rf
  have hB : ∀ q, kNO q → kBase D ≤ q := fun _ h => h.elim
  have hl := lv_entry ([.ref st, .int (kI ((ln : Nat) : Int))]) (n := 5) (Nat.le_of_ble_eq_true rfl)
  rw [lg_entry_eq]
  generalize (lg_sl ([.ref st, .int (kI ((ln : Nat) : Int))]) ++ List.replicate (5 - (lg_sl ([.ref st, .int (kI ((ln : Nat) : Int))])).length) Slot.unset).toArray = ls at hl ⊢
  have hl : lv_has ls 5 [(0, .ref st), (1, .int (kI ((ln : Nat) : Int)))] := hl
  have hL8 := hok.1
  refine kx_iconst hx hb dX2_lineRound_0 ?_
  refine lv_istore_n (lv' := [(2, .int (kI ((-1)))), (0, .ref st), (1, .int (kI ((ln : Nat) : Int)))]) hx hb dX2_lineRound_1 rfl hl (by decide) rfl (fun ls hl => ?_)
  refine kx_iconst hx hb dX2_lineRound_2 ?_
  refine lv_istore_n (lv' := [(3, .int (kI (0))), (2, .int (kI ((-1)))), (0, .ref st), (1, .int (kI ((ln : Nat) : Int)))]) hx hb dX2_lineRound_3 rfl hl (by decide) rfl (fun ls hl => ?_)
  have lp_4_x_1 : ∀ (n_4 : Nat) (k : Nat) (rd : Int) (hk : k ≤ S.length) (hrd : rd = st_roundTo S ln k) (hrr : -1 ≤ rd ∧ rd < k) (locs : List Loc) (hS : va_S kNO s.heap s.heap locs) (hm_4 : S.length - k < n_4) (ls : Array Slot), lv_has ls 5 [(0, .ref st), (1, .int (kI ((ln : Nat) : Int))), (2, .int (kI (rd))), (3, .int (kI ((k : Nat) : Int)))] → W p l e (headSpec (ws_ yX2_lineRound cX2_lineRound 5 (some .int)) ({ frames := 4, cells := 0, slots := 0, locals := 87 } : Room)).room s m ([.ref st, .int (kI ((ln : Nat) : Int))] : List Value).toArray below meth c s.heap locs (0) (0) (MQ below (kQi (fun (r : Int) H' => H' = s.heap ∧ r = st_round S ln) kNO) ([.ref st, .int (kI ((ln : Nat) : Int))] : List Value).toArray s (0) (0) (kNO)) (F0 m 4 ls []) := by
    intro n_4
    induction n_4 with
    | zero => intro k rd hk hrd hrr locs hS hm_4; exact absurd hm_4 (Nat.not_lt_zero _)
    | succ n_4 ih_4 =>
      intro k rd hk hrd hrr locs hS hm_4 ls hl
      refine lv_iload_n hx hb dX2_lineRound_4 rfl (lv_at hl 3 rfl) ?_
      refine lv_aload_n hx hb dX2_lineRound_5 rfl (lv_at hl 0 rfl) ?_
      refine kx_get (v := .ref la) (C := RX2) (T := TX2) (N := 2) hx hb hts in_X2 hown hK hO_st rfl 0 (by decide) q167 (fun _ h9 => h9) rfl dX2_lineRound_6 ?_
      refine kx_cFi0 (va_runF (C := RJ2) (As := []) (rest := [.int (kI ((k : Nat) : Int))]) (hK.at (ci := 9) rfl) ⟨hx, hb, hml, hown, hts⟩ (m_J2_size l D s.heap la mc ea S.length hO_la ) (va_cwF (x := ({ cls := "java/util/List", name := "size", desc := "()I" } : Jvm.MethodName)) 0 hts (lw_F q279 q283 q285 q83 q287) rfl rfl rfl (hK.fw (by decide)) (by decide +kernel) ⟨Nat.le_of_ble_eq_true rfl, Nat.le_of_ble_eq_true rfl⟩) (kx_pv hK hS hB (kx_rc hK hO_la (C := RJ2) (T := TJ2) (N := 3) rfl)) rfl rfl hl.1 rfl (lv_room (Nat.le_of_ble_eq_true rfl)) dX2_lineRound_9 ⟨by first | exact Nat.le_of_ble_eq_true rfl | omega | (show _ ≤ _; omega) | (dsimp only [headSpec]; omega), by first | exact Nat.le_of_ble_eq_true rfl | omega | (show _ ≤ _; omega) | (dsimp only [headSpec]; omega)⟩) hS (fun z_5 locs_2 hz_4 hS_3 => ?_)
      subst z_5
      refine kx_icmp_ge (x := ((k : Nat) : Int)) (y := ((S.length : Nat) : Int)) (tgt := 103) hx hb dX2_lineRound_14 (by decide) (by omega) (by omega) (by omega) (by omega) (fun c_14_6 => ?_) (fun c_14_6 => ?_)
      · -- taken at 14
        refine lv_iload_n hx hb dX2_lineRound_103 rfl (lv_at hl 2 rfl) ?_
        exact kx_iret (z := rd) hx hb hr hlk (⟨rfl, by rw [hrd, st_round, show k = S.length by omega]⟩) hS_3 dX2_lineRound_104
      · -- not taken at 14
        refine lv_iload_n hx hb dX2_lineRound_17 rfl (lv_at hl 3 rfl) ?_
        refine lv_iload_n hx hb dX2_lineRound_18 rfl (lv_at hl 1 rfl) ?_
        refine kx_icmp_eq (x := ((k : Nat) : Int)) (y := ((ln : Nat) : Int)) (tgt := 52) hx hb dX2_lineRound_19 (by decide) (by omega) (by omega) (by omega) (by omega) (fun c19 => ?_) (fun c19 => ?_)
        · -- taken at 19
          refine kx_iconst hx hb dX2_lineRound_52 ?_
          refine lv_istore (lv' := [(4, .int (kI (0))), (0, .ref st), (1, .int (kI ((ln : Nat) : Int))), (2, .int (kI (rd))), (3, .int (kI ((k : Nat) : Int)))]) hx hb dX2_lineRound_53 hl (by decide) rfl (fun ls hl => ?_)
          refine lv_iload hx hb dX2_lineRound_55 (lv_at hl 0 rfl) ?_
          refine kx_if_eq (x := 0) (tgt := 95) hx hb dX2_lineRound_57 (by decide) (by omega) (by omega) (fun c_57_7 => ?_) (fun c_57_7 => ?_)
          · -- taken at 57
            refine lv_iload_n hx hb dX2_lineRound_95 rfl (lv_at hl 3 rfl) ?_
            refine lv_istore_n (lv' := [(2, .int (kI (rd))), (4, .int (kI (0))), (0, .ref st), (1, .int (kI ((ln : Nat) : Int))), (3, .int (kI ((k : Nat) : Int)))]) hx hb dX2_lineRound_96 rfl hl (by decide) rfl (fun ls hl => ?_)
            refine lv_iinc (v := kI (((k + 1 : Nat) : Int))) (lv' := [(3, .int (kI ((k + 1 : Nat) : Int))), (2, .int (kI (rd))), (4, .int (kI (0))), (0, .ref st), (1, .int (kI ((ln : Nat) : Int)))]) hx hb dX2_lineRound_97 hl (k := 4) rfl (kI_incN _ _) (by decide) rfl (fun ls hl => ?_)
            refine lv_goto (tgt := 4) hx hb dX2_lineRound_100 (by decide) ?_
            exact ih_4  (k + 1) rd (by first | assumption | omega | (simp_all; done) | grind) (by first | (rw [round_step_p (by assumption) (Or.inl (by omega))]; done) | (rw [round_step_p (by assumption) (Or.inr (by rw [← hrd]; assumption))]; done) | (rw [round_step_n (fun z => Bool.noConfusion ((by assumption : st_cont S k (ln_bg (st_ln S ln)) = false).symm.trans z.1))]; exact hrd) | (rw [round_step_n (fun z => by rcases z.2 with z2 | z2; (omega); (rw [← hrd] at z2; exact Bool.noConfusion ((by assumption : st_cont S rd.toNat (ln_bg (st_ln S k)) = false).symm.trans z2)))]; exact hrd) | (have e9 : k = ln := (by omega); rw [round_step_n (fun z => by obtain ⟨z1, _⟩ := z; rw [e9, st_cont_self hdis hln] at z1; exact absurd z1 (by decide))]; exact hrd)) (by first | assumption | omega | (simp_all; done) | grind) _ hS_3 (by omega) ls (lv_sub hl [3, 4, 1, 0] rfl)
          · -- not taken at 57
            exfalso; omega
        · -- not taken at 19
          refine lv_aload_n hx hb dX2_lineRound_22 rfl (lv_at hl 0 rfl) ?_
          refine lv_iload_n hx hb dX2_lineRound_23 rfl (lv_at hl 3 rfl) ?_
          refine lv_aload_n hx hb dX2_lineRound_24 rfl (lv_at hl 0 rfl) ?_
          refine kx_get (v := .ref la) (C := RX2) (T := TX2) (N := 2) hx hb hts in_X2 hown hK hO_st rfl 0 (by decide) q167 (fun _ h9 => h9) rfl dX2_lineRound_25 ?_
          refine lv_iload_n hx hb dX2_lineRound_28 rfl (lv_at hl 1 rfl) ?_
          refine kx_cFr0 (va_runF (C := RJ2) (As := [.int (kI ((ln : Nat) : Int))]) (rest := [.int (kI ((k : Nat) : Int)), .ref st]) (hK.at (ci := 9) rfl) ⟨hx, hb, hml, hown, hts⟩ (m_get l D s.heap la mc ea S.length F ln hO_la hP_kLs_ea (by first | assumption | omega)) (va_cwF (x := ({ cls := "java/util/List", name := "get", desc := "(I)Ljava/lang/Object;" } : Jvm.MethodName)) 1 hts (lw_F q289 q292 q294 q83 q296) rfl rfl rfl (hK.fw (by decide)) (by decide +kernel) ⟨Nat.le_of_ble_eq_true rfl, Nat.le_of_ble_eq_true rfl⟩) (kx_pv hK hS_3 hB (kx_rc hK hO_la (C := RJ2) (T := TJ2) (N := 3) rfl)) rfl rfl hl.1 rfl (lv_room (Nat.le_of_ble_eq_true rfl)) dX2_lineRound_29 ⟨by first | exact Nat.le_of_ble_eq_true rfl | omega | (show _ ≤ _; omega) | (dsimp only [headSpec]; omega), by first | exact Nat.le_of_ble_eq_true rfl | omega | (show _ ≤ _; omega) | (dsimp only [headSpec]; omega)⟩) hS_3 (fun z_11 locs_8 hz_10 hS_9 => ?_)
          subst z_11
          obtain ⟨ea_12, gp_12, gs_12, ho_12, hp_12, hs_12, he_12, hm_12⟩ := (hP_kLn_F ln (hln))
          refine kx_castS hx hb hts hown q307 hK ho_12 rfl dX2_lineRound_34 ?_
          refine kx_getN (v := .ref (fP F ln)) (C := RX4) (T := TX4) (N := 6) hx hb hts in_X4 hown hK ho_12 rfl 1 (by decide) (hK.w q337 rfl) (fun _ h9 => h9) rfl dX2_lineRound_37 ?_
          refine kx_iconst hx hb dX2_lineRound_40 ?_
          refine kx_iald (i := 0) hx hb hK hp_12 0 (rfl) (by omega) (by omega) dX2_lineRound_41 ?_
          have hbgr_12 := (hok.ln (by omega : ln < S.length)).bg
          refine kx_eqi (ln_bg (st_ln S ln)) (hm_12.1 0 (Nat.zero_le _)) ?_
          refine kx_cb0 (va_runV (As := [.int (kI ((k : Nat) : Int)), .int (kI (ln_bg (st_ln S ln)))]) (rest := []) ⟨hx, hb, hml, hown, hts⟩ (m_X2_isWithin l D s.heap st la mc ea F S gap k (ln_bg (st_ln S ln)) hO_st hO_la hP_kLs_ea hP_kLn_F (by first | assumption | omega) (by first | assumption | omega) (by first | assumption | omega) (by first | assumption | omega)) (cwV 2 hts (lw_V q2128 q2079 q2080 q80 q2081) rfl rfl rfl (by decide +kernel) ⟨Nat.le_of_ble_eq_true rfl, Nat.le_of_ble_eq_true rfl⟩) (kx_pv hK hS_9 hB (kx_rc hK hO_st (C := RX2) (T := TX2) (N := 2) rfl)) rfl rfl hl.1 rfl (lv_room (Nat.le_of_ble_eq_true rfl)) dX2_lineRound_42 ⟨by first | exact Nat.le_of_ble_eq_true rfl | omega | (show _ ≤ _; omega) | (dsimp only [headSpec]; omega), by first | exact Nat.le_of_ble_eq_true rfl | omega | (show _ ≤ _; omega) | (dsimp only [headSpec]; omega)⟩) hS_9 (fun z_16 locs_13 hz_15 hS_14 => ?_)
          subst z_16
          refine kx_ifz (tgt := 52) hx hb dX2_lineRound_45 (by decide) (fun c45 => ?_) (fun c45 => ?_)
          · -- taken at 45
            refine kx_iconst hx hb dX2_lineRound_52 ?_
            refine lv_istore (lv' := [(4, .int (kI (0))), (0, .ref st), (1, .int (kI ((ln : Nat) : Int))), (2, .int (kI (rd))), (3, .int (kI ((k : Nat) : Int)))]) hx hb dX2_lineRound_53 hl (by decide) rfl (fun ls hl => ?_)
            refine lv_iload hx hb dX2_lineRound_55 (lv_at hl 0 rfl) ?_
            refine kx_if_eq (x := 0) (tgt := 95) hx hb dX2_lineRound_57 (by decide) (by omega) (by omega) (fun c_57_17 => ?_) (fun c_57_17 => ?_)
            · -- taken at 57
              refine lv_iload_n hx hb dX2_lineRound_95 rfl (lv_at hl 3 rfl) ?_
              refine lv_istore_n (lv' := [(2, .int (kI (rd))), (4, .int (kI (0))), (0, .ref st), (1, .int (kI ((ln : Nat) : Int))), (3, .int (kI ((k : Nat) : Int)))]) hx hb dX2_lineRound_96 rfl hl (by decide) rfl (fun ls hl => ?_)
              refine lv_iinc (v := kI (((k + 1 : Nat) : Int))) (lv' := [(3, .int (kI ((k + 1 : Nat) : Int))), (2, .int (kI (rd))), (4, .int (kI (0))), (0, .ref st), (1, .int (kI ((ln : Nat) : Int)))]) hx hb dX2_lineRound_97 hl (k := 4) rfl (kI_incN _ _) (by decide) rfl (fun ls hl => ?_)
              refine lv_goto (tgt := 4) hx hb dX2_lineRound_100 (by decide) ?_
              exact ih_4  (k + 1) rd (by first | assumption | omega | (simp_all; done) | grind) (by first | (rw [round_step_p (by assumption) (Or.inl (by omega))]; done) | (rw [round_step_p (by assumption) (Or.inr (by rw [← hrd]; assumption))]; done) | (rw [round_step_n (fun z => Bool.noConfusion ((by assumption : st_cont S k (ln_bg (st_ln S ln)) = false).symm.trans z.1))]; exact hrd) | (rw [round_step_n (fun z => by rcases z.2 with z2 | z2; (omega); (rw [← hrd] at z2; exact Bool.noConfusion ((by assumption : st_cont S rd.toNat (ln_bg (st_ln S k)) = false).symm.trans z2)))]; exact hrd) | (have e9 : k = ln := (by omega); rw [round_step_n (fun z => by obtain ⟨z1, _⟩ := z; rw [e9, st_cont_self hdis hln] at z1; exact absurd z1 (by decide))]; exact hrd)) (by first | assumption | omega | (simp_all; done) | grind) _ hS_14 (by omega) ls (lv_sub hl [3, 4, 1, 0] rfl)
            · -- not taken at 57
              exfalso; omega
          · -- not taken at 45
            refine kx_iconst hx hb dX2_lineRound_48 ?_
            refine lv_goto (tgt := 53) hx hb dX2_lineRound_49 (by decide) ?_
            refine lv_istore (lv' := [(4, .int (kI (1))), (0, .ref st), (1, .int (kI ((ln : Nat) : Int))), (2, .int (kI (rd))), (3, .int (kI ((k : Nat) : Int)))]) hx hb dX2_lineRound_53 hl (by decide) rfl (fun ls hl => ?_)
            refine lv_iload hx hb dX2_lineRound_55 (lv_at hl 0 rfl) ?_
            refine kx_if_eq (x := 1) (tgt := 95) hx hb dX2_lineRound_57 (by decide) (by omega) (by omega) (fun c_57_18 => ?_) (fun c_57_18 => ?_)
            · -- taken at 57
              exfalso; omega
            · -- not taken at 57
              refine lv_iload_n hx hb dX2_lineRound_60 rfl (lv_at hl 3 rfl) ?_
              refine kx_iconst hx hb dX2_lineRound_61 ?_
              refine kx_icmp_eq (x := rd) (y := (-1)) (tgt := 91) hx hb dX2_lineRound_62 (by decide) (by omega) (by omega) (by omega) (by omega) (fun c62 => ?_) (fun c62 => ?_)
              · -- taken at 62
                refine lv_iload_n hx hb dX2_lineRound_91 rfl (lv_at hl 4 rfl) ?_
                refine lv_goto (tgt := 96) hx hb dX2_lineRound_92 (by decide) ?_
                refine lv_istore_n (lv' := [(2, .int (kI ((k : Nat) : Int))), (4, .int (kI (1))), (0, .ref st), (1, .int (kI ((ln : Nat) : Int))), (3, .int (kI ((k : Nat) : Int)))]) hx hb dX2_lineRound_96 rfl hl (by decide) rfl (fun ls hl => ?_)
                refine lv_iinc (v := kI (((k + 1 : Nat) : Int))) (lv' := [(3, .int (kI ((k + 1 : Nat) : Int))), (2, .int (kI ((k : Nat) : Int))), (4, .int (kI (1))), (0, .ref st), (1, .int (kI ((ln : Nat) : Int)))]) hx hb dX2_lineRound_97 hl (k := 4) rfl (kI_incN _ _) (by decide) rfl (fun ls hl => ?_)
                refine lv_goto (tgt := 4) hx hb dX2_lineRound_100 (by decide) ?_
                exact ih_4  (k + 1) (((k : Nat) : Int)) (by first | assumption | omega | (simp_all; done) | grind) (by first | (rw [round_step_p (by assumption) (Or.inl (by omega))]; done) | (rw [round_step_p (by assumption) (Or.inr (by rw [← hrd]; assumption))]; done) | (rw [round_step_n (fun z => Bool.noConfusion ((by assumption : st_cont S k (ln_bg (st_ln S ln)) = false).symm.trans z.1))]; exact hrd) | (rw [round_step_n (fun z => by rcases z.2 with z2 | z2; (omega); (rw [← hrd] at z2; exact Bool.noConfusion ((by assumption : st_cont S rd.toNat (ln_bg (st_ln S k)) = false).symm.trans z2)))]; exact hrd) | (have e9 : k = ln := (by omega); rw [round_step_n (fun z => by obtain ⟨z1, _⟩ := z; rw [e9, st_cont_self hdis hln] at z1; exact absurd z1 (by decide))]; exact hrd)) (by first | assumption | omega | (simp_all; done) | grind) _ hS_14 (by omega) ls (lv_sub hl [3, 4, 1, 0] rfl)
              · -- not taken at 62
                refine lv_aload_n hx hb dX2_lineRound_65 rfl (lv_at hl 1 rfl) ?_
                refine lv_iload_n hx hb dX2_lineRound_66 rfl (lv_at hl 3 rfl) ?_
                refine kx_eqi (((rd.toNat : Nat) : Int)) (by omega) ?_
                refine lv_aload_n hx hb dX2_lineRound_67 rfl (lv_at hl 1 rfl) ?_
                refine kx_get (v := .ref la) (C := RX2) (T := TX2) (N := 2) hx hb hts in_X2 hown hK hO_st rfl 0 (by decide) q167 (fun _ h9 => h9) rfl dX2_lineRound_68 ?_
                refine lv_iload_n hx hb dX2_lineRound_71 rfl (lv_at hl 4 rfl) ?_
                refine kx_cFr0 (va_runF (C := RJ2) (As := [.int (kI ((k : Nat) : Int))]) (rest := [.int (kI ((rd.toNat : Nat) : Int)), .ref st]) (hK.at (ci := 9) rfl) ⟨hx, hb, hml, hown, hts⟩ (m_get l D s.heap la mc ea S.length F k hO_la hP_kLs_ea (by first | assumption | omega)) (va_cwF (x := ({ cls := "java/util/List", name := "get", desc := "(I)Ljava/lang/Object;" } : Jvm.MethodName)) 1 hts (lw_F q289 q292 q294 q83 q296) rfl rfl rfl (hK.fw (by decide)) (by decide +kernel) ⟨Nat.le_of_ble_eq_true rfl, Nat.le_of_ble_eq_true rfl⟩) (kx_pv hK hS_14 hB (kx_rc hK hO_la (C := RJ2) (T := TJ2) (N := 3) rfl)) rfl rfl hl.1 rfl (lv_room (Nat.le_of_ble_eq_true rfl)) dX2_lineRound_72 ⟨by first | exact Nat.le_of_ble_eq_true rfl | omega | (show _ ≤ _; omega) | (dsimp only [headSpec]; omega), by first | exact Nat.le_of_ble_eq_true rfl | omega | (show _ ≤ _; omega) | (dsimp only [headSpec]; omega)⟩) hS_14 (fun z_22 locs_19 hz_21 hS_20 => ?_)
                subst z_22
                obtain ⟨ea_23, gp_23, gs_23, ho_23, hp_23, hs_23, he_23, hm_23⟩ := (hP_kLn_F k (by omega))
                refine kx_castS hx hb hts hown q307 hK ho_23 rfl dX2_lineRound_77 ?_
                refine kx_getN (v := .ref (fP F k)) (C := RX4) (T := TX4) (N := 6) hx hb hts in_X4 hown hK ho_23 rfl 1 (by decide) (hK.w q337 rfl) (fun _ h9 => h9) rfl dX2_lineRound_80 ?_
                refine kx_iconst hx hb dX2_lineRound_83 ?_
                refine kx_iald (i := 0) hx hb hK hp_23 0 (rfl) (by omega) (by omega) dX2_lineRound_84 ?_
                have hbgr_23 := (hok.ln (by omega : k < S.length)).bg
                refine kx_eqi (ln_bg (st_ln S k)) (hm_23.1 0 (Nat.zero_le _)) ?_
                refine kx_cb0 (va_runV (As := [.int (kI ((rd.toNat : Nat) : Int)), .int (kI (ln_bg (st_ln S k)))]) (rest := []) ⟨hx, hb, hml, hown, hts⟩ (m_X2_isWithin l D s.heap st la mc ea F S gap rd.toNat (ln_bg (st_ln S k)) hO_st hO_la hP_kLs_ea hP_kLn_F (by first | assumption | omega) (by first | assumption | omega) (by first | assumption | omega) (by first | assumption | omega)) (cwV 2 hts (lw_V q2128 q2079 q2080 q80 q2081) rfl rfl rfl (by decide +kernel) ⟨Nat.le_of_ble_eq_true rfl, Nat.le_of_ble_eq_true rfl⟩) (kx_pv hK hS_20 hB (kx_rc hK hO_st (C := RX2) (T := TX2) (N := 2) rfl)) rfl rfl hl.1 rfl (lv_room (Nat.le_of_ble_eq_true rfl)) dX2_lineRound_85 ⟨by first | exact Nat.le_of_ble_eq_true rfl | omega | (show _ ≤ _; omega) | (dsimp only [headSpec]; omega), by first | exact Nat.le_of_ble_eq_true rfl | omega | (show _ ≤ _; omega) | (dsimp only [headSpec]; omega)⟩) hS_20 (fun z_27 locs_24 hz_26 hS_25 => ?_)
                subst z_27
                refine kx_ifz (tgt := 95) hx hb dX2_lineRound_88 (by decide) (fun c88 => ?_) (fun c88 => ?_)
                · -- taken at 88
                  refine lv_iload_n hx hb dX2_lineRound_95 rfl (lv_at hl 3 rfl) ?_
                  refine lv_istore_n (lv' := [(2, .int (kI (rd))), (4, .int (kI (1))), (0, .ref st), (1, .int (kI ((ln : Nat) : Int))), (3, .int (kI ((k : Nat) : Int)))]) hx hb dX2_lineRound_96 rfl hl (by decide) rfl (fun ls hl => ?_)
                  refine lv_iinc (v := kI (((k + 1 : Nat) : Int))) (lv' := [(3, .int (kI ((k + 1 : Nat) : Int))), (2, .int (kI (rd))), (4, .int (kI (1))), (0, .ref st), (1, .int (kI ((ln : Nat) : Int)))]) hx hb dX2_lineRound_97 hl (k := 4) rfl (kI_incN _ _) (by decide) rfl (fun ls hl => ?_)
                  refine lv_goto (tgt := 4) hx hb dX2_lineRound_100 (by decide) ?_
                  exact ih_4  (k + 1) rd (by first | assumption | omega | (simp_all; done) | grind) (by first | (rw [round_step_p (by assumption) (Or.inl (by omega))]; done) | (rw [round_step_p (by assumption) (Or.inr (by rw [← hrd]; assumption))]; done) | (rw [round_step_n (fun z => Bool.noConfusion ((by assumption : st_cont S k (ln_bg (st_ln S ln)) = false).symm.trans z.1))]; exact hrd) | (rw [round_step_n (fun z => by rcases z.2 with z2 | z2; (omega); (rw [← hrd] at z2; exact Bool.noConfusion ((by assumption : st_cont S rd.toNat (ln_bg (st_ln S k)) = false).symm.trans z2)))]; exact hrd) | (have e9 : k = ln := (by omega); rw [round_step_n (fun z => by obtain ⟨z1, _⟩ := z; rw [e9, st_cont_self hdis hln] at z1; exact absurd z1 (by decide))]; exact hrd)) (by first | assumption | omega | (simp_all; done) | grind) _ hS_25 (by omega) ls (lv_sub hl [3, 4, 1, 0] rfl)
                · -- not taken at 88
                  refine lv_iload_n hx hb dX2_lineRound_91 rfl (lv_at hl 4 rfl) ?_
                  refine lv_goto (tgt := 96) hx hb dX2_lineRound_92 (by decide) ?_
                  refine lv_istore_n (lv' := [(2, .int (kI ((k : Nat) : Int))), (4, .int (kI (1))), (0, .ref st), (1, .int (kI ((ln : Nat) : Int))), (3, .int (kI ((k : Nat) : Int)))]) hx hb dX2_lineRound_96 rfl hl (by decide) rfl (fun ls hl => ?_)
                  refine lv_iinc (v := kI (((k + 1 : Nat) : Int))) (lv' := [(3, .int (kI ((k + 1 : Nat) : Int))), (2, .int (kI ((k : Nat) : Int))), (4, .int (kI (1))), (0, .ref st), (1, .int (kI ((ln : Nat) : Int)))]) hx hb dX2_lineRound_97 hl (k := 4) rfl (kI_incN _ _) (by decide) rfl (fun ls hl => ?_)
                  refine lv_goto (tgt := 4) hx hb dX2_lineRound_100 (by decide) ?_
                  exact ih_4  (k + 1) (((k : Nat) : Int)) (by first | assumption | omega | (simp_all; done) | grind) (by first | (rw [round_step_p (by assumption) (Or.inl (by omega))]; done) | (rw [round_step_p (by assumption) (Or.inr (by rw [← hrd]; assumption))]; done) | (rw [round_step_n (fun z => Bool.noConfusion ((by assumption : st_cont S k (ln_bg (st_ln S ln)) = false).symm.trans z.1))]; exact hrd) | (rw [round_step_n (fun z => by rcases z.2 with z2 | z2; (omega); (rw [← hrd] at z2; exact Bool.noConfusion ((by assumption : st_cont S rd.toNat (ln_bg (st_ln S k)) = false).symm.trans z2)))]; exact hrd) | (have e9 : k = ln := (by omega); rw [round_step_n (fun z => by obtain ⟨z1, _⟩ := z; rw [e9, st_cont_self hdis hln] at z1; exact absurd z1 (by decide))]; exact hrd)) (by first | assumption | omega | (simp_all; done) | grind) _ hS_25 (by omega) ls (lv_sub hl [3, 4, 1, 0] rfl)
  exact lp_4_x_1 (S.length - 0 + 1) 0 ((-1)) (by first | assumption | omega | (simp_all; done) | grind) (rfl) (by first | assumption | omega | (simp_all; done) | grind) _ hS (Nat.lt_succ_self _) ls (lv_sub hl [2, 3, 1, 0] rfl)

set_option maxHeartbeats 4000000 in
set_option maxRecDepth 100000 in
theorem m_X2_isSteady (l : Launch) (D : kG) (H : Heap) (st : Nat) (la : Nat) (mc : Int) (ea : Nat) (F : Fts) (S : Ls) (gap : Int) (ln : Nat) (hO_st : kO D H st 1 [.ref la, .int (kI (gap))]) (hO_la : kO D H la 9 [.int (kI (mc)), .ref ea, .int (kI ((S.length : Nat) : Int))]) (hP_kLs_ea : kLs D H ea S.length F) (hP_kLn_F : kLn D H F S) (hok : LsOK S gap) (hln : ln < S.length) (hdis : StDis S) : Met l yX2_isSteady (ws_ yX2_isSteady cX2_isSteady 3 (some .boolean)) ({ frames := 5, cells := 0, slots := 0, locals := 111 } : Room) (kPre D H [.ref st, .int (kI ((ln : Nat) : Int))]) (kQb (fun (r : Bool) H' => H' = H ∧ r = st_steady S ln) kNO) (0) (0) (kNO) := by
  refine Met.ofW (cc := cX2_isSteady) (maxL := 3) (ret := (some .boolean)) (by decide) rfl ?_
  intro p e s m args below meth c s₁ B hml hv
  obtain ⟨rfl, hH, hK⟩ := hv
  subst hH
  have hx := B.exec
  have hb := B.bytes
  have hr := B.returns
  have hts := atoms_spec (ws := ws_ yX2_isSteady cX2_isSteady 3 (some .boolean)) B.pre
  have hts : ∀ w ∈ lw_all, w.before _ s = true := fun w h => hts w (List.mem_cons_of_mem _ h)
  have hown : s.vm.findClass RX2 = some m.cls := findClass_of_methodNamed B.named
  have hlk := B.notSynchronized
  have hS : va_S kNO s.heap s.heap [] := va_S.rf
  have hB : ∀ q, kNO q → kBase D ≤ q := fun _ h => h.elim
  have hl := lv_entry ([.ref st, .int (kI ((ln : Nat) : Int))]) (n := 3) (Nat.le_of_ble_eq_true rfl)
  rw [lg_entry_eq]
  generalize (lg_sl ([.ref st, .int (kI ((ln : Nat) : Int))]) ++ List.replicate (3 - (lg_sl ([.ref st, .int (kI ((ln : Nat) : Int))])).length) Slot.unset).toArray = ls at hl ⊢
  have hl : lv_has ls 3 [(0, .ref st), (1, .int (kI ((ln : Nat) : Int)))] := hl
  have hL8 := hok.1
  have hrg9 := st_roundTo_rng S ln S.length
  have hrd9 : st_round S ln = st_roundTo S ln S.length := rfl
  have hlv9 := (hok.ln hln).lv
  refine lv_aload_n hx hb dX2_isSteady_0 rfl (lv_at hl 0 rfl) ?_
  refine lv_iload_n hx hb dX2_isSteady_1 rfl (lv_at hl 1 rfl) ?_
  refine kx_ci0 (va_runV (As := [.int (kI ((ln : Nat) : Int))]) (rest := []) ⟨hx, hb, hml, hown, hts⟩ (m_X2_lineRound l D s.heap st la mc ea F S gap ln hO_st hO_la hP_kLs_ea hP_kLn_F (by first | assumption | omega) (by first | assumption | omega) (by first | assumption | omega)) (cwV 1 hts (lw_V q2151 q2137 q2138 q80 q2139) rfl rfl rfl (by decide +kernel) ⟨Nat.le_of_ble_eq_true rfl, Nat.le_of_ble_eq_true rfl⟩) (kx_pv hK hS hB (kx_rc hK hO_st (C := RX2) (T := TX2) (N := 2) rfl)) rfl rfl hl.1 rfl (lv_room (Nat.le_of_ble_eq_true rfl)) dX2_isSteady_2 ⟨by first | exact Nat.le_of_ble_eq_true rfl | omega | (show _ ≤ _; omega) | (dsimp only [headSpec]; omega), by first | exact Nat.le_of_ble_eq_true rfl | omega | (show _ ≤ _; omega) | (dsimp only [headSpec]; omega)⟩) hS (fun z_4 locs_1 hz_3 hS_2 => ?_)
  subst z_4
  refine lv_istore_n (lv' := [(2, .int (kI (st_round S ln))), (0, .ref st), (1, .int (kI ((ln : Nat) : Int)))]) hx hb dX2_isSteady_5 rfl hl (by decide) rfl (fun ls hl => ?_)
  refine lv_iload_n hx hb dX2_isSteady_6 rfl (lv_at hl 0 rfl) ?_
  refine kx_iconst hx hb dX2_isSteady_7 ?_
  refine kx_icmp_eq (x := st_round S ln) (y := (-1)) (tgt := 51) hx hb dX2_isSteady_8 (by decide) (by omega) (by omega) (by omega) (by omega) (fun c_8_5 => ?_) (fun c_8_5 => ?_)
  · -- taken at 8
    refine kx_iconst hx hb dX2_isSteady_51 ?_
    refine lv_goto (tgt := 56) hx hb dX2_isSteady_52 (by decide) ?_
    exact kx_zret (z := true) hx hb hr hlk (⟨rfl, by unfold st_steady apart; grind⟩) hS_2 dX2_isSteady_56
  · -- not taken at 8
    refine lv_aload_n hx hb dX2_isSteady_11 rfl (lv_at hl 1 rfl) ?_
    refine kx_get (v := .ref la) (C := RX2) (T := TX2) (N := 2) hx hb hts in_X2 hown hK hO_st rfl 0 (by decide) q167 (fun _ h9 => h9) rfl dX2_isSteady_12 ?_
    refine lv_iload_n hx hb dX2_isSteady_15 rfl (lv_at hl 2 rfl) ?_
    refine kx_cFr0 (va_runF (C := RJ2) (As := [.int (kI ((ln : Nat) : Int))]) (rest := []) (hK.at (ci := 9) rfl) ⟨hx, hb, hml, hown, hts⟩ (m_get l D s.heap la mc ea S.length F ln hO_la hP_kLs_ea (by first | assumption | omega)) (va_cwF (x := ({ cls := "java/util/List", name := "get", desc := "(I)Ljava/lang/Object;" } : Jvm.MethodName)) 1 hts (lw_F q289 q292 q294 q83 q296) rfl rfl rfl (hK.fw (by decide)) (by decide +kernel) ⟨Nat.le_of_ble_eq_true rfl, Nat.le_of_ble_eq_true rfl⟩) (kx_pv hK hS_2 hB (kx_rc hK hO_la (C := RJ2) (T := TJ2) (N := 3) rfl)) rfl rfl hl.1 rfl (lv_room (Nat.le_of_ble_eq_true rfl)) dX2_isSteady_16 ⟨by first | exact Nat.le_of_ble_eq_true rfl | omega | (show _ ≤ _; omega) | (dsimp only [headSpec]; omega), by first | exact Nat.le_of_ble_eq_true rfl | omega | (show _ ≤ _; omega) | (dsimp only [headSpec]; omega)⟩) hS_2 (fun z_9 locs_6 hz_8 hS_7 => ?_)
    subst z_9
    obtain ⟨ea_10, gp_10, gs_10, ho_10, hp_10, hs_10, he_10, hm_10⟩ := (hP_kLn_F ln (hln))
    refine kx_castS hx hb hts hown q307 hK ho_10 rfl dX2_isSteady_21 ?_
    refine kx_get (v := .int (kI (ln_lv (st_ln S ln)))) (C := RX4) (T := TX4) (N := 6) hx hb hts in_X4 hown hK ho_10 rfl 0 (by decide) q334 (fun _ h9 => h9) rfl dX2_isSteady_24 ?_
    refine lv_aload_n hx hb dX2_isSteady_27 rfl (lv_at hl 1 rfl) ?_
    refine kx_get (v := .ref la) (C := RX2) (T := TX2) (N := 2) hx hb hts in_X2 hown hK hO_st rfl 0 (by decide) q167 (fun _ h9 => h9) rfl dX2_isSteady_28 ?_
    refine lv_iload_n hx hb dX2_isSteady_31 rfl (lv_at hl 0 rfl) ?_
    refine kx_eqi ((((st_round S ln).toNat : Nat) : Int)) (by omega) ?_
    refine kx_cFr0 (va_runF (C := RJ2) (As := [.int (kI (((st_round S ln).toNat : Nat) : Int))]) (rest := [.int (kI (ln_lv (st_ln S ln)))]) (hK.at (ci := 9) rfl) ⟨hx, hb, hml, hown, hts⟩ (m_get l D s.heap la mc ea S.length F ((st_round S ln).toNat) hO_la hP_kLs_ea (by first | assumption | omega)) (va_cwF (x := ({ cls := "java/util/List", name := "get", desc := "(I)Ljava/lang/Object;" } : Jvm.MethodName)) 1 hts (lw_F q289 q292 q294 q83 q296) rfl rfl rfl (hK.fw (by decide)) (by decide +kernel) ⟨Nat.le_of_ble_eq_true rfl, Nat.le_of_ble_eq_true rfl⟩) (kx_pv hK hS_7 hB (kx_rc hK hO_la (C := RJ2) (T := TJ2) (N := 3) rfl)) rfl rfl hl.1 rfl (lv_room (Nat.le_of_ble_eq_true rfl)) dX2_isSteady_32 ⟨by first | exact Nat.le_of_ble_eq_true rfl | omega | (show _ ≤ _; omega) | (dsimp only [headSpec]; omega), by first | exact Nat.le_of_ble_eq_true rfl | omega | (show _ ≤ _; omega) | (dsimp only [headSpec]; omega)⟩) hS_7 (fun z_14 locs_11 hz_13 hS_12 => ?_)
    subst z_14
    obtain ⟨ea_15, gp_15, gs_15, ho_15, hp_15, hs_15, he_15, hm_15⟩ := (hP_kLn_F ((st_round S ln).toNat) (by omega))
    have hlv8 := (hok.ln (by omega : (st_round S ln).toNat < S.length)).lv
    refine kx_castS hx hb hts hown q307 hK ho_15 rfl dX2_isSteady_37 ?_
    refine kx_get (v := .int (kI (ln_lv (st_ln S ((st_round S ln).toNat))))) (C := RX4) (T := TX4) (N := 6) hx hb hts in_X4 hown hK ho_15 rfl 0 (by decide) q334 (fun _ h9 => h9) rfl dX2_isSteady_40 ?_
    refine kx_isub hx hb dX2_isSteady_43 ?_
    refine kx_ci0 (va_runSN (As := [.int (kI ((ln_lv (st_ln S ln) - ln_lv (st_ln S ((st_round S ln).toNat)))))]) (rest := []) ⟨hx, hb, hml, hown, hts⟩ (m_X1_size l D s.heap ((ln_lv (st_ln S ln) - ln_lv (st_ln S ((st_round S ln).toNat))))  (by first | assumption | omega)) ⟨va_cnB 1 hts (lw_meth q1147) rfl rfl rfl (hK.w q2152 rfl) (hts _ q79) (by decide +kernel) ⟨Nat.le_of_ble_eq_true rfl, Nat.le_of_ble_eq_true rfl⟩, hts _ q1146, trivial⟩ (kx_ps hK hS_12 hB) rfl rfl hl.1 rfl (lv_room (Nat.le_of_ble_eq_true rfl)) dX2_isSteady_44 ⟨by first | exact Nat.le_of_ble_eq_true rfl | omega | (show _ ≤ _; omega) | (dsimp only [headSpec]; omega), by first | exact Nat.le_of_ble_eq_true rfl | omega | (show _ ≤ _; omega) | (dsimp only [headSpec]; omega)⟩) hS_12 (fun z_19 locs_16 hz_18 hS_17 => ?_)
    subst z_19
    refine kx_iconst hx hb dX2_isSteady_47 ?_
    refine kx_icmp_ne (x := (if ((ln_lv (st_ln S ln) - ln_lv (st_ln S ((st_round S ln).toNat)))) < 0 then -((ln_lv (st_ln S ln) - ln_lv (st_ln S ((st_round S ln).toNat)))) else ((ln_lv (st_ln S ln) - ln_lv (st_ln S ((st_round S ln).toNat)))))) (y := 5) (tgt := 55) hx hb dX2_isSteady_48 (by decide) (by omega) (by omega) (by omega) (by omega) (fun c_48_20 => ?_) (fun c_48_20 => ?_)
    · -- taken at 48
      refine kx_iconst hx hb dX2_isSteady_55 ?_
      exact kx_zret (z := false) hx hb hr hlk (⟨rfl, by unfold st_steady apart; grind⟩) hS_17 dX2_isSteady_56
    · -- not taken at 48
      refine kx_iconst hx hb dX2_isSteady_51 ?_
      refine lv_goto (tgt := 56) hx hb dX2_isSteady_52 (by decide) ?_
      exact kx_zret (z := true) hx hb hr hlk (⟨rfl, by unfold st_steady apart; grind⟩) hS_17 dX2_isSteady_56

set_option maxHeartbeats 4000000 in
set_option maxRecDepth 100000 in
theorem m_X2_tooNear (l : Launch) (D : kG) (H : Heap) (st : Nat) (la : Nat) (mc : Int) (ea : Nat) (F : Fts) (S : Ls) (gap : Int) (hO_st : kO D H st 1 [.ref la, .int (kI (gap))]) (hO_la : kO D H la 9 [.int (kI (mc)), .ref ea, .int (kI ((S.length : Nat) : Int))]) (hP_kLs_ea : kLs D H ea S.length F) (hP_kLn_F : kLn D H F S) (hok : LsOK S gap) : Met l yX2_tooNear (ws_ yX2_tooNear cX2_tooNear 5 (some .int)) ({ frames := 3, cells := 0, slots := 0, locals := 69 } : Room) (kPre D H [.ref st]) (kQi (fun (r : Int) H' => H' = H ∧ r = st_near S gap) kNO) (0) (0) (kNO) := by
  refine Met.ofW (cc := cX2_tooNear) (maxL := 5) (ret := (some .int)) (by decide) rfl ?_
  intro p e s m args below meth c s₁ B hml hv
  obtain ⟨rfl, hH, hK⟩ := hv
  subst hH
  have hx := B.exec
  have hb := B.bytes
  have hr := B.returns
  have hts := atoms_spec (ws := ws_ yX2_tooNear cX2_tooNear 5 (some .int)) B.pre
  have hts : ∀ w ∈ lw_all, w.before _ s = true := fun w h => hts w (List.mem_cons_of_mem _ h)
  have hown : s.vm.findClass RX2 = some m.cls := findClass_of_methodNamed B.named
  have hlk := B.notSynchronized
  have hS : va_S kNO s.heap s.heap [] := va_S.rf
  have hB : ∀ q, kNO q → kBase D ≤ q := fun _ h => h.elim
  have hl := lv_entry ([.ref st]) (n := 5) (Nat.le_of_ble_eq_true rfl)
  rw [lg_entry_eq]
  generalize (lg_sl ([.ref st]) ++ List.replicate (5 - (lg_sl ([.ref st])).length) Slot.unset).toArray = ls at hl ⊢
  have hl : lv_has ls 5 [(0, .ref st)] := hl
  have hL8 := hok.1
  have hgr9 := hok.2.1
  refine kx_iconst hx hb dX2_tooNear_0 ?_
  refine lv_istore_n (lv' := [(1, .int (kI (0))), (0, .ref st)]) hx hb dX2_tooNear_1 rfl hl (by decide) rfl (fun ls hl => ?_)
  refine kx_iconst hx hb dX2_tooNear_2 ?_
  refine lv_istore_n (lv' := [(2, .int (kI (0))), (1, .int (kI (0))), (0, .ref st)]) hx hb dX2_tooNear_3 rfl hl (by decide) rfl (fun ls hl => ?_)
  have lp_4_x_1 : ∀ (n_4 : Nat) (i : Nat) (sm : Int) (hi : i ≤ S.length) (hsm : sm = cnTo S gap S.length i) (locs : List Loc) (hS : va_S kNO s.heap s.heap locs) (hm_4 : S.length - i < n_4) (ls : Array Slot), lv_has ls 5 [(0, .ref st), (1, .int (kI (sm))), (2, .int (kI ((i : Nat) : Int)))] → W p l e (headSpec (ws_ yX2_tooNear cX2_tooNear 5 (some .int)) ({ frames := 3, cells := 0, slots := 0, locals := 69 } : Room)).room s m ([.ref st] : List Value).toArray below meth c s.heap locs (0) (0) (MQ below (kQi (fun (r : Int) H' => H' = s.heap ∧ r = st_near S gap) kNO) ([.ref st] : List Value).toArray s (0) (0) (kNO)) (F0 m 4 ls []) := by
    intro n_4
    induction n_4 with
    | zero => intro i sm hi hsm locs hS hm_4; exact absurd hm_4 (Nat.not_lt_zero _)
    | succ n_4 ih_4 =>
      intro i sm hi hsm locs hS hm_4 ls hl
      refine lv_iload_n hx hb dX2_tooNear_4 rfl (lv_at hl 2 rfl) ?_
      refine lv_aload_n hx hb dX2_tooNear_5 rfl (lv_at hl 0 rfl) ?_
      refine kx_get (v := .ref la) (C := RX2) (T := TX2) (N := 2) hx hb hts in_X2 hown hK hO_st rfl 0 (by decide) q167 (fun _ h9 => h9) rfl dX2_tooNear_6 ?_
      refine kx_cFi0 (va_runF (C := RJ2) (As := []) (rest := [.int (kI ((i : Nat) : Int))]) (hK.at (ci := 9) rfl) ⟨hx, hb, hml, hown, hts⟩ (m_J2_size l D s.heap la mc ea S.length hO_la ) (va_cwF (x := ({ cls := "java/util/List", name := "size", desc := "()I" } : Jvm.MethodName)) 0 hts (lw_F q279 q283 q285 q83 q287) rfl rfl rfl (hK.fw (by decide)) (by decide +kernel) ⟨Nat.le_of_ble_eq_true rfl, Nat.le_of_ble_eq_true rfl⟩) (kx_pv hK hS hB (kx_rc hK hO_la (C := RJ2) (T := TJ2) (N := 3) rfl)) rfl rfl hl.1 rfl (lv_room (Nat.le_of_ble_eq_true rfl)) dX2_tooNear_9 ⟨by first | exact Nat.le_of_ble_eq_true rfl | omega | (show _ ≤ _; omega) | (dsimp only [headSpec]; omega), by first | exact Nat.le_of_ble_eq_true rfl | omega | (show _ ≤ _; omega) | (dsimp only [headSpec]; omega)⟩) hS (fun z_5 locs_2 hz_4 hS_3 => ?_)
      subst z_5
      refine kx_icmp_ge (x := ((i : Nat) : Int)) (y := ((S.length : Nat) : Int)) (tgt := 158) hx hb dX2_tooNear_14 (by decide) (by omega) (by omega) (by omega) (by omega) (fun c_14_6 => ?_) (fun c_14_6 => ?_)
      · -- taken at 14
        refine lv_iload_n hx hb dX2_tooNear_158 rfl (lv_at hl 1 rfl) ?_
        exact kx_iret (z := sm) hx hb hr hlk (⟨rfl, by rw [near_cn, hsm, show i = S.length by omega]⟩) hS_3 dX2_tooNear_159
      · -- not taken at 14
        refine lv_iload_n hx hb dX2_tooNear_17 rfl (lv_at hl 2 rfl) ?_
        refine kx_iconst hx hb dX2_tooNear_18 ?_
        refine kx_iadd hx hb dX2_tooNear_19 ?_
        refine kx_eqi (((i + 1 + 0 : Nat) : Int)) (by omega) ?_
        refine lv_istore_n (lv' := [(3, .int (kI ((i + 1 + 0 : Nat) : Int))), (0, .ref st), (1, .int (kI (sm))), (2, .int (kI ((i : Nat) : Int)))]) hx hb dX2_tooNear_20 rfl hl (by decide) rfl (fun ls hl => ?_)
        have lp_21_x_7 : ∀ (n_21 : Nat) (j : Nat) (s2 : Int) (hj : i + 1 ≤ j ∧ j ≤ S.length) (hs2 : s2 = sm + sm1 (fun j => nr S gap i (i + 1 + j)) (j - (i + 1))) (locs : List Loc) (hS : va_S kNO s.heap s.heap locs) (hm_21 : S.length - j < n_21) (ls : Array Slot), lv_has ls 5 [(0, .ref st), (1, .int (kI (s2))), (2, .int (kI ((i : Nat) : Int))), (3, .int (kI ((j : Nat) : Int)))] → W p l e (headSpec (ws_ yX2_tooNear cX2_tooNear 5 (some .int)) ({ frames := 3, cells := 0, slots := 0, locals := 69 } : Room)).room s m ([.ref st] : List Value).toArray below meth c s.heap locs (0) (0) (MQ below (kQi (fun (r : Int) H' => H' = s.heap ∧ r = st_near S gap) kNO) ([.ref st] : List Value).toArray s (0) (0) (kNO)) (F0 m 21 ls []) := by
          intro n_21
          induction n_21 with
          | zero => intro j s2 hj hs2 locs hS hm_21; exact absurd hm_21 (Nat.not_lt_zero _)
          | succ n_21 ih_21 =>
            intro j s2 hj hs2 locs hS hm_21 ls hl
            refine lv_iload_n hx hb dX2_tooNear_21 rfl (lv_at hl 3 rfl) ?_
            refine lv_aload_n hx hb dX2_tooNear_22 rfl (lv_at hl 0 rfl) ?_
            refine kx_get (v := .ref la) (C := RX2) (T := TX2) (N := 2) hx hb hts in_X2 hown hK hO_st rfl 0 (by decide) q167 (fun _ h9 => h9) rfl dX2_tooNear_23 ?_
            refine kx_cFi0 (va_runF (C := RJ2) (As := []) (rest := [.int (kI ((j : Nat) : Int))]) (hK.at (ci := 9) rfl) ⟨hx, hb, hml, hown, hts⟩ (m_J2_size l D s.heap la mc ea S.length hO_la ) (va_cwF (x := ({ cls := "java/util/List", name := "size", desc := "()I" } : Jvm.MethodName)) 0 hts (lw_F q279 q283 q285 q83 q287) rfl rfl rfl (hK.fw (by decide)) (by decide +kernel) ⟨Nat.le_of_ble_eq_true rfl, Nat.le_of_ble_eq_true rfl⟩) (kx_pv hK hS hB (kx_rc hK hO_la (C := RJ2) (T := TJ2) (N := 3) rfl)) rfl rfl hl.1 rfl (lv_room (Nat.le_of_ble_eq_true rfl)) dX2_tooNear_26 ⟨by first | exact Nat.le_of_ble_eq_true rfl | omega | (show _ ≤ _; omega) | (dsimp only [headSpec]; omega), by first | exact Nat.le_of_ble_eq_true rfl | omega | (show _ ≤ _; omega) | (dsimp only [headSpec]; omega)⟩) hS (fun z_11 locs_8 hz_10 hS_9 => ?_)
            subst z_11
            refine kx_icmp_ge (x := ((j : Nat) : Int)) (y := ((S.length : Nat) : Int)) (tgt := 152) hx hb dX2_tooNear_31 (by decide) (by omega) (by omega) (by omega) (by omega) (fun c_31_12 => ?_) (fun c_31_12 => ?_)
            · -- taken at 31
              refine lv_iinc (v := kI (((i + 1 : Nat) : Int))) (lv' := [(2, .int (kI ((i + 1 : Nat) : Int))), (0, .ref st), (1, .int (kI (s2))), (3, .int (kI ((j : Nat) : Int)))]) hx hb dX2_tooNear_152 hl (k := 2) rfl (kI_incN _ _) (by decide) rfl (fun ls hl => ?_)
              refine lv_goto (tgt := 4) hx hb dX2_tooNear_155 (by decide) ?_
              exact ih_4  ((i + 1)) s2 (by first | assumption | omega | (simp_all; done) | grind) (by rw [hs2, show j = i + 1 + (S.length - (i + 1)) by omega]; unfold cnTo; rw [sm1, hsm, show i + 1 + (S.length - (i + 1)) - (i + 1) = S.length - (i + 1) by omega]; rfl) _ hS_9 (by omega) ls (lv_sub hl [1, 2, 0] rfl)
            · -- not taken at 31
              refine lv_aload_n hx hb dX2_tooNear_34 rfl (lv_at hl 0 rfl) ?_
              refine kx_get (v := .ref la) (C := RX2) (T := TX2) (N := 2) hx hb hts in_X2 hown hK hO_st rfl 0 (by decide) q167 (fun _ h9 => h9) rfl dX2_tooNear_35 ?_
              refine lv_iload_n hx hb dX2_tooNear_38 rfl (lv_at hl 2 rfl) ?_
              refine kx_cFr0 (va_runF (C := RJ2) (As := [.int (kI ((i : Nat) : Int))]) (rest := []) (hK.at (ci := 9) rfl) ⟨hx, hb, hml, hown, hts⟩ (m_get l D s.heap la mc ea S.length F i hO_la hP_kLs_ea (by first | assumption | omega)) (va_cwF (x := ({ cls := "java/util/List", name := "get", desc := "(I)Ljava/lang/Object;" } : Jvm.MethodName)) 1 hts (lw_F q289 q292 q294 q83 q296) rfl rfl rfl (hK.fw (by decide)) (by decide +kernel) ⟨Nat.le_of_ble_eq_true rfl, Nat.le_of_ble_eq_true rfl⟩) (kx_pv hK hS_9 hB (kx_rc hK hO_la (C := RJ2) (T := TJ2) (N := 3) rfl)) rfl rfl hl.1 rfl (lv_room (Nat.le_of_ble_eq_true rfl)) dX2_tooNear_39 ⟨by first | exact Nat.le_of_ble_eq_true rfl | omega | (show _ ≤ _; omega) | (dsimp only [headSpec]; omega), by first | exact Nat.le_of_ble_eq_true rfl | omega | (show _ ≤ _; omega) | (dsimp only [headSpec]; omega)⟩) hS_9 (fun z_16 locs_13 hz_15 hS_14 => ?_)
              subst z_16
              obtain ⟨ea_17, gp_17, gs_17, ho_17, hp_17, hs_17, he_17, hm_17⟩ := (hP_kLn_F i (by omega))
              have hlbi9 := (hok.ln (by omega : i < S.length)).lbr
              refine kx_castS hx hb hts hown q307 hK ho_17 rfl dX2_tooNear_44 ?_
              refine kx_get (v := .int (kI (ln_lb (st_ln S i)))) (C := RX4) (T := TX4) (N := 6) hx hb hts in_X4 hown hK ho_17 rfl 5 (by decide) q349 (fun _ h9 => h9) rfl dX2_tooNear_47 ?_
              refine kx_iconst hx hb dX2_tooNear_50 ?_
              refine kx_icmp_eq (x := ln_lb (st_ln S i)) (y := (-1)) (tgt := 78) hx hb dX2_tooNear_51 (by decide) (by omega) (by omega) (by omega) (by omega) (fun c51 => ?_) (fun c51 => ?_)
              · -- taken at 51
                refine kx_iconst hx hb dX2_tooNear_78 ?_
                refine lv_istore (lv' := [(4, .int (kI (0))), (0, .ref st), (1, .int (kI (s2))), (2, .int (kI ((i : Nat) : Int))), (3, .int (kI ((j : Nat) : Int)))]) hx hb dX2_tooNear_79 hl (by decide) rfl (fun ls hl => ?_)
                refine lv_iload_n hx hb dX2_tooNear_81 rfl (lv_at hl 2 rfl) ?_
                refine lv_iload hx hb dX2_tooNear_82 (lv_at hl 0 rfl) ?_
                refine kx_if_eq (x := 0) (tgt := 143) hx hb dX2_tooNear_84 (by decide) (by omega) (by omega) (fun c_84_18 => ?_) (fun c_84_18 => ?_)
                · -- taken at 84
                  refine kx_iconst hx hb dX2_tooNear_143 ?_
                  refine kx_iadd hx hb dX2_tooNear_144 ?_
                  refine lv_istore_n (lv' := [(1, .int (kI ((s2 + 0)))), (4, .int (kI (0))), (0, .ref st), (2, .int (kI ((i : Nat) : Int))), (3, .int (kI ((j : Nat) : Int)))]) hx hb dX2_tooNear_145 rfl hl (by decide) rfl (fun ls hl => ?_)
                  refine lv_iinc (v := kI (((j + 1 : Nat) : Int))) (lv' := [(3, .int (kI ((j + 1 : Nat) : Int))), (1, .int (kI ((s2 + 0)))), (4, .int (kI (0))), (0, .ref st), (2, .int (kI ((i : Nat) : Int)))]) hx hb dX2_tooNear_146 hl (k := 4) rfl (kI_incN _ _) (by decide) rfl (fun ls hl => ?_)
                  refine lv_goto (tgt := 21) hx hb dX2_tooNear_149 (by decide) ?_
                  exact ih_21  ((j + 1)) ((s2 + 0)) (by first | assumption | omega | (simp_all; done) | grind) (by rw [show j + 1 - (i + 1) = (j - (i + 1)) + 1 by omega, sm1, show i + 1 + (j - (i + 1)) = j by omega, hs2]; unfold nr; first | (rw [if_pos ⟨by assumption, by assumption, by assumption⟩]; omega) | (rw [if_neg (fun z => by obtain ⟨z1, z2, z3⟩ := z; omega)]; omega)) _ hS_14 (by omega) ls (lv_sub hl [3, 1, 4, 0] rfl)
                · -- not taken at 84
                  exfalso; omega
              · -- not taken at 51
                refine lv_aload_n hx hb dX2_tooNear_54 rfl (lv_at hl 0 rfl) ?_
                refine kx_get (v := .ref la) (C := RX2) (T := TX2) (N := 2) hx hb hts in_X2 hown hK hO_st rfl 0 (by decide) q167 (fun _ h9 => h9) rfl dX2_tooNear_55 ?_
                refine lv_iload_n hx hb dX2_tooNear_58 rfl (lv_at hl 3 rfl) ?_
                refine kx_cFr0 (va_runF (C := RJ2) (As := [.int (kI ((j : Nat) : Int))]) (rest := []) (hK.at (ci := 9) rfl) ⟨hx, hb, hml, hown, hts⟩ (m_get l D s.heap la mc ea S.length F j hO_la hP_kLs_ea (by first | assumption | omega)) (va_cwF (x := ({ cls := "java/util/List", name := "get", desc := "(I)Ljava/lang/Object;" } : Jvm.MethodName)) 1 hts (lw_F q289 q292 q294 q83 q296) rfl rfl rfl (hK.fw (by decide)) (by decide +kernel) ⟨Nat.le_of_ble_eq_true rfl, Nat.le_of_ble_eq_true rfl⟩) (kx_pv hK hS_14 hB (kx_rc hK hO_la (C := RJ2) (T := TJ2) (N := 3) rfl)) rfl rfl hl.1 rfl (lv_room (Nat.le_of_ble_eq_true rfl)) dX2_tooNear_59 ⟨by first | exact Nat.le_of_ble_eq_true rfl | omega | (show _ ≤ _; omega) | (dsimp only [headSpec]; omega), by first | exact Nat.le_of_ble_eq_true rfl | omega | (show _ ≤ _; omega) | (dsimp only [headSpec]; omega)⟩) hS_14 (fun z_22 locs_19 hz_21 hS_20 => ?_)
                subst z_22
                obtain ⟨ea_23, gp_23, gs_23, ho_23, hp_23, hs_23, he_23, hm_23⟩ := (hP_kLn_F j (by omega))
                have hlbj9 := (hok.ln (by omega : j < S.length)).lbr
                refine kx_castS hx hb hts hown q307 hK ho_23 rfl dX2_tooNear_64 ?_
                refine kx_get (v := .int (kI (ln_lb (st_ln S j)))) (C := RX4) (T := TX4) (N := 6) hx hb hts in_X4 hown hK ho_23 rfl 5 (by decide) q349 (fun _ h9 => h9) rfl dX2_tooNear_67 ?_
                refine kx_iconst hx hb dX2_tooNear_70 ?_
                refine kx_icmp_eq (x := ln_lb (st_ln S j)) (y := (-1)) (tgt := 78) hx hb dX2_tooNear_71 (by decide) (by omega) (by omega) (by omega) (by omega) (fun c71 => ?_) (fun c71 => ?_)
                · -- taken at 71
                  refine kx_iconst hx hb dX2_tooNear_78 ?_
                  refine lv_istore (lv' := [(4, .int (kI (0))), (0, .ref st), (1, .int (kI (s2))), (2, .int (kI ((i : Nat) : Int))), (3, .int (kI ((j : Nat) : Int)))]) hx hb dX2_tooNear_79 hl (by decide) rfl (fun ls hl => ?_)
                  refine lv_iload_n hx hb dX2_tooNear_81 rfl (lv_at hl 2 rfl) ?_
                  refine lv_iload hx hb dX2_tooNear_82 (lv_at hl 0 rfl) ?_
                  refine kx_if_eq (x := 0) (tgt := 143) hx hb dX2_tooNear_84 (by decide) (by omega) (by omega) (fun c_84_24 => ?_) (fun c_84_24 => ?_)
                  · -- taken at 84
                    refine kx_iconst hx hb dX2_tooNear_143 ?_
                    refine kx_iadd hx hb dX2_tooNear_144 ?_
                    refine lv_istore_n (lv' := [(1, .int (kI ((s2 + 0)))), (4, .int (kI (0))), (0, .ref st), (2, .int (kI ((i : Nat) : Int))), (3, .int (kI ((j : Nat) : Int)))]) hx hb dX2_tooNear_145 rfl hl (by decide) rfl (fun ls hl => ?_)
                    refine lv_iinc (v := kI (((j + 1 : Nat) : Int))) (lv' := [(3, .int (kI ((j + 1 : Nat) : Int))), (1, .int (kI ((s2 + 0)))), (4, .int (kI (0))), (0, .ref st), (2, .int (kI ((i : Nat) : Int)))]) hx hb dX2_tooNear_146 hl (k := 4) rfl (kI_incN _ _) (by decide) rfl (fun ls hl => ?_)
                    refine lv_goto (tgt := 21) hx hb dX2_tooNear_149 (by decide) ?_
                    exact ih_21  ((j + 1)) ((s2 + 0)) (by first | assumption | omega | (simp_all; done) | grind) (by rw [show j + 1 - (i + 1) = (j - (i + 1)) + 1 by omega, sm1, show i + 1 + (j - (i + 1)) = j by omega, hs2]; unfold nr; first | (rw [if_pos ⟨by assumption, by assumption, by assumption⟩]; omega) | (rw [if_neg (fun z => by obtain ⟨z1, z2, z3⟩ := z; omega)]; omega)) _ hS_20 (by omega) ls (lv_sub hl [3, 1, 4, 0] rfl)
                  · -- not taken at 84
                    exfalso; omega
                · -- not taken at 71
                  refine kx_iconst hx hb dX2_tooNear_74 ?_
                  refine lv_goto (tgt := 79) hx hb dX2_tooNear_75 (by decide) ?_
                  refine lv_istore (lv' := [(4, .int (kI (1))), (0, .ref st), (1, .int (kI (s2))), (2, .int (kI ((i : Nat) : Int))), (3, .int (kI ((j : Nat) : Int)))]) hx hb dX2_tooNear_79 hl (by decide) rfl (fun ls hl => ?_)
                  refine lv_iload_n hx hb dX2_tooNear_81 rfl (lv_at hl 2 rfl) ?_
                  refine lv_iload hx hb dX2_tooNear_82 (lv_at hl 0 rfl) ?_
                  refine kx_if_eq (x := 1) (tgt := 143) hx hb dX2_tooNear_84 (by decide) (by omega) (by omega) (fun c_84_25 => ?_) (fun c_84_25 => ?_)
                  · -- taken at 84
                    exfalso; omega
                  · -- not taken at 84
                    refine lv_aload_n hx hb dX2_tooNear_87 rfl (lv_at hl 1 rfl) ?_
                    refine kx_get (v := .ref la) (C := RX2) (T := TX2) (N := 2) hx hb hts in_X2 hown hK hO_st rfl 0 (by decide) q167 (fun _ h9 => h9) rfl dX2_tooNear_88 ?_
                    refine lv_iload_n hx hb dX2_tooNear_91 rfl (lv_at hl 3 rfl) ?_
                    refine kx_cFr0 (va_runF (C := RJ2) (As := [.int (kI ((i : Nat) : Int))]) (rest := [.int (kI (s2))]) (hK.at (ci := 9) rfl) ⟨hx, hb, hml, hown, hts⟩ (m_get l D s.heap la mc ea S.length F i hO_la hP_kLs_ea (by first | assumption | omega)) (va_cwF (x := ({ cls := "java/util/List", name := "get", desc := "(I)Ljava/lang/Object;" } : Jvm.MethodName)) 1 hts (lw_F q289 q292 q294 q83 q296) rfl rfl rfl (hK.fw (by decide)) (by decide +kernel) ⟨Nat.le_of_ble_eq_true rfl, Nat.le_of_ble_eq_true rfl⟩) (kx_pv hK hS_20 hB (kx_rc hK hO_la (C := RJ2) (T := TJ2) (N := 3) rfl)) rfl rfl hl.1 rfl (lv_room (Nat.le_of_ble_eq_true rfl)) dX2_tooNear_92 ⟨by first | exact Nat.le_of_ble_eq_true rfl | omega | (show _ ≤ _; omega) | (dsimp only [headSpec]; omega), by first | exact Nat.le_of_ble_eq_true rfl | omega | (show _ ≤ _; omega) | (dsimp only [headSpec]; omega)⟩) hS_20 (fun z_29 locs_26 hz_28 hS_27 => ?_)
                    subst z_29
                    obtain ⟨ea_30, gp_30, gs_30, ho_30, hp_30, hs_30, he_30, hm_30⟩ := (hP_kLn_F i (by omega))
                    refine kx_castS hx hb hts hown q307 hK ho_30 rfl dX2_tooNear_97 ?_
                    refine lv_aload_n hx hb dX2_tooNear_100 rfl (lv_at hl 1 rfl) ?_
                    refine kx_get (v := .ref la) (C := RX2) (T := TX2) (N := 2) hx hb hts in_X2 hown hK hO_st rfl 0 (by decide) q167 (fun _ h9 => h9) rfl dX2_tooNear_101 ?_
                    refine lv_iload_n hx hb dX2_tooNear_104 rfl (lv_at hl 3 rfl) ?_
                    refine kx_cFr0 (va_runF (C := RJ2) (As := [.int (kI ((i : Nat) : Int))]) (rest := [.ref (fA F i), .int (kI (s2))]) (hK.at (ci := 9) rfl) ⟨hx, hb, hml, hown, hts⟩ (m_get l D s.heap la mc ea S.length F i hO_la hP_kLs_ea (by first | assumption | omega)) (va_cwF (x := ({ cls := "java/util/List", name := "get", desc := "(I)Ljava/lang/Object;" } : Jvm.MethodName)) 1 hts (lw_F q289 q292 q294 q83 q296) rfl rfl rfl (hK.fw (by decide)) (by decide +kernel) ⟨Nat.le_of_ble_eq_true rfl, Nat.le_of_ble_eq_true rfl⟩) (kx_pv hK hS_27 hB (kx_rc hK hO_la (C := RJ2) (T := TJ2) (N := 3) rfl)) rfl rfl hl.1 rfl (lv_room (Nat.le_of_ble_eq_true rfl)) dX2_tooNear_105 ⟨by first | exact Nat.le_of_ble_eq_true rfl | omega | (show _ ≤ _; omega) | (dsimp only [headSpec]; omega), by first | exact Nat.le_of_ble_eq_true rfl | omega | (show _ ≤ _; omega) | (dsimp only [headSpec]; omega)⟩) hS_27 (fun z_34 locs_31 hz_33 hS_32 => ?_)
                    subst z_34
                    obtain ⟨ea_35, gp_35, gs_35, ho_35, hp_35, hs_35, he_35, hm_35⟩ := (hP_kLn_F i (by omega))
                    refine kx_castS hx hb hts hown q307 hK ho_35 rfl dX2_tooNear_110 ?_
                    refine kx_get (v := .int (kI (ln_lb (st_ln S i)))) (C := RX4) (T := TX4) (N := 6) hx hb hts in_X4 hown hK ho_35 rfl 5 (by decide) q349 (fun _ h9 => h9) rfl dX2_tooNear_113 ?_
                    refine kx_eqi ((((ln_lb (st_ln S i)).toNat : Nat) : Int)) (by omega) ?_
                    refine lv_aload_n hx hb dX2_tooNear_116 rfl (lv_at hl 1 rfl) ?_
                    refine kx_get (v := .ref la) (C := RX2) (T := TX2) (N := 2) hx hb hts in_X2 hown hK hO_st rfl 0 (by decide) q167 (fun _ h9 => h9) rfl dX2_tooNear_117 ?_
                    refine lv_iload_n hx hb dX2_tooNear_120 rfl (lv_at hl 4 rfl) ?_
                    refine kx_cFr0 (va_runF (C := RJ2) (As := [.int (kI ((j : Nat) : Int))]) (rest := [.int (kI (((ln_lb (st_ln S i)).toNat : Nat) : Int)), .ref (fA F i), .int (kI (s2))]) (hK.at (ci := 9) rfl) ⟨hx, hb, hml, hown, hts⟩ (m_get l D s.heap la mc ea S.length F j hO_la hP_kLs_ea (by first | assumption | omega)) (va_cwF (x := ({ cls := "java/util/List", name := "get", desc := "(I)Ljava/lang/Object;" } : Jvm.MethodName)) 1 hts (lw_F q289 q292 q294 q83 q296) rfl rfl rfl (hK.fw (by decide)) (by decide +kernel) ⟨Nat.le_of_ble_eq_true rfl, Nat.le_of_ble_eq_true rfl⟩) (kx_pv hK hS_32 hB (kx_rc hK hO_la (C := RJ2) (T := TJ2) (N := 3) rfl)) rfl rfl hl.1 rfl (lv_room (Nat.le_of_ble_eq_true rfl)) dX2_tooNear_121 ⟨by first | exact Nat.le_of_ble_eq_true rfl | omega | (show _ ≤ _; omega) | (dsimp only [headSpec]; omega), by first | exact Nat.le_of_ble_eq_true rfl | omega | (show _ ≤ _; omega) | (dsimp only [headSpec]; omega)⟩) hS_32 (fun z_39 locs_36 hz_38 hS_37 => ?_)
                    subst z_39
                    obtain ⟨ea_40, gp_40, gs_40, ho_40, hp_40, hs_40, he_40, hm_40⟩ := (hP_kLn_F j (by omega))
                    have hpl9 : (ln_lb (st_ln S i)).toNat + ln_size (st_ln S i) - 1 ≤ ln_n (st_ln S i) := by have h8 := lb_place (hok.ln (by omega : i < S.length)) (by assumption); omega
                    refine kx_castS hx hb hts hown q307 hK ho_40 rfl dX2_tooNear_126 ?_
                    refine kx_ci0 (va_runV (As := [.int (kI (((ln_lb (st_ln S i)).toNat : Nat) : Int)), .ref (fA F j)]) (rest := [.int (kI (s2))]) ⟨hx, hb, hml, hown, hts⟩ (m_X4_far l D s.heap (fA F i) (fP F i) (fS F i) ea_35 gp_35 gs_35 ((st_ln S i)) ((ln_lb (st_ln S i)).toNat) (fA F j) (fP F j) (fS F j) ea_40 gp_40 gs_40 ((st_ln S j)) ho_35 hp_35 hs_35 ho_40 hp_40 hs_40 (by first | assumption | omega) ((hok.ln (by omega : i < S.length))) hpl9 (by first | assumption | omega) ((hok.ln (by omega : j < S.length))) ((by assumption))) (cwV 2 hts (lw_V q1162 q1163 q1164 q99 q1165) rfl rfl rfl (by decide +kernel) ⟨Nat.le_of_ble_eq_true rfl, Nat.le_of_ble_eq_true rfl⟩) (kx_pv hK hS_37 hB (kx_rc hK ho_35 (C := RX4) (T := TX4) (N := 6) rfl)) rfl rfl hl.1 rfl (lv_room (Nat.le_of_ble_eq_true rfl)) dX2_tooNear_129 ⟨by first | exact Nat.le_of_ble_eq_true rfl | omega | (show _ ≤ _; omega) | (dsimp only [headSpec]; omega), by first | exact Nat.le_of_ble_eq_true rfl | omega | (show _ ≤ _; omega) | (dsimp only [headSpec]; omega)⟩) hS_37 (fun z_44 locs_41 hz_43 hS_42 => ?_)
                    subst z_44
                    have hbt9 := between_rng (hok.ln (by omega : i < S.length)) (hok.ln (by omega : j < S.length)) (lb_place (hok.ln (by omega : i < S.length)) (by assumption)).1 (lb_place (hok.ln (by omega : j < S.length)) (by assumption)).1
                    refine lv_aload_n hx hb dX2_tooNear_132 rfl (lv_at hl 1 rfl) ?_
                    refine kx_get (v := .int (kI (gap))) (C := RX2) (T := TX2) (N := 2) hx hb hts in_X2 hown hK hO_st rfl 1 (by decide) q170 (fun _ h9 => h9) rfl dX2_tooNear_133 ?_
                    refine kx_icmp_ge (x := between (st_ln S i) ((ln_lb (st_ln S i)).toNat) (st_ln S j) (ln_lb (st_ln S j)).toNat) (y := gap) (tgt := 143) hx hb dX2_tooNear_136 (by decide) (by omega) (by omega) (by omega) (by omega) (fun c136 => ?_) (fun c136 => ?_)
                    · -- taken at 136
                      refine kx_iconst hx hb dX2_tooNear_143 ?_
                      refine kx_iadd hx hb dX2_tooNear_144 ?_
                      refine lv_istore_n (lv' := [(1, .int (kI ((s2 + 0)))), (4, .int (kI (1))), (0, .ref st), (2, .int (kI ((i : Nat) : Int))), (3, .int (kI ((j : Nat) : Int)))]) hx hb dX2_tooNear_145 rfl hl (by decide) rfl (fun ls hl => ?_)
                      refine lv_iinc (v := kI (((j + 1 : Nat) : Int))) (lv' := [(3, .int (kI ((j + 1 : Nat) : Int))), (1, .int (kI ((s2 + 0)))), (4, .int (kI (1))), (0, .ref st), (2, .int (kI ((i : Nat) : Int)))]) hx hb dX2_tooNear_146 hl (k := 4) rfl (kI_incN _ _) (by decide) rfl (fun ls hl => ?_)
                      refine lv_goto (tgt := 21) hx hb dX2_tooNear_149 (by decide) ?_
                      exact ih_21  ((j + 1)) ((s2 + 0)) (by first | assumption | omega | (simp_all; done) | grind) (by rw [show j + 1 - (i + 1) = (j - (i + 1)) + 1 by omega, sm1, show i + 1 + (j - (i + 1)) = j by omega, hs2]; unfold nr; first | (rw [if_pos ⟨by assumption, by assumption, by assumption⟩]; omega) | (rw [if_neg (fun z => by obtain ⟨z1, z2, z3⟩ := z; omega)]; omega)) _ hS_42 (by omega) ls (lv_sub hl [3, 1, 4, 0] rfl)
                    · -- not taken at 136
                      refine kx_iconst hx hb dX2_tooNear_139 ?_
                      refine lv_goto (tgt := 144) hx hb dX2_tooNear_140 (by decide) ?_
                      refine kx_iadd hx hb dX2_tooNear_144 ?_
                      refine lv_istore_n (lv' := [(1, .int (kI ((s2 + 1)))), (4, .int (kI (1))), (0, .ref st), (2, .int (kI ((i : Nat) : Int))), (3, .int (kI ((j : Nat) : Int)))]) hx hb dX2_tooNear_145 rfl hl (by decide) rfl (fun ls hl => ?_)
                      refine lv_iinc (v := kI (((j + 1 : Nat) : Int))) (lv' := [(3, .int (kI ((j + 1 : Nat) : Int))), (1, .int (kI ((s2 + 1)))), (4, .int (kI (1))), (0, .ref st), (2, .int (kI ((i : Nat) : Int)))]) hx hb dX2_tooNear_146 hl (k := 4) rfl (kI_incN _ _) (by decide) rfl (fun ls hl => ?_)
                      refine lv_goto (tgt := 21) hx hb dX2_tooNear_149 (by decide) ?_
                      exact ih_21  ((j + 1)) ((s2 + 1)) (by first | assumption | omega | (simp_all; done) | grind) (by rw [show j + 1 - (i + 1) = (j - (i + 1)) + 1 by omega, sm1, show i + 1 + (j - (i + 1)) = j by omega, hs2]; unfold nr; first | (rw [if_pos ⟨by assumption, by assumption, by assumption⟩]; omega) | (rw [if_neg (fun z => by obtain ⟨z1, z2, z3⟩ := z; omega)]; omega)) _ hS_42 (by omega) ls (lv_sub hl [3, 1, 4, 0] rfl)
        exact lp_21_x_7 (S.length - (((i + 1))) + 1) ((i + 1)) sm (by first | assumption | omega | (simp_all; done) | grind) (by rw [show i + 1 - (i + 1) = 0 by omega]; simp [sm1]) _ hS_3 (Nat.lt_succ_self _) ls (lv_sub hl [1, 2, 3, 0] rfl)
  exact lp_4_x_1 (S.length - 0 + 1) 0 0 (by first | assumption | omega | (simp_all; done) | grind) (rfl) _ hS (Nat.lt_succ_self _) ls (lv_sub hl [2, 1, 0] rfl)

