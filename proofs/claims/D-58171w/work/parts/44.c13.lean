/-! MATH 29 -/
/-- the spreading finds a point beside the line iff the rays say that it is without (to be proved for good lines: SPR) -/
def SprOK (L : Ln) : Prop := ∀ g, FOut L g → ∀ x : Int, 0 ≤ x ∧ x ≤ 383 → ln_has L x = false → (g (f_spot x).toNat = 2 ↔ ln_rayTo L x (ln_n L) = false)
theorem spr_c {S : Ls} (hd : StDis S) {l : Nat} (hl : l < S.length) {x : Int} (h : ln_cl (st_ln S l) = false) : st_cont S l x = false := by rw [st_cont_eq hd hl, h]; rfl
theorem spr_h {S : Ls} (hd : StDis S) {l : Nat} (hl : l < S.length) {x : Int} (h : ln_has (st_ln S l) x = true) : st_cont S l x = false := by rw [st_cont_eq hd hl, h]; simp
theorem spr_f {S : Ls} (hd : StDis S) {l : Nat} (hl : l < S.length) {x : Int} {g : Nat → Int} (hs : SprOK (st_ln S l)) (ho : FOut (st_ln S l) g) (hx : 0 ≤ x ∧ x ≤ 383) (hh : ln_has (st_ln S l) x = false) (h : g (f_spot x).toNat = 2) : st_cont S l x = false := by
  rw [st_cont_eq hd hl, (hs g ho x hx hh).mp h]; simp
theorem spr_t {S : Ls} (hd : StDis S) {l : Nat} (hl : l < S.length) {x : Int} {g : Nat → Int} (hs : SprOK (st_ln S l)) (ho : FOut (st_ln S l) g) (hx : 0 ≤ x ∧ x ≤ 383) (hc : ln_cl (st_ln S l) = true) (hh : ln_has (st_ln S l) x = false) (h : ¬ g (f_spot x).toNat = 2) : st_cont S l x = true := by
  have hr : ln_rayTo (st_ln S l) x (ln_n (st_ln S l)) = true := by
    cases hq : ln_rayTo (st_ln S l) x (ln_n (st_ln S l)) with
    | true => rfl
    | false => exact absurd ((hs g ho x hx hh).mpr hq) h
  rw [st_cont_eq hd hl, hc, hh, hr]; rfl
set_option maxHeartbeats 4000000 in
set_option maxRecDepth 100000 in
theorem m_X2_isWithinBySpreading (l : Launch) (D : kG) (H : Heap) (st : Nat) (la : Nat) (mc : Int) (ea : Nat) (F : Fts) (S : Ls) (gap : Int) (ln : Nat) (x : Int) (hO_st : kO D H st 1 [.ref la, .int (kI (gap))]) (hO_la : kO D H la 9 [.int (kI (mc)), .ref ea, .int (kI ((S.length : Nat) : Int))]) (hP_kLs_ea : kLs D H ea S.length F) (hP_kLn_F : kLn D H F S) (hok : LsOK S gap) (hln : ln < S.length) (hpt : 0 ≤ x ∧ x ≤ 383) (hdis : StDis S) (hspr : ln_cl (st_ln S ln) = true → SprOK (st_ln S ln)) : Met l yX2_isWithinBySpreading (ws_ yX2_isWithinBySpreading cX2_isWithinBySpreading 4 (some .boolean)) ({ frames := 4, cells := 2, slots := 3570, locals := 104 } : Room) (kPre D H [.ref st, .int (kI ((ln : Nat) : Int)), .int (kI (x))]) (kQb (fun (r : Bool) H' => (r = st_cont S ln x) ∧ (True)) (kNW H)) (2) (3570) ((kNW H)) := by
  refine Met.ofW (cc := cX2_isWithinBySpreading) (maxL := 4) (ret := (some .boolean)) (by decide) rfl ?_
  intro p e s m args below meth c s₁ B hml hv
  obtain ⟨rfl, hH, hK⟩ := hv
  subst hH
  have hx := B.exec
  have hb := B.bytes
  have hr := B.returns
  have hts := atoms_spec (ws := ws_ yX2_isWithinBySpreading cX2_isWithinBySpreading 4 (some .boolean)) B.pre
  have hts : ∀ w ∈ lw_all, w.before _ s = true := fun w h => hts w (List.mem_cons_of_mem _ h)
  have hown : s.vm.findClass RX2 = some m.cls := findClass_of_methodNamed B.named
  have hlk := B.notSynchronized
  have hS : va_S (kNW s.heap) s.heap s.heap [] := va_S.rf
  have hB : ∀ q, (kNW s.heap) q → kBase D ≤ q := fun q h => Nat.le_trans hK.size h
  have hl := lv_entry ([.ref st, .int (kI ((ln : Nat) : Int)), .int (kI (x))]) (n := 4) (Nat.le_of_ble_eq_true rfl)
  rw [lg_entry_eq]
  generalize (lg_sl ([.ref st, .int (kI ((ln : Nat) : Int)), .int (kI (x))]) ++ List.replicate (4 - (lg_sl ([.ref st, .int (kI ((ln : Nat) : Int)), .int (kI (x))])).length) Slot.unset).toArray = ls at hl ⊢
  have hl : lv_has ls 4 [(0, .ref st), (1, .int (kI ((ln : Nat) : Int))), (2, .int (kI (x)))] := hl
  have hL8 := hok.1
  have hsp9 : f_spot x = 102 * (x / 24 + 1) + 2 * (x % 24 + 1) := rfl
  refine lv_aload_n hx hb dX2_isWithinBySpreading_0 rfl (lv_at hl 0 rfl) ?_
  refine kx_get (v := .ref la) (C := RX2) (T := TX2) (N := 2) hx hb hts in_X2 hown hK hO_st rfl 0 (by decide) q167 (fun _ h9 => h9) rfl dX2_isWithinBySpreading_1 ?_
  refine lv_iload_n hx hb dX2_isWithinBySpreading_4 rfl (lv_at hl 1 rfl) ?_
  refine kx_cFr0 (va_runF (C := RJ2) (As := [.int (kI ((ln : Nat) : Int))]) (rest := []) (hK.at (ci := 9) rfl) ⟨hx, hb, hml, hown, hts⟩ (m_get l D s.heap la mc ea S.length F ln hO_la hP_kLs_ea (by first | assumption | omega)) (va_cwF (x := ({ cls := "java/util/List", name := "get", desc := "(I)Ljava/lang/Object;" } : Jvm.MethodName)) 1 hts (lw_F q289 q292 q294 q83 q296) rfl rfl rfl (hK.fw (by decide)) (by decide +kernel) ⟨Nat.le_of_ble_eq_true rfl, Nat.le_of_ble_eq_true rfl⟩) (kx_pv hK hS hB (kx_rc hK hO_la (C := RJ2) (T := TJ2) (N := 3) rfl)) rfl rfl hl.1 rfl (lv_room (Nat.le_of_ble_eq_true rfl)) dX2_isWithinBySpreading_5 ⟨by first | exact Nat.le_of_ble_eq_true rfl | omega | (show _ ≤ _; omega) | (dsimp only [headSpec]; omega), by first | exact Nat.le_of_ble_eq_true rfl | omega | (show _ ≤ _; omega) | (dsimp only [headSpec]; omega)⟩) hS (fun z_4 locs_1 hz_3 hS_2 => ?_)
  subst z_4
  by_cases hcl9 : ln_cl (st_ln S ln) = true
  · -- hcl9 t
    obtain ⟨ea_5, gp_5, gs_5, ho_5, hp_5, hs_5, he_5, hm_5⟩ := (hP_kLn_F ln (hln)).closed_ hcl9
    refine kx_castS hx hb hts hown q307 hK ho_5 rfl dX2_isWithinBySpreading_10 ?_
    refine lv_astore_n (lv' := [(3, .ref (fA F ln)), (0, .ref st), (1, .int (kI ((ln : Nat) : Int))), (2, .int (kI (x)))]) hx hb dX2_isWithinBySpreading_13 rfl hl (by decide) rfl (fun ls hl => ?_)
    refine lv_aload_n hx hb dX2_isWithinBySpreading_14 rfl (lv_at hl 0 rfl) ?_
    refine kx_cb0 (va_runV (As := []) (rest := []) ⟨hx, hb, hml, hown, hts⟩ (m_isClosed_c l D s.heap (fA F ln) (fP F ln) (fS F ln) ea_5 ((st_ln S ln)) ho_5 he_5 ) (cwV 0 hts (lw_V q1695 q1696 q1697 q99 q1698) rfl rfl rfl (by decide +kernel) ⟨Nat.le_of_ble_eq_true rfl, Nat.le_of_ble_eq_true rfl⟩) (kx_pv hK hS_2 hB (kx_rc hK ho_5 (C := RX4) (T := TX4) (N := 6) rfl)) rfl rfl hl.1 rfl (lv_room (Nat.le_of_ble_eq_true rfl)) dX2_isWithinBySpreading_15 ⟨by first | exact Nat.le_of_ble_eq_true rfl | omega | (show _ ≤ _; omega) | (dsimp only [headSpec]; omega), by first | exact Nat.le_of_ble_eq_true rfl | omega | (show _ ≤ _; omega) | (dsimp only [headSpec]; omega)⟩) hS_2 (fun z_9 locs_6 hz_8 hS_7 => ?_)
    subst z_9
    refine kx_ifz (tgt := 46) hx hb dX2_isWithinBySpreading_18 (by decide) (fun c_18_10 => ?_) (fun c_18_10 => ?_)
    · -- taken at 18
      exact absurd c_18_10 (by decide)
    · -- not taken at 18
      refine lv_aload_n hx hb dX2_isWithinBySpreading_21 rfl (lv_at hl 0 rfl) ?_
      refine lv_iload_n hx hb dX2_isWithinBySpreading_22 rfl (lv_at hl 3 rfl) ?_
      refine kx_cb0 (va_runV (As := [.int (kI (x))]) (rest := []) ⟨hx, hb, hml, hown, hts⟩ (m_X4_has l D s.heap (fA F ln) (fP F ln) (fS F ln) ea_5 gp_5 gs_5 ((st_ln S ln)) x ho_5 hp_5 hs_5 (by first | assumption | omega) ((hok.ln (by omega : ln < S.length))) (by first | assumption | omega)) (cwV 1 hts (lw_V q1659 q1660 q1661 q99 q1662) rfl rfl rfl (by decide +kernel) ⟨Nat.le_of_ble_eq_true rfl, Nat.le_of_ble_eq_true rfl⟩) (kx_pv hK hS_7 hB (kx_rc hK ho_5 (C := RX4) (T := TX4) (N := 6) rfl)) rfl rfl hl.1 rfl (lv_room (Nat.le_of_ble_eq_true rfl)) dX2_isWithinBySpreading_23 ⟨by first | exact Nat.le_of_ble_eq_true rfl | omega | (show _ ≤ _; omega) | (dsimp only [headSpec]; omega), by first | exact Nat.le_of_ble_eq_true rfl | omega | (show _ ≤ _; omega) | (dsimp only [headSpec]; omega)⟩) hS_7 (fun z_14 locs_11 hz_13 hS_12 => ?_)
      subst z_14
      refine kx_ifnz (tgt := 46) hx hb dX2_isWithinBySpreading_26 (by decide) (fun c_26_15 => ?_) (fun c_26_15 => ?_)
      · -- taken at 26
        refine kx_iconst hx hb dX2_isWithinBySpreading_46 ?_
        refine W.widen (k := 2) (n := 3570) (by omega) (by omega) ?_
        exact kx_zret (z := false) hx hb hr hlk (⟨by first | exact (spr_c hdis hln (by assumption)).symm | exact (spr_h hdis hln (by assumption)).symm | exact (spr_t hdis hln (hspr hcl9) ho9 hpt hcl9 (by assumption) (by assumption)).symm | exact (spr_f hdis hln (hspr hcl9) ho9 hpt (by assumption) (by assumption)).symm, by first | assumption | rfl | omega | grind⟩) hS_12 dX2_isWithinBySpreading_47
      · -- not taken at 26
        refine lv_aload_n hx hb dX2_isWithinBySpreading_29 rfl (lv_at hl 0 rfl) ?_
        refine kx_cr (va_runS (As := [.ref (fA F ln)]) (rest := []) ⟨hx, hb, hml, hown, hts⟩ (m_X2_outside l D s.heap (fA F ln) (fP F ln) (fS F ln) ea_5 gp_5 gs_5 ((st_ln S ln)) ho_5 hp_5 hs_5 (by first | assumption | omega) ((hok.ln (by omega : ln < S.length)))) (va_cwS 1 hts (lw_S q2097 q2098 q80 q2099) rfl rfl rfl (by decide +kernel) ⟨Nat.le_of_ble_eq_true rfl, Nat.le_of_ble_eq_true rfl⟩) (kx_ps hK hS_12 hB) rfl rfl hl.1 rfl (lv_room (Nat.le_of_ble_eq_true rfl)) dX2_isWithinBySpreading_30 ⟨by first | exact Nat.le_of_ble_eq_true rfl | omega | (show _ ≤ _; omega) | (dsimp only [headSpec]; omega), by first | exact Nat.le_of_ble_eq_true rfl | omega | (show _ ≤ _; omega) | (dsimp only [headSpec]; omega)⟩) hS_12 (fun q _ h => Nat.le_trans hS_12.1 h) (fun q h => Nat.le_trans hS_12.1 h) (fun mp H_19 locs_16 hz_18 hF_20 hS_17 => ?_)
        have hzf_21 := hF_20.1
        have hF_20 := hF_20.nw
        refine W.widen (k := 2) (n := 3570) (Nat.le_of_ble_eq_true rfl) (Nat.le_of_ble_eq_true rfl) ?_
        obtain ⟨g2, ho_23, hnew_24, ho9⟩ := hz_18
        refine lv_iload_n hx hb dX2_isWithinBySpreading_33 rfl (lv_at hl 3 rfl) ?_
        refine kx_ci0 (va_runS (As := [.int (kI (x))]) (rest := [.ref mp]) ⟨hx, hb, hml, hown, hts⟩ (m_X2_spot l D H_19 x  (by first | assumption | omega)) (va_cwS 1 hts (lw_S q2103 q2104 q80 q2105) rfl rfl rfl (by decide +kernel) ⟨Nat.le_of_ble_eq_true rfl, Nat.le_of_ble_eq_true rfl⟩) (kx_ps hK hS_17 hB) rfl rfl hl.1 rfl (lv_room (Nat.le_of_ble_eq_true rfl)) dX2_isWithinBySpreading_34 ⟨by first | exact Nat.le_of_ble_eq_true rfl | omega | (show _ ≤ _; omega) | (dsimp only [headSpec]; omega), by first | exact Nat.le_of_ble_eq_true rfl | omega | (show _ ≤ _; omega) | (dsimp only [headSpec]; omega)⟩) hS_17 (fun z_28 locs_25 hz_27 hS_26 => ?_)
        subst z_28
        refine kx_iald (i := f_spot x) hx hb hK ho_23 ((f_spot x).toNat) (by omega) (by omega) (by omega) dX2_isWithinBySpreading_37 ?_
        refine kx_iconst hx hb dX2_isWithinBySpreading_38 ?_
        refine kx_icmp_eq (x := (g2 ((f_spot x).toNat))) (y := 2) (tgt := 46) hx hb dX2_isWithinBySpreading_39 (by decide) (by have := ho9.2.2.2 (f_spot x).toNat; omega) (by have := ho9.2.2.2 (f_spot x).toNat; omega) (by have := ho9.2.2.2 (f_spot x).toNat; omega) (by have := ho9.2.2.2 (f_spot x).toNat; omega) (fun c_39_29 => ?_) (fun c_39_29 => ?_)
        · -- taken at 39
          refine kx_iconst hx hb dX2_isWithinBySpreading_46 ?_
          exact kx_zret (z := false) hx hb hr hlk (⟨by first | exact (spr_c hdis hln (by assumption)).symm | exact (spr_h hdis hln (by assumption)).symm | exact (spr_t hdis hln (hspr hcl9) ho9 hpt hcl9 (by assumption) (by assumption)).symm | exact (spr_f hdis hln (hspr hcl9) ho9 hpt (by assumption) (by assumption)).symm, by first | assumption | rfl | omega | grind⟩) hS_26 dX2_isWithinBySpreading_47
        · -- not taken at 39
          refine kx_iconst hx hb dX2_isWithinBySpreading_42 ?_
          refine lv_goto (tgt := 47) hx hb dX2_isWithinBySpreading_43 (by decide) ?_
          exact kx_zret (z := true) hx hb hr hlk (⟨by first | exact (spr_c hdis hln (by assumption)).symm | exact (spr_h hdis hln (by assumption)).symm | exact (spr_t hdis hln (hspr hcl9) ho9 hpt hcl9 (by assumption) (by assumption)).symm | exact (spr_f hdis hln (hspr hcl9) ho9 hpt (by assumption) (by assumption)).symm, by first | assumption | rfl | omega | grind⟩) hS_26 dX2_isWithinBySpreading_47
  · -- hcl9 f
    have hcl8 : ln_cl (st_ln S ln) = false := by simpa using hcl9
    obtain ⟨ea_30, gp_30, gs_30, ho_30, hp_30, hs_30, he_30, hm_30⟩ := (hP_kLn_F ln (hln)).open_ hcl8
    refine kx_castS hx hb hts hown q307 hK ho_30 rfl dX2_isWithinBySpreading_10 ?_
    refine lv_astore_n (lv' := [(3, .ref (fA F ln)), (0, .ref st), (1, .int (kI ((ln : Nat) : Int))), (2, .int (kI (x)))]) hx hb dX2_isWithinBySpreading_13 rfl hl (by decide) rfl (fun ls hl => ?_)
    refine lv_aload_n hx hb dX2_isWithinBySpreading_14 rfl (lv_at hl 0 rfl) ?_
    refine kx_cb0 (va_runV (As := []) (rest := []) ⟨hx, hb, hml, hown, hts⟩ (m_isClosed_o l D s.heap (fA F ln) (fP F ln) (fS F ln) ea_30 ((st_ln S ln)) ho_30 he_30 ) (cwV 0 hts (lw_V q1695 q1696 q1697 q99 q1698) rfl rfl rfl (by decide +kernel) ⟨Nat.le_of_ble_eq_true rfl, Nat.le_of_ble_eq_true rfl⟩) (kx_pv hK hS_2 hB (kx_rc hK ho_30 (C := RX4) (T := TX4) (N := 6) rfl)) rfl rfl hl.1 rfl (lv_room (Nat.le_of_ble_eq_true rfl)) dX2_isWithinBySpreading_15 ⟨by first | exact Nat.le_of_ble_eq_true rfl | omega | (show _ ≤ _; omega) | (dsimp only [headSpec]; omega), by first | exact Nat.le_of_ble_eq_true rfl | omega | (show _ ≤ _; omega) | (dsimp only [headSpec]; omega)⟩) hS_2 (fun z_34 locs_31 hz_33 hS_32 => ?_)
    subst z_34
    refine kx_ifz (tgt := 46) hx hb dX2_isWithinBySpreading_18 (by decide) (fun c_18_35 => ?_) (fun c_18_35 => ?_)
    · -- taken at 18
      refine kx_iconst hx hb dX2_isWithinBySpreading_46 ?_
      refine W.widen (k := 2) (n := 3570) (by omega) (by omega) ?_
      exact kx_zret (z := false) hx hb hr hlk (⟨by first | exact (spr_c hdis hln (by assumption)).symm | exact (spr_h hdis hln (by assumption)).symm | exact (spr_t hdis hln (hspr hcl9) ho9 hpt hcl9 (by assumption) (by assumption)).symm | exact (spr_f hdis hln (hspr hcl9) ho9 hpt (by assumption) (by assumption)).symm, by first | assumption | rfl | omega | grind⟩) hS_32 dX2_isWithinBySpreading_47
    · -- not taken at 18
      exact absurd c_18_35 (by decide)

