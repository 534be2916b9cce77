/-! MATH 14 -/
theorem rdW_true {t : List Int} {i : Nat} (h : (rdW t i).1 = true) : rdW t i = (true, (rdW t i).2.1, (rdW t i).2.2.1, (rdW t i).2.2.2) := by rw [← h]
theorem tx_run_stop {t : List Int} {f i : Nat} {S : Ls} {gap : Int} (h : ¬ i < t.length) : tx_run t f i S gap = (0, S, gap) := by
  cases f with
  | zero => rfl
  | succ f => rw [tx_run, if_neg h]
/-- what is carried out from here, after n orders -/
def tx_from (t : List Int) (b : Bool) (n f i : Nat) (S : Ls) (gap : Int) : Nat × Ls × Int := if b = true then ((tx_run t f i S gap).1 + n, (tx_run t f i S gap).2) else (n, S, gap)
theorem tx_from_step {t : List Int} {n f i : Nat} {S : Ls} {gap : Int} (hf : t.length < f + i) (hi : i < t.length) :
    tx_from t true n f i S gap = tx_from t (ex_one t (tsg t i) (rdW t i).2.2.1 (rdW t i).2.2.2 S gap).1 (if (ex_one t (tsg t i) (rdW t i).2.2.1 (rdW t i).2.2.2 S gap).1 = true then n + 1 else n) (f - 1) ((rdW t i).2.1 + 1) (ex_one t (tsg t i) (rdW t i).2.2.1 (rdW t i).2.2.2 S gap).2.1 (ex_one t (tsg t i) (rdW t i).2.2.1 (rdW t i).2.2.2 S gap).2.2 := by
  have hf1 : f = (f - 1) + 1 := by omega
  unfold tx_from
  rw [if_pos rfl]
  conv => lhs; rw [hf1, tx_run, if_pos hi]
  split
  · simp only [Prod.mk.injEq, and_true]
    omega
  · simp
theorem tx_from_end {t : List Int} {b : Bool} {n f i : Nat} {S : Ls} {gap : Int} {X : Nat × Ls × Int} (h : X = tx_from t b n f i S gap) (hb : b = true → ¬ i < t.length) : X = (n, S, gap) := by
  rw [h]
  unfold tx_from
  cases b with
  | false => rfl
  | true => rw [if_pos rfl, tx_run_stop (hb rfl)]; simp
set_option maxHeartbeats 4000000 in
set_option maxRecDepth 100000 in
theorem m_X3_runText_no (l : Launch) (D : kG) (H : Heap) (a : Nat) (ra : Nat) (sa : Nat) (ka : Nat) (ta : Nat) (sn : Nat) (ik : Bool) (th : Int) (gt : Nat → Int) (t : List Int) (sp : Int) (iw : Bool) (le : Int) (fi : Int) (se : Int) (hO_a : kO D H a 2 [.ref ra, .ref sa, .int (kI ((sn : Nat) : Int)), .ref ka, .int (kI (kb (ik))), .ref ta, .int (kI ((t.length : Nat) : Int)), .int (kI (th)), .int (kI (sp)), .int (kI (kb (iw))), .int (kI (le)), .int (kI (fi)), .int (kI (se))]) (hA_ta : kAi D H ta 60 gt) (hT : MTx gt t) (ht60 : t.length ≤ 60) (ne_a_ta : a ≠ ta) (bs_a : kBase D ≤ a) (hno : (tx_all t).1 = false) : Met l yX3_runText (ws_ yX3_runText cX3_runText 3 (some .int)) ({ frames := 4, cells := 0, slots := 0, locals := 85 } : Room) (kPre D H [.ref a]) (kQi (fun (r : Int) H' => ∃ (le2 : Int) (fi2 : Int) (se2 : Int), (r = 0) ∧ (kO D H' a 2 [.ref ra, .ref sa, .int (kI ((sn : Nat) : Int)), .ref ka, .int (kI (kb (ik))), .ref ta, .int (kI ((t.length : Nat) : Int)), .int (kI (1)), .int (kI (((tx_all t).2 : Nat) : Int)), .int (kI (kb (false))), .int (kI (le2)), .int (kI (fi2)), .int (kI (se2))])) (fun q : Nat => q = a)) (0) (0) ((fun q : Nat => q = a)) := by
  refine Met.ofW (cc := cX3_runText) (maxL := 3) (ret := (some .int)) (by decide) rfl ?_
  intro p e s m args below meth c s₁ B hml hv
  obtain ⟨rfl, hH, hK⟩ := hv
  subst hH
  have hx := B.exec
  have hb := B.bytes
  have hr := B.returns
  have hts := atoms_spec (ws := ws_ yX3_runText cX3_runText 3 (some .int)) B.pre
  have hts : ∀ w ∈ lw_all, w.before _ s = true := fun w h => hts w (List.mem_cons_of_mem _ h)
  have hown : s.vm.findClass RX3 = some m.cls := findClass_of_methodNamed B.named
  have hlk := B.notSynchronized
  have hS : va_S (fun q : Nat => q = a) s.heap s.heap [] := va_S.rf
  have hB : ∀ q, (fun q : Nat => q = a) q → kBase D ≤ q := fun q h => by (try dsimp only at h); (try simp only [kNW] at h); have hks := hK.size; omega
  have hl := lv_entry ([.ref a]) (n := 3) (Nat.le_of_ble_eq_true rfl)
  rw [lg_entry_eq]
  generalize (lg_sl ([.ref a]) ++ List.replicate (3 - (lg_sl ([.ref a])).length) Slot.unset).toArray = ls at hl ⊢
  have hl : lv_has ls 3 [(0, .ref a)] := hl
  refine lv_aload_n hx hb dX3_runText_0 rfl (lv_at hl 0 rfl) ?_
  refine kx_iconst hx hb dX3_runText_1 ?_
  refine kx_put (v := .int (kI (0))) (C := RX3) (T := TX3) (N := 13) hx hb hts in_X3 hown hK hO_a rfl 7 (by decide) tyX3 tyX3_ok nmX3 hS (by first | rfl | exact Or.inl rfl | exact Or.inr rfl | exact Or.inr (Or.inl rfl) | exact Or.inr (Or.inr rfl) | exact Or.inr (Or.inr (Or.inl rfl)) | exact Or.inr (Or.inr (Or.inr rfl)) | ((try dsimp only); (try simp only [kNW]); omega)) q2245 (fun _ h9 => h9) rfl rfl rfl rfl (Nat.le_of_ble_eq_true rfl) dX3_runText_2 (fun H_3 locs_4 hO_2 hU_1 hS_5 => ?_)
  have hO_2 : kO D H_3 a 2 [.ref ra, .ref sa, .int (kI ((sn : Nat) : Int)), .ref ka, .int (kI (kb (ik))), .ref ta, .int (kI ((t.length : Nat) : Int)), .int (kI (0)), .int (kI (sp)), .int (kI (kb (iw))), .int (kI (le)), .int (kI (fi)), .int (kI (se))] := hO_2
  have hzu_6 := hU_1.1
  refine lv_aload_n hx hb dX3_runText_5 rfl (lv_at hl 0 rfl) ?_
  have h_7 := hA_ta.up hU_1 (by first | assumption | exact Ne.symm (by assumption) | omega | (have h9 := hA_ta.lt; omega))
  refine kx_cb (va_runV (As := []) (rest := []) ⟨hx, hb, hml, hown, hts⟩ (m_X3_isText l D H_3 a ra sa ka ta sn ik 0 gt t sp iw le fi se hO_2 h_7 (by first | assumption | omega) (by first | assumption | omega) (by first | assumption | omega) (by first | assumption | omega)) (cwV 0 hts (lw_V q2601 q2603 qs72 q89 q2604) rfl rfl rfl (by decide +kernel) ⟨Nat.le_of_ble_eq_true rfl, Nat.le_of_ble_eq_true rfl⟩) (kx_pv hK hS_5 hB (kx_rc hK hO_2 (C := RX3) (T := TX3) (N := 13) rfl)) rfl rfl hl.1 rfl (lv_room (Nat.le_of_ble_eq_true rfl)) dX3_runText_6 ⟨by first | exact Nat.le_of_ble_eq_true rfl | omega | (show _ ≤ _; omega) | (dsimp only [headSpec]; omega), by first | exact Nat.le_of_ble_eq_true rfl | omega | (show _ ≤ _; omega) | (dsimp only [headSpec]; omega)⟩) hS_5 (fun q _ h => by (try dsimp only at h); (try dsimp only); (try simp only [kNW] at h); (try simp only [kNW]); omega) (fun q h => by (try dsimp only at h); (try dsimp only); (try simp only [kNW] at h); (try simp only [kNW]); omega) (fun z_13 H_11 locs_8 hz_10 hF_12 hS_9 => ?_)
  have hzf_14 := hF_12.1
  refine W.widen (k := 0) (n := 0) (Nat.le_of_ble_eq_true rfl) (Nat.le_of_ble_eq_true rfl) ?_
  obtain ⟨le2_15, fi2_16, se2_17, hv_18, ho_19⟩ := hz_10
  subst z_13
  have hOs_20 := ho_19
  rw [hno] at hOs_20
  refine kx_ifnz (tgt := 18) hx hb dX3_runText_9 (by decide) (fun c_9_21 => ?_) (fun c_9_21 => ?_)
  · -- taken at 9
    exfalso; exact Bool.noConfusion (hno.symm.trans (by assumption))
  · -- not taken at 9
    refine lv_aload_n hx hb dX3_runText_12 rfl (lv_at hl 0 rfl) ?_
    refine kx_iconst hx hb dX3_runText_13 ?_
    refine kx_ci (va_runV (As := [.int (kI (1))]) (rest := []) ⟨hx, hb, hml, hown, hts⟩ (m_X3_fails l D H_11 a ra sa ka ta sn ik t.length 0 ((((tx_all t).2 : Nat) : Int)) false le2_15 fi2_16 se2_17 1 hOs_20 (by first | assumption | omega)) (cwV 1 hts (lw_V q2455 q2457 qs64 q89 q2458) rfl rfl rfl (by decide +kernel) ⟨Nat.le_of_ble_eq_true rfl, Nat.le_of_ble_eq_true rfl⟩) (kx_pv hK hS_9 hB (kx_rc hK hOs_20 (C := RX3) (T := TX3) (N := 13) rfl)) rfl rfl hl.1 rfl (lv_room (Nat.le_of_ble_eq_true rfl)) dX3_runText_14 ⟨by first | exact Nat.le_of_ble_eq_true rfl | omega | (show _ ≤ _; omega) | (dsimp only [headSpec]; omega), by first | exact Nat.le_of_ble_eq_true rfl | omega | (show _ ≤ _; omega) | (dsimp only [headSpec]; omega)⟩) hS_9 (fun q _ h => by (try dsimp only at h); (try dsimp only); (try simp only [kNW] at h); (try simp only [kNW]); omega) (fun q h => by (try dsimp only at h); (try dsimp only); (try simp only [kNW] at h); (try simp only [kNW]); omega) (fun z_27 H_25 locs_22 hz_24 hF_26 hS_23 => ?_)
    have hzf_28 := hF_26.1
    refine W.widen (k := 0) (n := 0) (Nat.le_of_ble_eq_true rfl) (Nat.le_of_ble_eq_true rfl) ?_
    obtain ⟨hv_29, ho_30⟩ := hz_24
    subst z_27
    exact kx_iret (z := 0) hx hb hr hlk (⟨le2_15, fi2_16, se2_17, by rfl, ho_30⟩) hS_23 dX3_runText_17

set_option maxHeartbeats 4000000 in
set_option maxRecDepth 100000 in
theorem m_X3_runText (l : Launch) (D : kG) (H : Heap) (a : Nat) (ra : Nat) (sa : Nat) (ka : Nat) (ta : Nat) (sn : Nat) (ik : Bool) (th : Int) (gt : Nat → Int) (t : List Int) (sp : Int) (iw : Bool) (le : Int) (fi : Int) (se : Int) (g : Nat → Int) (gs : Nat → Int) (S : Ls) (gap : Int) (hist : List Sg) (hO_a : kO D H a 2 [.ref ra, .ref sa, .int (kI ((sn : Nat) : Int)), .ref ka, .int (kI (kb (ik))), .ref ta, .int (kI ((t.length : Nat) : Int)), .int (kI (th)), .int (kI (sp)), .int (kI (kb (iw))), .int (kI (le)), .int (kI (fi)), .int (kI (se))]) (hA_ra : kAi D H ra 514 g) (hA_sa : kAi D H sa 2570 gs) (hA_ta : kAi D H ta 60 gt) (hM : MRow g S gap) (hok : LsOK S gap) (hH : MHist gs hist sn) (ne_a_ra : a ≠ ra) (ne_a_sa : a ≠ sa) (ne_ra_sa : ra ≠ sa) (bs_a : kBase D ≤ a) (bs_ra : kBase D ≤ ra) (bs_sa : kBase D ≤ sa) (hT : MTx gt t) (ht60 : t.length ≤ 60) (ne_a_ta : a ≠ ta) (ne_ra_ta : ra ≠ ta) (ne_sa_ta : sa ≠ ta) (hyes : (tx_all t).1 = true) : Met l yX3_runText (ws_ yX3_runText cX3_runText 3 (some .int)) ({ frames := 12, cells := 0, slots := 0, locals := 277 } : Room) (kPre D H [.ref a]) (kQi (fun (r : Int) H' => ∃ (g2 : Nat → Int) (gs2 : Nat → Int) (sn2 : Nat) (iw2 : Bool) (sp2 : Nat) (le2 : Int) (fi2 : Int) (se2 : Int), (r = (((tx_go t S gap).1 : Nat) : Int)) ∧ (kO D H' a 2 [.ref ra, .ref sa, .int (kI ((sn2 : Nat) : Int)), .ref ka, .int (kI (kb (ik))), .ref ta, .int (kI ((t.length : Nat) : Int)), .int (kI (0)), .int (kI ((sp2 : Nat) : Int)), .int (kI (kb (iw2))), .int (kI (le2)), .int (kI (fi2)), .int (kI (se2))]) ∧ (kAi D H' ra 514 g2) ∧ (kAi D H' sa 2570 gs2) ∧ (MRow g2 (tx_go t S gap).2.1 (tx_go t S gap).2.2) ∧ (MHist gs2 (pushH hist (S, gap)) sn2)) (fun q : Nat => q = a ∨ q = ra ∨ q = sa)) (0) (0) ((fun q : Nat => q = a ∨ q = ra ∨ q = sa)) := by
  refine Met.ofW (cc := cX3_runText) (maxL := 3) (ret := (some .int)) (by decide) rfl ?_
  intro p e s m args below meth c s₁ B hml hv
  obtain ⟨rfl, hH, hK⟩ := hv
  subst hH
  have hx := B.exec
  have hb := B.bytes
  have hr := B.returns
  have hts := atoms_spec (ws := ws_ yX3_runText cX3_runText 3 (some .int)) B.pre
  have hts : ∀ w ∈ lw_all, w.before _ s = true := fun w h => hts w (List.mem_cons_of_mem _ h)
  have hown : s.vm.findClass RX3 = some m.cls := findClass_of_methodNamed B.named
  have hlk := B.notSynchronized
  have hS : va_S (fun q : Nat => q = a ∨ q = ra ∨ q = sa) s.heap s.heap [] := va_S.rf
  have hB : ∀ q, (fun q : Nat => q = a ∨ q = ra ∨ q = sa) q → kBase D ≤ q := fun q h => by (try dsimp only at h); (try simp only [kNW] at h); have hks := hK.size; omega
  have hl := lv_entry ([.ref a]) (n := 3) (Nat.le_of_ble_eq_true rfl)
  rw [lg_entry_eq]
  generalize (lg_sl ([.ref a]) ++ List.replicate (3 - (lg_sl ([.ref a])).length) Slot.unset).toArray = ls at hl ⊢
  have hl : lv_has ls 3 [(0, .ref a)] := hl
  have hL8 := hok.1
  have hsn5 := hH.2.1
  refine lv_aload_n hx hb dX3_runText_0 rfl (lv_at hl 0 rfl) ?_
  refine kx_iconst hx hb dX3_runText_1 ?_
  refine kx_put (v := .int (kI (0))) (C := RX3) (T := TX3) (N := 13) hx hb hts in_X3 hown hK hO_a rfl 7 (by decide) tyX3 tyX3_ok nmX3 hS (by first | rfl | exact Or.inl rfl | exact Or.inr rfl | exact Or.inr (Or.inl rfl) | exact Or.inr (Or.inr rfl) | exact Or.inr (Or.inr (Or.inl rfl)) | exact Or.inr (Or.inr (Or.inr rfl)) | ((try dsimp only); (try simp only [kNW]); omega)) q2245 (fun _ h9 => h9) rfl rfl rfl rfl (Nat.le_of_ble_eq_true rfl) dX3_runText_2 (fun H_3 locs_4 hO_2 hU_1 hS_5 => ?_)
  have hO_2 : kO D H_3 a 2 [.ref ra, .ref sa, .int (kI ((sn : Nat) : Int)), .ref ka, .int (kI (kb (ik))), .ref ta, .int (kI ((t.length : Nat) : Int)), .int (kI (0)), .int (kI (sp)), .int (kI (kb (iw))), .int (kI (le)), .int (kI (fi)), .int (kI (se))] := hO_2
  have hzu_6 := hU_1.1
  refine lv_aload_n hx hb dX3_runText_5 rfl (lv_at hl 0 rfl) ?_
  have h_7 := hA_ta.up hU_1 (by first | assumption | exact Ne.symm (by assumption) | omega | (have h9 := hA_ta.lt; omega))
  refine kx_cb (va_runV (As := []) (rest := []) ⟨hx, hb, hml, hown, hts⟩ (m_X3_isText l D H_3 a ra sa ka ta sn ik 0 gt t sp iw le fi se hO_2 h_7 (by first | assumption | omega) (by first | assumption | omega) (by first | assumption | omega) (by first | assumption | omega)) (cwV 0 hts (lw_V q2601 q2603 qs72 q89 q2604) rfl rfl rfl (by decide +kernel) ⟨Nat.le_of_ble_eq_true rfl, Nat.le_of_ble_eq_true rfl⟩) (kx_pv hK hS_5 hB (kx_rc hK hO_2 (C := RX3) (T := TX3) (N := 13) rfl)) rfl rfl hl.1 rfl (lv_room (Nat.le_of_ble_eq_true rfl)) dX3_runText_6 ⟨by first | exact Nat.le_of_ble_eq_true rfl | omega | (show _ ≤ _; omega) | (dsimp only [headSpec]; omega), by first | exact Nat.le_of_ble_eq_true rfl | omega | (show _ ≤ _; omega) | (dsimp only [headSpec]; omega)⟩) hS_5 (fun q _ h => by (try dsimp only at h); (try dsimp only); (try simp only [kNW] at h); (try simp only [kNW]); omega) (fun q h => by (try dsimp only at h); (try dsimp only); (try simp only [kNW] at h); (try simp only [kNW]); omega) (fun z_13 H_11 locs_8 hz_10 hF_12 hS_9 => ?_)
  have hzf_14 := hF_12.1
  refine W.widen (k := 0) (n := 0) (Nat.le_of_ble_eq_true rfl) (Nat.le_of_ble_eq_true rfl) ?_
  obtain ⟨le2_15, fi2_16, se2_17, hv_18, ho_19⟩ := hz_10
  subst z_13
  refine kx_ifnz (tgt := 18) hx hb dX3_runText_9 (by decide) (fun c_9_20 => ?_) (fun c_9_20 => ?_)
  · -- taken at 9
    refine lv_aload_n hx hb dX3_runText_18 rfl (lv_at hl 0 rfl) ?_
    have h_21 := hA_ra.up hU_1 (by first | assumption | exact Ne.symm (by assumption) | omega | (have h9 := hA_ra.lt; omega))
    have h_22 := h_21.fr hF_12 (fun h => by (try dsimp only at h); (try simp only [kNW] at h); omega)
    have h_23 := hA_sa.up hU_1 (by first | assumption | exact Ne.symm (by assumption) | omega | (have h9 := hA_sa.lt; omega))
    have h_24 := h_23.fr hF_12 (fun h => by (try dsimp only at h); (try simp only [kNW] at h); omega)
    refine kx_cv (va_runV (As := []) (rest := []) ⟨hx, hb, hml, hown, hts⟩ (m_X3_records l D H_11 a ra sa ka ta sn ik t.length 0 ((((tx_all t).2 : Nat) : Int)) ((tx_all t).1) le2_15 fi2_16 se2_17 g gs ho_19 h_22 h_24 (by first | assumption | omega) (by first | assumption | omega) (by first | assumption | omega) (by first | assumption | omega) (by first | assumption | omega) (by first | assumption | omega)) (cwV 0 hts (lw_V q2383 q2385 qs56 q89 q2386) rfl rfl rfl (by decide +kernel) ⟨Nat.le_of_ble_eq_true rfl, Nat.le_of_ble_eq_true rfl⟩) (kx_pv hK hS_9 hB (kx_rc hK ho_19 (C := RX3) (T := TX3) (N := 13) rfl)) rfl rfl hl.1 rfl (lv_room (Nat.le_of_ble_eq_true rfl)) dX3_runText_19 ⟨by first | exact Nat.le_of_ble_eq_true rfl | omega | (show _ ≤ _; omega) | (dsimp only [headSpec]; omega), by first | exact Nat.le_of_ble_eq_true rfl | omega | (show _ ≤ _; omega) | (dsimp only [headSpec]; omega)⟩) hS_9 (fun q _ h => by (try dsimp only at h); (try dsimp only); (try simp only [kNW] at h); (try simp only [kNW]); omega) (fun q h => by (try dsimp only at h); (try dsimp only); (try simp only [kNW] at h); (try simp only [kNW]); omega) (fun H_28 locs_25 hz_27 hF_29 hS_26 => ?_)
    have hzf_31 := hF_29.1
    refine W.widen (k := 0) (n := 0) (Nat.le_of_ble_eq_true rfl) (Nat.le_of_ble_eq_true rfl) ?_
    obtain ⟨gs2_32, sn2_33, ho_34, ho_35, hs1, hs2, hs3⟩ := hz_27
    refine kx_iconst hx hb dX3_runText_22 ?_
    refine lv_istore_n (lv' := [(1, .int (kI (0))), (0, .ref a)]) hx hb dX3_runText_23 rfl hl (by decide) rfl (fun ls hl => ?_)
    refine kx_iconst hx hb dX3_runText_24 ?_
    refine lv_istore_n (lv' := [(2, .int (kI (1))), (1, .int (kI (0))), (0, .ref a)]) hx hb dX3_runText_25 rfl hl (by decide) rfl (fun ls hl => ?_)
    refine lv_aload_n hx hb dX3_runText_26 rfl (lv_at hl 2 rfl) ?_
    refine kx_iconst hx hb dX3_runText_27 ?_
    refine kx_put (v := .int (kI (0))) (C := RX3) (T := TX3) (N := 13) hx hb hts in_X3 hown hK ho_34 rfl 8 (by decide) tyX3 tyX3_ok nmX3 hS_26 (by first | rfl | exact Or.inl rfl | exact Or.inr rfl | exact Or.inr (Or.inl rfl) | exact Or.inr (Or.inr rfl) | exact Or.inr (Or.inr (Or.inl rfl)) | exact Or.inr (Or.inr (Or.inr rfl)) | ((try dsimp only); (try simp only [kNW]); omega)) q2246 (fun _ h9 => h9) rfl rfl rfl rfl (Nat.le_of_ble_eq_true rfl) dX3_runText_28 (fun H_38 locs_39 hO_37 hU_36 hS_40 => ?_)
    have hO_37 : kO D H_38 a 2 [.ref ra, .ref sa, .int (kI ((sn2_33 : Nat) : Int)), .ref ka, .int (kI (kb (ik))), .ref ta, .int (kI ((t.length : Nat) : Int)), .int (kI (0)), .int (kI (0)), .int (kI (kb ((((tx_all t).1))))), .int (kI (le2_15)), .int (kI (fi2_16)), .int (kI (se2_17))] := hO_37
    have hzu_41 := hU_36.1
    have lp_31_x_42 : ∀ (n_31 : Nat) (n : Nat) (b : Bool) (f : Nat) (i : Nat) (S1 : Ls) (gap1 : Int) (g1 : Nat → Int) (iw3 : Bool) (le3 : Int) (fi3 : Int) (se3 : Int) (gs3 : Nat → Int) (sn3 : Nat) (H : Heap) (hO_a : kO D H a 2 [.ref ra, .ref sa, .int (kI ((sn3 : Nat) : Int)), .ref ka, .int (kI (kb (ik))), .ref ta, .int (kI ((t.length : Nat) : Int)), .int (kI (0)), .int (kI ((i : Nat) : Int)), .int (kI (kb (iw3))), .int (kI (le3)), .int (kI (fi3)), .int (kI (se3))]) (hA_ra : kAi D H ra 514 g1) (hA_sa : kAi D H sa 2570 gs3) (hA_ta : kAi D H ta 60 gt) (hn : n + f ≤ t.length + 1) (hf : t.length < f + i) (hi : i ≤ t.length + 1) (hM1 : MRow g1 S1 gap1) (hok1 : LsOK S1 gap1) (hwf : b = true → i < t.length → tx_wf t i) (hgo : (tx_go t S gap) = tx_from t b n f i S1 gap1) (hH3 : MHist gs3 (pushH hist (S, gap)) sn3) (locs : List Loc) (hS : va_S (fun q : Nat => q = a ∨ q = ra ∨ q = sa) s.heap H locs) (hm_31 : f < n_31) (ls : Array Slot), lv_has ls 3 [(0, .ref a), (1, .int (kI ((n : Nat) : Int))), (2, .int (kI (kb (b))))] → W p l e (headSpec (ws_ yX3_runText cX3_runText 3 (some .int)) ({ frames := 12, cells := 0, slots := 0, locals := 277 } : Room)).room s m ([.ref a] : List Value).toArray below meth c H locs (0) (0) (MQ below (kQi (fun (r : Int) H' => ∃ (g2 : Nat → Int) (gs2 : Nat → Int) (sn2 : Nat) (iw2 : Bool) (sp2 : Nat) (le2 : Int) (fi2 : Int) (se2 : Int), (r = (((tx_go t S gap).1 : Nat) : Int)) ∧ (kO D H' a 2 [.ref ra, .ref sa, .int (kI ((sn2 : Nat) : Int)), .ref ka, .int (kI (kb (ik))), .ref ta, .int (kI ((t.length : Nat) : Int)), .int (kI (0)), .int (kI ((sp2 : Nat) : Int)), .int (kI (kb (iw2))), .int (kI (le2)), .int (kI (fi2)), .int (kI (se2))]) ∧ (kAi D H' ra 514 g2) ∧ (kAi D H' sa 2570 gs2) ∧ (MRow g2 (tx_go t S gap).2.1 (tx_go t S gap).2.2) ∧ (MHist gs2 (pushH hist (S, gap)) sn2)) (fun q : Nat => q = a ∨ q = ra ∨ q = sa)) ([.ref a] : List Value).toArray s (0) (0) ((fun q : Nat => q = a ∨ q = ra ∨ q = sa))) (F0 m 31 ls []) := by
      intro n_31
      induction n_31 with
      | zero => intro n b f i S1 gap1 g1 iw3 le3 fi3 se3 gs3 sn3 H hO_a hA_ra hA_sa hA_ta hn hf hi hM1 hok1 hwf hgo hH3 locs hS hm_31; exact absurd hm_31 (Nat.not_lt_zero _)
      | succ n_31 ih_31 =>
        intro n b f i S1 gap1 g1 iw3 le3 fi3 se3 gs3 sn3 H hO_a hA_ra hA_sa hA_ta hn hf hi hM1 hok1 hwf hgo hH3 locs hS hm_31 ls hl
        refine lv_iload_n hx hb dX3_runText_31 rfl (lv_at hl 2 rfl) ?_
        refine kx_ifz (tgt := 80) hx hb dX3_runText_32 (by decide) (fun c_32_43 => ?_) (fun c_32_43 => ?_)
        · -- taken at 32
          have hfin : (tx_go t S gap) = (n, S1, gap1) := tx_from_end hgo (fun zb => by first | omega | (exact Bool.noConfusion (zb.symm.trans (by assumption : b = false))))
          refine lv_iload_n hx hb dX3_runText_80 rfl (lv_at hl 1 rfl) ?_
          exact kx_iret (z := ((n : Nat) : Int)) hx hb hr hlk (⟨g1, gs3, sn3, iw3, i, le3, fi3, se3, by rw [hfin], hO_a, hA_ra, hA_sa, by rw [hfin]; exact hM1, by exact hH3⟩) hS dX3_runText_81
        · -- not taken at 32
          refine lv_aload_n hx hb dX3_runText_35 rfl (lv_at hl 0 rfl) ?_
          refine kx_get (v := .int (kI ((i : Nat) : Int))) (C := RX3) (T := TX3) (N := 13) hx hb hts in_X3 hown hK hO_a rfl 8 (by decide) q2246 (fun _ h9 => h9) rfl dX3_runText_36 ?_
          refine lv_aload_n hx hb dX3_runText_39 rfl (lv_at hl 0 rfl) ?_
          refine kx_get (v := .int (kI ((t.length : Nat) : Int))) (C := RX3) (T := TX3) (N := 13) hx hb hts in_X3 hown hK hO_a rfl 6 (by decide) q2244 (fun _ h9 => h9) rfl dX3_runText_40 ?_
          refine kx_icmp_ge (x := ((i : Nat) : Int)) (y := ((t.length : Nat) : Int)) (tgt := 80) hx hb dX3_runText_43 (by decide) (by omega) (by omega) (by omega) (by omega) (fun c_43_44 => ?_) (fun c_43_44 => ?_)
          · -- taken at 43
            have hfin : (tx_go t S gap) = (n, S1, gap1) := tx_from_end hgo (fun zb => by first | omega | (exact Bool.noConfusion (zb.symm.trans (by assumption : b = false))))
            refine lv_iload_n hx hb dX3_runText_80 rfl (lv_at hl 1 rfl) ?_
            exact kx_iret (z := ((n : Nat) : Int)) hx hb hr hlk (⟨g1, gs3, sn3, iw3, i, le3, fi3, se3, by rw [hfin], hO_a, hA_ra, hA_sa, by rw [hfin]; exact hM1, by exact hH3⟩) hS dX3_runText_81
          · -- not taken at 43
            have hw9 := tx_wf_1 (hwf (by assumption) (by omega))
            have hpl9 := rdW_place hT i
            refine lv_aload_n hx hb dX3_runText_46 rfl (lv_at hl 0 rfl) ?_
            refine kx_cv (va_runV (As := []) (rest := []) ⟨hx, hb, hml, hown, hts⟩ (m_X3_reads l D H a ra sa ka ta sn3 ik 0 i gt t iw3 le3 fi3 se3 hO_a hA_ta (by first | assumption | omega) (by first | assumption | omega) (by first | assumption | omega) (by first | assumption | omega) (by first | assumption | omega)) (cwV 0 hts (lw_V q2605 q2607 qs73 q89 q2608) rfl rfl rfl (by decide +kernel) ⟨Nat.le_of_ble_eq_true rfl, Nat.le_of_ble_eq_true rfl⟩) (kx_pv hK hS hB (kx_rc hK hO_a (C := RX3) (T := TX3) (N := 13) rfl)) rfl rfl hl.1 rfl (lv_room (Nat.le_of_ble_eq_true rfl)) dX3_runText_47 ⟨by first | exact Nat.le_of_ble_eq_true rfl | omega | (show _ ≤ _; omega) | (dsimp only [headSpec]; omega), by first | exact Nat.le_of_ble_eq_true rfl | omega | (show _ ≤ _; omega) | (dsimp only [headSpec]; omega)⟩) hS (fun q _ h => by (try dsimp only at h); (try dsimp only); (try simp only [kNW] at h); (try simp only [kNW]); omega) (fun q h => by (try dsimp only at h); (try dsimp only); (try simp only [kNW] at h); (try simp only [kNW]); omega) (fun H_48 locs_45 hz_47 hF_49 hS_46 => ?_)
            have hzf_51 := hF_49.1
            refine W.widen (k := 0) (n := 0) (Nat.le_of_ble_eq_true rfl) (Nat.le_of_ble_eq_true rfl) ?_
            have ho_52 := hz_47
            refine lv_aload_n hx hb dX3_runText_50 rfl (lv_at hl 0 rfl) ?_
            refine lv_dup hx hb dX3_runText_51 rfl ?_
            refine kx_get (v := .int (kI (((rdW t i).2.1 : Nat) : Int))) (C := RX3) (T := TX3) (N := 13) hx hb hts in_X3 hown hK ho_52 rfl 8 (by decide) q2246 (fun _ h9 => h9) rfl dX3_runText_52 ?_
            refine kx_iconst hx hb dX3_runText_55 ?_
            refine kx_iadd hx hb dX3_runText_56 ?_
            refine kx_eqi ((((rdW t i).2.1 + 1 : Nat) : Int)) (by omega) ?_
            refine kx_put (v := .int (kI (((rdW t i).2.1 + 1 : Nat) : Int))) (C := RX3) (T := TX3) (N := 13) hx hb hts in_X3 hown hK ho_52 rfl 8 (by decide) tyX3 tyX3_ok nmX3 hS_46 (by first | rfl | exact Or.inl rfl | exact Or.inr rfl | exact Or.inr (Or.inl rfl) | exact Or.inr (Or.inr rfl) | exact Or.inr (Or.inr (Or.inl rfl)) | exact Or.inr (Or.inr (Or.inr rfl)) | ((try dsimp only); (try simp only [kNW]); omega)) q2246 (fun _ h9 => h9) rfl rfl rfl rfl (Nat.le_of_ble_eq_true rfl) dX3_runText_57 (fun H_55 locs_56 hO_54 hU_53 hS_57 => ?_)
            have hO_54 : kO D H_55 a 2 [.ref ra, .ref sa, .int (kI ((sn3 : Nat) : Int)), .ref ka, .int (kI (kb (ik))), .ref ta, .int (kI ((t.length : Nat) : Int)), .int (kI (0)), .int (kI (((rdW t i).2.1 + 1 : Nat) : Int)), .int (kI (kb ((rdW t i).1))), .int (kI (tsg t i)), .int (kI ((rdW t i).2.2.1)), .int (kI ((rdW t i).2.2.2))] := hO_54
            have hzu_58 := hU_53.1
            refine lv_aload_n hx hb dX3_runText_60 rfl (lv_at hl 0 rfl) ?_
            have h_59 := hA_ra.fr hF_49 (fun h => by (try dsimp only at h); (try simp only [kNW] at h); omega)
            have h_60 := h_59.up hU_53 (by first | assumption | exact Ne.symm (by assumption) | omega | (have h9 := h_59.lt; omega))
            have h_61 := hA_ta.fr hF_49 (fun h => by (try dsimp only at h); (try simp only [kNW] at h); omega)
            have h_62 := h_61.up hU_53 (by first | assumption | exact Ne.symm (by assumption) | omega | (have h9 := h_61.lt; omega))
            refine kx_cb (va_runV (As := []) (rest := []) ⟨hx, hb, hml, hown, hts⟩ (m_X3_carries l D H_55 a ra sa ka ta sn3 ik 0 ((((rdW t i).2.1 + 1 : Nat) : Int)) ((rdW t i).1) t gt g1 S1 gap1 (tsg t i) ((rdW t i).2.2.1) ((rdW t i).2.2.2) i ((rdW t i).2.1) hO_54 h_60 h_62 hM1 hok1 (by first | assumption | omega) (by first | assumption | omega) (by first | assumption | omega) (by first | assumption | omega) (by first | assumption | omega) rfl ((by omega)) ((rdW_true hw9))) (cwV 0 hts (lw_V q2625 q2627 qs77 q89 q2628) rfl rfl rfl (by decide +kernel) ⟨Nat.le_of_ble_eq_true rfl, Nat.le_of_ble_eq_true rfl⟩) (kx_pv hK hS_57 hB (kx_rc hK hO_54 (C := RX3) (T := TX3) (N := 13) rfl)) rfl rfl hl.1 rfl (lv_room (Nat.le_of_ble_eq_true rfl)) dX3_runText_61 ⟨by first | exact Nat.le_of_ble_eq_true rfl | omega | (show _ ≤ _; omega) | (dsimp only [headSpec]; omega), by first | exact Nat.le_of_ble_eq_true rfl | omega | (show _ ≤ _; omega) | (dsimp only [headSpec]; omega)⟩) hS_57 (fun q _ h => by (try dsimp only at h); (try dsimp only); (try simp only [kNW] at h); (try simp only [kNW]); omega) (fun q h => by (try dsimp only at h); (try dsimp only); (try simp only [kNW] at h); (try simp only [kNW]); omega) (fun z_68 H_66 locs_63 hz_65 hF_67 hS_64 => ?_)
            have hzf_69 := hF_67.1
            refine W.widen (k := 0) (n := 0) (Nat.le_of_ble_eq_true rfl) (Nat.le_of_ble_eq_true rfl) ?_
            obtain ⟨g2_70, hv_71, ho_72, hM9⟩ := hz_65
            subst z_68
            refine lv_istore_n (lv' := [(2, .int (kI (kb ((ex_one t (tsg t i) (((rdW t i).2.2.1)) (((rdW t i).2.2.2)) S1 gap1).1)))), (0, .ref a), (1, .int (kI ((n : Nat) : Int)))]) hx hb dX3_runText_64 rfl hl (by decide) rfl (fun ls hl => ?_)
            refine lv_iload_n hx hb dX3_runText_65 rfl (lv_at hl 2 rfl) ?_
            refine lv_iload_n hx hb dX3_runText_66 rfl (lv_at hl 0 rfl) ?_
            refine kx_ifz (tgt := 74) hx hb dX3_runText_67 (by decide) (fun c_67_73 => ?_) (fun c_67_73 => ?_)
            · -- taken at 67
              refine kx_iconst hx hb dX3_runText_74 ?_
              refine kx_iadd hx hb dX3_runText_75 ?_
              refine kx_eqi (((n : Nat) : Int)) (by omega) ?_
              refine lv_istore_n (lv' := [(1, .int (kI ((n : Nat) : Int))), (2, .int (kI (kb ((ex_one t (tsg t i) (((rdW t i).2.2.1)) (((rdW t i).2.2.2)) S1 gap1).1)))), (0, .ref a)]) hx hb dX3_runText_76 rfl hl (by decide) rfl (fun ls hl => ?_)
              refine lv_goto (tgt := 31) hx hb dX3_runText_77 (by decide) ?_
              have h_74 := hO_54.fr hF_67 (fun h => by (try dsimp only at h); (try simp only [kNW] at h); omega)
              have h_75 := hA_sa.fr hF_49 (fun h => by (try dsimp only at h); (try simp only [kNW] at h); omega)
              have h_76 := h_75.up hU_53 (by first | assumption | exact Ne.symm (by assumption) | omega | (have h9 := h_75.lt; omega))
              have h_77 := h_76.fr hF_67 (fun h => by (try dsimp only at h); (try simp only [kNW] at h); omega)
              have h_78 := h_62.fr hF_67 (fun h => by (try dsimp only at h); (try simp only [kNW] at h); omega)
              exact ih_31  n ((ex_one t (tsg t i) (((rdW t i).2.2.1)) (((rdW t i).2.2.2)) S1 gap1).1) ((f - 1)) (((rdW t i).2.1 + 1)) ((ex_one t (tsg t i) (rdW t i).2.2.1 (rdW t i).2.2.2 S1 gap1).2.1) ((ex_one t (tsg t i) (rdW t i).2.2.1 (rdW t i).2.2.2 S1 gap1).2.2) g2_70 ((rdW t i).1) (tsg t i) ((rdW t i).2.2.1) ((rdW t i).2.2.2) gs3 sn3 H_66 h_74 ho_72 h_77 h_78 (by first | assumption | omega | (simp_all; done) | grind) (by first | assumption | omega | (simp_all; done) | grind) (by first | assumption | omega | (simp_all; done) | grind) (hM9) ((ex_one_ok hok1)) (fun _ z => tx_wf_next hT (hwf (by assumption) (by omega)) (by omega)) (by rw [hgo, show b = true by assumption, tx_from_step hf (by omega)]; first | (rw [if_pos (by assumption)]; done) | (rw [if_neg (by simp [*])]; done)) (hH3) _ hS_64 (by omega) ls (lv_sub hl [2, 0, 1] rfl)
            · -- not taken at 67
              refine kx_iconst hx hb dX3_runText_70 ?_
              refine lv_goto (tgt := 75) hx hb dX3_runText_71 (by decide) ?_
              refine kx_iadd hx hb dX3_runText_75 ?_
              refine kx_eqi (((n + 1 : Nat) : Int)) (by omega) ?_
              refine lv_istore_n (lv' := [(1, .int (kI ((n + 1 : Nat) : Int))), (2, .int (kI (kb ((ex_one t (tsg t i) (((rdW t i).2.2.1)) (((rdW t i).2.2.2)) S1 gap1).1)))), (0, .ref a)]) hx hb dX3_runText_76 rfl hl (by decide) rfl (fun ls hl => ?_)
              refine lv_goto (tgt := 31) hx hb dX3_runText_77 (by decide) ?_
              have h_79 := hO_54.fr hF_67 (fun h => by (try dsimp only at h); (try simp only [kNW] at h); omega)
              have h_80 := hA_sa.fr hF_49 (fun h => by (try dsimp only at h); (try simp only [kNW] at h); omega)
              have h_81 := h_80.up hU_53 (by first | assumption | exact Ne.symm (by assumption) | omega | (have h9 := h_80.lt; omega))
              have h_82 := h_81.fr hF_67 (fun h => by (try dsimp only at h); (try simp only [kNW] at h); omega)
              have h_83 := h_62.fr hF_67 (fun h => by (try dsimp only at h); (try simp only [kNW] at h); omega)
              exact ih_31  (n + 1) ((ex_one t (tsg t i) (((rdW t i).2.2.1)) (((rdW t i).2.2.2)) S1 gap1).1) ((f - 1)) (((rdW t i).2.1 + 1)) ((ex_one t (tsg t i) (rdW t i).2.2.1 (rdW t i).2.2.2 S1 gap1).2.1) ((ex_one t (tsg t i) (rdW t i).2.2.1 (rdW t i).2.2.2 S1 gap1).2.2) g2_70 ((rdW t i).1) (tsg t i) ((rdW t i).2.2.1) ((rdW t i).2.2.2) gs3 sn3 H_66 h_79 ho_72 h_82 h_83 (by first | assumption | omega | (simp_all; done) | grind) (by first | assumption | omega | (simp_all; done) | grind) (by first | assumption | omega | (simp_all; done) | grind) (hM9) ((ex_one_ok hok1)) (fun _ z => tx_wf_next hT (hwf (by assumption) (by omega)) (by omega)) (by rw [hgo, show b = true by assumption, tx_from_step hf (by omega)]; first | (rw [if_pos (by assumption)]; done) | (rw [if_neg (by simp [*])]; done)) (hH3) _ hS_64 (by omega) ls (lv_sub hl [2, 0, 1] rfl)
    have h_84 := h_22.fr hF_29 (fun h => by (try dsimp only at h); (try simp only [kNW] at h); omega)
    have h_85 := h_84.up hU_36 (by first | assumption | exact Ne.symm (by assumption) | omega | (have h9 := h_84.lt; omega))
    have h_86 := ho_35.up hU_36 (by first | assumption | exact Ne.symm (by assumption) | omega | (have h9 := ho_35.lt; omega))
    have h_87 := h_7.fr hF_12 (fun h => by (try dsimp only at h); (try simp only [kNW] at h); omega)
    have h_88 := h_87.fr hF_29 (fun h => by (try dsimp only at h); (try simp only [kNW] at h); omega)
    have h_89 := h_88.up hU_36 (by first | assumption | exact Ne.symm (by assumption) | omega | (have h9 := h_88.lt; omega))
    exact lp_31_x_42 ((((t.length + 1))) + 1) 0 true ((t.length + 1)) 0 S gap g ((((tx_all t).1))) le2_15 fi2_16 se2_17 gs2_32 sn2_33 H_38 hO_37 h_85 h_86 h_89 (by first | assumption | omega | (simp_all; done) | grind) (by first | assumption | omega | (simp_all; done) | grind) (by first | assumption | omega | (simp_all; done) | grind) (hM) (hok) (fun _ _ => tx_wf_0 hyes) (by unfold tx_from tx_go; rw [if_pos rfl]; rfl) ((hH.push hok hM hs1 hs2 hs3)) _ hS_40 (Nat.lt_succ_self _) ls (lv_sub hl [2, 1, 0] rfl)
  · -- not taken at 9
    exfalso; exact Bool.noConfusion (hyes.symm.trans (by assumption))

