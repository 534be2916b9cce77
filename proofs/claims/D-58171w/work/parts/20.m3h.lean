/-! MATH 9: the history's end -/
theorem MHist.last {gs g2 : Nat → Int} {h : List Sg} {sn : Nat} (hH : MHist gs h sn) (h0 : 0 < sn) (he : ∀ j, j < 514 → g2 j = gs (514 * (sn - 1) + j)) : MRow g2 (sg_at h (sn - 1)).1 (sg_at h (sn - 1)).2 := by
  obtain ⟨h1, h5, h2⟩ := hH
  obtain ⟨q1, q2⟩ := h2 (sn - 1) (by omega)
  exact q2.congr q1.1 q1.ns he
theorem MHist.drop {gs : Nat → Int} {h : List Sg} {sn : Nat} (hH : MHist gs h sn) (h0 : 0 < sn) : MHist gs h.dropLast (sn - 1) := by
  obtain ⟨h1, h5, h2⟩ := hH
  refine ⟨by rw [List.length_dropLast, h1], by omega, fun i hi => ?_⟩
  rw [List.length_dropLast] at hi
  have e : sg_at h.dropLast i = sg_at h i := by
    unfold sg_at
    rw [List.getD_eq_getElem?_getD, List.getD_eq_getElem?_getD, List.getElem?_dropLast, if_pos hi]
  rw [e]
  exact h2 i (by omega)
set_option maxHeartbeats 4000000 in
set_option maxRecDepth 100000 in
theorem m_X3_begin_no (l : Launch) (D : kG) (H : Heap) (a : Nat) (ra : Nat) (sa : Nat) (ka : Nat) (ta : Nat) (sn : Nat) (ik : Bool) (tn : Nat) (th : Int) (sp : Int) (iw : Bool) (le : Int) (fi : Int) (se : Int) (g : Nat → Int) (gs : Nat → Int) (S : Ls) (gap : Int) (hist : List Sg) (x : Int) (y : Int) (hO_a : kO D H a 2 [.ref ra, .ref sa, .int (kI ((sn : Nat) : Int)), .ref ka, .int (kI (kb (ik))), .ref ta, .int (kI ((tn : Nat) : Int)), .int (kI (th)), .int (kI (sp)), .int (kI (kb (iw))), .int (kI (le)), .int (kI (fi)), .int (kI (se))]) (hA_ra : kAi D H ra 514 g) (hA_sa : kAi D H sa 2570 gs) (hM : MRow g S gap) (hok : LsOK S gap) (hH : MHist gs hist sn) (ne_a_ra : a ≠ ra) (ne_a_sa : a ≠ sa) (ne_ra_sa : ra ≠ sa) (bs_a : kBase D ≤ a) (bs_ra : kBase D ≤ ra) (bs_sa : kBase D ≤ sa) (hr_x : -2147483648 ≤ x ∧ x ≤ 2147483647) (hr_y : -2147483648 ≤ y ∧ y ≤ 2147483647) (hr0 : 0 < ref_b S x y) (hr9 : ref_b S x y ≤ 5) : Met l yX3_begin (ws_ yX3_begin cX3_begin 3 (some .int)) ({ frames := 5, cells := 0, slots := 0, locals := 113 } : Room) (kPre D H [.ref a, .int (kI (x)), .int (kI (y))]) (kQi (fun (r : Int) H' => (r = 0) ∧ (kO D H' a 2 [.ref ra, .ref sa, .int (kI ((sn : Nat) : Int)), .ref ka, .int (kI (kb (ik))), .ref ta, .int (kI ((tn : Nat) : Int)), .int (kI (ref_b S x y)), .int (kI (sp)), .int (kI (kb (iw))), .int (kI (le)), .int (kI (fi)), .int (kI (se))])) (fun q : Nat => q = a)) (0) (0) ((fun q : Nat => q = a)) := by
  refine Met.ofW (cc := cX3_begin) (maxL := 3) (ret := (some .int)) (by decide) rfl ?_
  intro p e s m args below meth c s₁ B hml hv
  obtain ⟨rfl, hH, hK⟩ := hv
  subst hH
  have hx := B.exec
  have hb := B.bytes
  have hr := B.returns
  have hts := atoms_spec (ws := ws_ yX3_begin cX3_begin 3 (some .int)) B.pre
  have hts : ∀ w ∈ lw_all, w.before _ s = true := fun w h => hts w (List.mem_cons_of_mem _ h)
  have hown : s.vm.findClass RX3 = some m.cls := findClass_of_methodNamed B.named
  have hlk := B.notSynchronized
  have hS : va_S (fun q : Nat => q = a) s.heap s.heap [] := va_S.rf
  have hB : ∀ q, (fun q : Nat => q = a) q → kBase D ≤ q := fun q h => by (try dsimp only at h); (try simp only [kNW] at h); have hks := hK.size; omega
  have hl := lv_entry ([.ref a, .int (kI (x)), .int (kI (y))]) (n := 3) (Nat.le_of_ble_eq_true rfl)
  rw [lg_entry_eq]
  generalize (lg_sl ([.ref a, .int (kI (x)), .int (kI (y))]) ++ List.replicate (3 - (lg_sl ([.ref a, .int (kI (x)), .int (kI (y))])).length) Slot.unset).toArray = ls at hl ⊢
  have hl : lv_has ls 3 [(0, .ref a), (1, .int (kI (x))), (2, .int (kI (y)))] := hl
  refine lv_aload_n hx hb dX3_begin_0 rfl (lv_at hl 0 rfl) ?_
  refine kx_bipush hx hb (by decide) dX3_begin_1 ?_
  refine lv_iload_n hx hb dX3_begin_3 rfl (lv_at hl 1 rfl) ?_
  refine lv_iload_n hx hb dX3_begin_4 rfl (lv_at hl 2 rfl) ?_
  refine kx_ci (va_runV (As := [.int (kI (110)), .int (kI (x)), .int (kI (y))]) (rest := []) ⟨hx, hb, hml, hown, hts⟩ (m_acts_b_no l D s.heap a ra sa ka ta sn ik tn th sp iw le fi se g gs S gap hist x y hO_a hA_ra hA_sa (by first | assumption | omega) (by first | assumption | omega) (by first | assumption | omega) (by first | assumption | omega) (by first | assumption | omega) (by first | assumption | omega) (by first | assumption | omega) (by first | assumption | omega) (by first | assumption | omega) (by first | assumption | omega) (by first | assumption | omega) (by first | assumption | omega) (by first | assumption | omega)) (cwV 3 hts (lw_V q2286 q2288 qs37 q89 q2289) rfl rfl rfl (by decide +kernel) ⟨Nat.le_of_ble_eq_true rfl, Nat.le_of_ble_eq_true rfl⟩) (kx_pv hK hS hB (kx_rc hK hO_a (C := RX3) (T := TX3) (N := 13) rfl)) rfl rfl hl.1 rfl (lv_room (Nat.le_of_ble_eq_true rfl)) dX3_begin_5 ⟨by first | exact Nat.le_of_ble_eq_true rfl | omega | (show _ ≤ _; omega) | (dsimp only [headSpec]; omega), by first | exact Nat.le_of_ble_eq_true rfl | omega | (show _ ≤ _; omega) | (dsimp only [headSpec]; omega)⟩) hS (fun q _ h => by (try dsimp only at h); (try dsimp only); (try simp only [kNW] at h); (try simp only [kNW]); omega) (fun q h => by (try dsimp only at h); (try dsimp only); (try simp only [kNW] at h); (try simp only [kNW]); omega) (fun z_6 H_4 locs_1 hz_3 hF_5 hS_2 => ?_)
  have hzf_7 := hF_5.1
  refine W.widen (k := 0) (n := 0) (Nat.le_of_ble_eq_true rfl) (Nat.le_of_ble_eq_true rfl) ?_
  obtain ⟨hv_8, ho_9⟩ := hz_3
  subst z_6
  exact kx_iret (z := 0) hx hb hr hlk (⟨by rfl, ho_9⟩) hS_2 dX3_begin_8

set_option maxHeartbeats 4000000 in
set_option maxRecDepth 100000 in
theorem m_X3_begin (l : Launch) (D : kG) (H : Heap) (a : Nat) (ra : Nat) (sa : Nat) (ka : Nat) (ta : Nat) (sn : Nat) (ik : Bool) (tn : Nat) (th : Int) (sp : Int) (iw : Bool) (le : Int) (fi : Int) (se : Int) (g : Nat → Int) (gs : Nat → Int) (S : Ls) (gap : Int) (hist : List Sg) (x : Int) (y : Int) (hO_a : kO D H a 2 [.ref ra, .ref sa, .int (kI ((sn : Nat) : Int)), .ref ka, .int (kI (kb (ik))), .ref ta, .int (kI ((tn : Nat) : Int)), .int (kI (th)), .int (kI (sp)), .int (kI (kb (iw))), .int (kI (le)), .int (kI (fi)), .int (kI (se))]) (hA_ra : kAi D H ra 514 g) (hA_sa : kAi D H sa 2570 gs) (hM : MRow g S gap) (hok : LsOK S gap) (hH : MHist gs hist sn) (ne_a_ra : a ≠ ra) (ne_a_sa : a ≠ sa) (ne_ra_sa : ra ≠ sa) (bs_a : kBase D ≤ a) (bs_ra : kBase D ≤ ra) (bs_sa : kBase D ≤ sa) (hr_x : -2147483648 ≤ x ∧ x ≤ 2147483647) (hr_y : -2147483648 ≤ y ∧ y ≤ 2147483647) (hl8 : S.length < 8) (hr0 : ref_b S x y = 0) : Met l yX3_begin (ws_ yX3_begin cX3_begin 3 (some .int)) ({ frames := 5, cells := 0, slots := 0, locals := 113 } : Room) (kPre D H [.ref a, .int (kI (x)), .int (kI (y))]) (kQi (fun (r : Int) H' => ∃ (g2 : Nat → Int) (gs2 : Nat → Int) (sn2 : Nat), (r = ((S.length : Nat) : Int)) ∧ (kO D H' a 2 [.ref ra, .ref sa, .int (kI ((sn2 : Nat) : Int)), .ref ka, .int (kI (kb (ik))), .ref ta, .int (kI ((tn : Nat) : Int)), .int (kI (0)), .int (kI (sp)), .int (kI (kb (iw))), .int (kI (le)), .int (kI (fi)), .int (kI (se))]) ∧ (kAi D H' ra 514 g2) ∧ (kAi D H' sa 2570 gs2) ∧ (MRow g2 (S ++ [w_new x y]) (gap)) ∧ (MHist gs2 (pushH hist (S, gap)) sn2)) (fun q : Nat => q = a ∨ q = ra ∨ q = sa)) (0) (0) ((fun q : Nat => q = a ∨ q = ra ∨ q = sa)) := by
  refine Met.ofW (cc := cX3_begin) (maxL := 3) (ret := (some .int)) (by decide) rfl ?_
  intro p e s m args below meth c s₁ B hml hv
  obtain ⟨rfl, hH, hK⟩ := hv
  subst hH
  have hx := B.exec
  have hb := B.bytes
  have hr := B.returns
  have hts := atoms_spec (ws := ws_ yX3_begin cX3_begin 3 (some .int)) B.pre
  have hts : ∀ w ∈ lw_all, w.before _ s = true := fun w h => hts w (List.mem_cons_of_mem _ h)
  have hown : s.vm.findClass RX3 = some m.cls := findClass_of_methodNamed B.named
  have hlk := B.notSynchronized
  have hS : va_S (fun q : Nat => q = a ∨ q = ra ∨ q = sa) s.heap s.heap [] := va_S.rf
  have hB : ∀ q, (fun q : Nat => q = a ∨ q = ra ∨ q = sa) q → kBase D ≤ q := fun q h => by (try dsimp only at h); (try simp only [kNW] at h); have hks := hK.size; omega
  have hl := lv_entry ([.ref a, .int (kI (x)), .int (kI (y))]) (n := 3) (Nat.le_of_ble_eq_true rfl)
  rw [lg_entry_eq]
  generalize (lg_sl ([.ref a, .int (kI (x)), .int (kI (y))]) ++ List.replicate (3 - (lg_sl ([.ref a, .int (kI (x)), .int (kI (y))])).length) Slot.unset).toArray = ls at hl ⊢
  have hl : lv_has ls 3 [(0, .ref a), (1, .int (kI (x))), (2, .int (kI (y)))] := hl
  refine lv_aload_n hx hb dX3_begin_0 rfl (lv_at hl 0 rfl) ?_
  refine kx_bipush hx hb (by decide) dX3_begin_1 ?_
  refine lv_iload_n hx hb dX3_begin_3 rfl (lv_at hl 1 rfl) ?_
  refine lv_iload_n hx hb dX3_begin_4 rfl (lv_at hl 2 rfl) ?_
  refine kx_ci (va_runV (As := [.int (kI (110)), .int (kI (x)), .int (kI (y))]) (rest := []) ⟨hx, hb, hml, hown, hts⟩ (m_acts_b l D s.heap a ra sa ka ta sn ik tn th sp iw le fi se g gs S gap hist x y hO_a hA_ra hA_sa (by first | assumption | omega) (by first | assumption | omega) (by first | assumption | omega) (by first | assumption | omega) (by first | assumption | omega) (by first | assumption | omega) (by first | assumption | omega) (by first | assumption | omega) (by first | assumption | omega) (by first | assumption | omega) (by first | assumption | omega) (by first | assumption | omega) (by first | assumption | omega)) (cwV 3 hts (lw_V q2286 q2288 qs37 q89 q2289) rfl rfl rfl (by decide +kernel) ⟨Nat.le_of_ble_eq_true rfl, Nat.le_of_ble_eq_true rfl⟩) (kx_pv hK hS hB (kx_rc hK hO_a (C := RX3) (T := TX3) (N := 13) rfl)) rfl rfl hl.1 rfl (lv_room (Nat.le_of_ble_eq_true rfl)) dX3_begin_5 ⟨by first | exact Nat.le_of_ble_eq_true rfl | omega | (show _ ≤ _; omega) | (dsimp only [headSpec]; omega), by first | exact Nat.le_of_ble_eq_true rfl | omega | (show _ ≤ _; omega) | (dsimp only [headSpec]; omega)⟩) hS (fun q _ h => by (try dsimp only at h); (try dsimp only); (try simp only [kNW] at h); (try simp only [kNW]); omega) (fun q h => by (try dsimp only at h); (try dsimp only); (try simp only [kNW] at h); (try simp only [kNW]); omega) (fun z_6 H_4 locs_1 hz_3 hF_5 hS_2 => ?_)
  have hzf_7 := hF_5.1
  refine W.widen (k := 0) (n := 0) (Nat.le_of_ble_eq_true rfl) (Nat.le_of_ble_eq_true rfl) ?_
  obtain ⟨g2_8, gs2_9, sn2_10, hv_11, ho_12, ho_13, ho_14, hM9, hH9⟩ := hz_3
  subst z_6
  exact kx_iret (z := ((S.length : Nat) : Int)) hx hb hr hlk (⟨g2_8, gs2_9, sn2_10, by rfl, ho_12, ho_13, ho_14, by exact hM9, by exact hH9⟩) hS_2 dX3_begin_8

set_option maxHeartbeats 4000000 in
set_option maxRecDepth 100000 in
theorem m_X3_step_no (l : Launch) (D : kG) (H : Heap) (a : Nat) (ra : Nat) (sa : Nat) (ka : Nat) (ta : Nat) (sn : Nat) (ik : Bool) (tn : Nat) (th : Int) (sp : Int) (iw : Bool) (le : Int) (fi : Int) (se : Int) (g : Nat → Int) (gs : Nat → Int) (S : Ls) (gap : Int) (hist : List Sg) (x : Int) (y : Int) (hO_a : kO D H a 2 [.ref ra, .ref sa, .int (kI ((sn : Nat) : Int)), .ref ka, .int (kI (kb (ik))), .ref ta, .int (kI ((tn : Nat) : Int)), .int (kI (th)), .int (kI (sp)), .int (kI (kb (iw))), .int (kI (le)), .int (kI (fi)), .int (kI (se))]) (hA_ra : kAi D H ra 514 g) (hA_sa : kAi D H sa 2570 gs) (hM : MRow g S gap) (hok : LsOK S gap) (hH : MHist gs hist sn) (ne_a_ra : a ≠ ra) (ne_a_sa : a ≠ sa) (ne_ra_sa : ra ≠ sa) (bs_a : kBase D ≤ a) (bs_ra : kBase D ≤ ra) (bs_sa : kBase D ≤ sa) (hr_x : -2147483648 ≤ x ∧ x ≤ 2147483647) (hr_y : -2147483648 ≤ y ∧ y ≤ 2147483647) (hr0 : 0 < ref_s S x y) (hr9 : ref_s S x y ≤ 5) : Met l yX3_step (ws_ yX3_step cX3_step 3 (some .boolean)) ({ frames := 8, cells := 0, slots := 0, locals := 179 } : Room) (kPre D H [.ref a, .int (kI (x)), .int (kI (y))]) (kQb (fun (r : Bool) H' => (r = false) ∧ (kO D H' a 2 [.ref ra, .ref sa, .int (kI ((sn : Nat) : Int)), .ref ka, .int (kI (kb (ik))), .ref ta, .int (kI ((tn : Nat) : Int)), .int (kI (ref_s S x y)), .int (kI (sp)), .int (kI (kb (iw))), .int (kI (le)), .int (kI (fi)), .int (kI (se))])) (fun q : Nat => q = a)) (0) (0) ((fun q : Nat => q = a)) := by
  refine Met.ofW (cc := cX3_step) (maxL := 3) (ret := (some .boolean)) (by decide) rfl ?_
  intro p e s m args below meth c s₁ B hml hv
  obtain ⟨rfl, hH, hK⟩ := hv
  subst hH
  have hx := B.exec
  have hb := B.bytes
  have hr := B.returns
  have hts := atoms_spec (ws := ws_ yX3_step cX3_step 3 (some .boolean)) B.pre
  have hts : ∀ w ∈ lw_all, w.before _ s = true := fun w h => hts w (List.mem_cons_of_mem _ h)
  have hown : s.vm.findClass RX3 = some m.cls := findClass_of_methodNamed B.named
  have hlk := B.notSynchronized
  have hS : va_S (fun q : Nat => q = a) s.heap s.heap [] := va_S.rf
  have hB : ∀ q, (fun q : Nat => q = a) q → kBase D ≤ q := fun q h => by (try dsimp only at h); (try simp only [kNW] at h); have hks := hK.size; omega
  have hl := lv_entry ([.ref a, .int (kI (x)), .int (kI (y))]) (n := 3) (Nat.le_of_ble_eq_true rfl)
  rw [lg_entry_eq]
  generalize (lg_sl ([.ref a, .int (kI (x)), .int (kI (y))]) ++ List.replicate (3 - (lg_sl ([.ref a, .int (kI (x)), .int (kI (y))])).length) Slot.unset).toArray = ls at hl ⊢
  have hl : lv_has ls 3 [(0, .ref a), (1, .int (kI (x))), (2, .int (kI (y)))] := hl
  refine lv_aload_n hx hb dX3_step_0 rfl (lv_at hl 0 rfl) ?_
  refine kx_bipush hx hb (by decide) dX3_step_1 ?_
  refine lv_iload_n hx hb dX3_step_3 rfl (lv_at hl 1 rfl) ?_
  refine lv_iload_n hx hb dX3_step_4 rfl (lv_at hl 2 rfl) ?_
  refine kx_ci (va_runV (As := [.int (kI (115)), .int (kI (x)), .int (kI (y))]) (rest := []) ⟨hx, hb, hml, hown, hts⟩ (m_acts_s_no l D s.heap a ra sa ka ta sn ik tn th sp iw le fi se g gs S gap hist x y hO_a hA_ra hA_sa (by first | assumption | omega) (by first | assumption | omega) (by first | assumption | omega) (by first | assumption | omega) (by first | assumption | omega) (by first | assumption | omega) (by first | assumption | omega) (by first | assumption | omega) (by first | assumption | omega) (by first | assumption | omega) (by first | assumption | omega) (by first | assumption | omega) (by first | assumption | omega)) (cwV 3 hts (lw_V q2286 q2288 qs37 q89 q2289) rfl rfl rfl (by decide +kernel) ⟨Nat.le_of_ble_eq_true rfl, Nat.le_of_ble_eq_true rfl⟩) (kx_pv hK hS hB (kx_rc hK hO_a (C := RX3) (T := TX3) (N := 13) rfl)) rfl rfl hl.1 rfl (lv_room (Nat.le_of_ble_eq_true rfl)) dX3_step_5 ⟨by first | exact Nat.le_of_ble_eq_true rfl | omega | (show _ ≤ _; omega) | (dsimp only [headSpec]; omega), by first | exact Nat.le_of_ble_eq_true rfl | omega | (show _ ≤ _; omega) | (dsimp only [headSpec]; omega)⟩) hS (fun q _ h => by (try dsimp only at h); (try dsimp only); (try simp only [kNW] at h); (try simp only [kNW]); omega) (fun q h => by (try dsimp only at h); (try dsimp only); (try simp only [kNW] at h); (try simp only [kNW]); omega) (fun z_6 H_4 locs_1 hz_3 hF_5 hS_2 => ?_)
  have hzf_7 := hF_5.1
  refine W.widen (k := 0) (n := 0) (Nat.le_of_ble_eq_true rfl) (Nat.le_of_ble_eq_true rfl) ?_
  obtain ⟨hv_8, ho_9⟩ := hz_3
  subst z_6
  refine kx_iconst hx hb dX3_step_8 ?_
  refine kx_icmp_ne (x := 0) (y := 1) (tgt := 16) hx hb dX3_step_9 (by decide) (by omega) (by omega) (by omega) (by omega) (fun c_9_10 => ?_) (fun c_9_10 => ?_)
  · -- taken at 9
    refine kx_iconst hx hb dX3_step_16 ?_
    exact kx_zret (z := false) hx hb hr hlk (⟨by rfl, ho_9⟩) hS_2 dX3_step_17
  · -- not taken at 9
    exfalso; omega

set_option maxHeartbeats 4000000 in
set_option maxRecDepth 100000 in
theorem m_X3_step (l : Launch) (D : kG) (H : Heap) (a : Nat) (ra : Nat) (sa : Nat) (ka : Nat) (ta : Nat) (sn : Nat) (ik : Bool) (tn : Nat) (th : Int) (sp : Int) (iw : Bool) (le : Int) (fi : Int) (se : Int) (g : Nat → Int) (gs : Nat → Int) (S : Ls) (gap : Int) (hist : List Sg) (ln : Nat) (y : Int) (hO_a : kO D H a 2 [.ref ra, .ref sa, .int (kI ((sn : Nat) : Int)), .ref ka, .int (kI (kb (ik))), .ref ta, .int (kI ((tn : Nat) : Int)), .int (kI (th)), .int (kI (sp)), .int (kI (kb (iw))), .int (kI (le)), .int (kI (fi)), .int (kI (se))]) (hA_ra : kAi D H ra 514 g) (hA_sa : kAi D H sa 2570 gs) (hM : MRow g S gap) (hok : LsOK S gap) (hH : MHist gs hist sn) (ne_a_ra : a ≠ ra) (ne_a_sa : a ≠ sa) (ne_ra_sa : ra ≠ sa) (bs_a : kBase D ≤ a) (bs_ra : kBase D ≤ ra) (bs_sa : kBase D ≤ sa) (hr_y : -2147483648 ≤ y ∧ y ≤ 2147483647) (hln : ln < S.length) (hn : ln_n (st_ln S ln) < 60) (hy : 0 ≤ y ∧ y ≤ 7) (hnx : nx (ln_end (st_ln S ln)) y ≠ -1) (hr0 : ref_s S (ln : Int) y = 0) : Met l yX3_step (ws_ yX3_step cX3_step 3 (some .boolean)) ({ frames := 8, cells := 0, slots := 0, locals := 179 } : Room) (kPre D H [.ref a, .int (kI ((ln : Nat) : Int)), .int (kI (y))]) (kQb (fun (r : Bool) H' => ∃ (g2 : Nat → Int) (gs2 : Nat → Int) (sn2 : Nat), (r = ln_cl (w_step (st_ln S ln) y)) ∧ (kO D H' a 2 [.ref ra, .ref sa, .int (kI ((sn2 : Nat) : Int)), .ref ka, .int (kI (kb (ik))), .ref ta, .int (kI ((tn : Nat) : Int)), .int (kI (0)), .int (kI (sp)), .int (kI (kb (iw))), .int (kI (le)), .int (kI (fi)), .int (kI (se))]) ∧ (kAi D H' ra 514 g2) ∧ (kAi D H' sa 2570 gs2) ∧ (MRow g2 (S.set ln (w_step (st_ln S ln) y)) (gap)) ∧ (MHist gs2 (pushH hist (S, gap)) sn2)) (fun q : Nat => q = a ∨ q = ra ∨ q = sa)) (0) (0) ((fun q : Nat => q = a ∨ q = ra ∨ q = sa)) := by
  refine Met.ofW (cc := cX3_step) (maxL := 3) (ret := (some .boolean)) (by decide) rfl ?_
  intro p e s m args below meth c s₁ B hml hv
  obtain ⟨rfl, hH, hK⟩ := hv
  subst hH
  have hx := B.exec
  have hb := B.bytes
  have hr := B.returns
  have hts := atoms_spec (ws := ws_ yX3_step cX3_step 3 (some .boolean)) B.pre
  have hts : ∀ w ∈ lw_all, w.before _ s = true := fun w h => hts w (List.mem_cons_of_mem _ h)
  have hown : s.vm.findClass RX3 = some m.cls := findClass_of_methodNamed B.named
  have hlk := B.notSynchronized
  have hS : va_S (fun q : Nat => q = a ∨ q = ra ∨ q = sa) s.heap s.heap [] := va_S.rf
  have hB : ∀ q, (fun q : Nat => q = a ∨ q = ra ∨ q = sa) q → kBase D ≤ q := fun q h => by (try dsimp only at h); (try simp only [kNW] at h); have hks := hK.size; omega
  have hl := lv_entry ([.ref a, .int (kI ((ln : Nat) : Int)), .int (kI (y))]) (n := 3) (Nat.le_of_ble_eq_true rfl)
  rw [lg_entry_eq]
  generalize (lg_sl ([.ref a, .int (kI ((ln : Nat) : Int)), .int (kI (y))]) ++ List.replicate (3 - (lg_sl ([.ref a, .int (kI ((ln : Nat) : Int)), .int (kI (y))])).length) Slot.unset).toArray = ls at hl ⊢
  have hl : lv_has ls 3 [(0, .ref a), (1, .int (kI ((ln : Nat) : Int))), (2, .int (kI (y)))] := hl
  refine lv_aload_n hx hb dX3_step_0 rfl (lv_at hl 0 rfl) ?_
  refine kx_bipush hx hb (by decide) dX3_step_1 ?_
  refine lv_iload_n hx hb dX3_step_3 rfl (lv_at hl 1 rfl) ?_
  refine lv_iload_n hx hb dX3_step_4 rfl (lv_at hl 2 rfl) ?_
  refine kx_ci (va_runV (As := [.int (kI (115)), .int (kI ((ln : Nat) : Int)), .int (kI (y))]) (rest := []) ⟨hx, hb, hml, hown, hts⟩ (m_acts_s l D s.heap a ra sa ka ta sn ik tn th sp iw le fi se g gs S gap hist ln y hO_a hA_ra hA_sa (by first | assumption | omega) (by first | assumption | omega) (by first | assumption | omega) (by first | assumption | omega) (by first | assumption | omega) (by first | assumption | omega) (by first | assumption | omega) (by first | assumption | omega) (by first | assumption | omega) (by first | assumption | omega) (by first | assumption | omega) (by first | assumption | omega) (by first | assumption | omega) (by first | assumption | omega) (by first | assumption | omega)) (cwV 3 hts (lw_V q2286 q2288 qs37 q89 q2289) rfl rfl rfl (by decide +kernel) ⟨Nat.le_of_ble_eq_true rfl, Nat.le_of_ble_eq_true rfl⟩) (kx_pv hK hS hB (kx_rc hK hO_a (C := RX3) (T := TX3) (N := 13) rfl)) rfl rfl hl.1 rfl (lv_room (Nat.le_of_ble_eq_true rfl)) dX3_step_5 ⟨by first | exact Nat.le_of_ble_eq_true rfl | omega | (show _ ≤ _; omega) | (dsimp only [headSpec]; omega), by first | exact Nat.le_of_ble_eq_true rfl | omega | (show _ ≤ _; omega) | (dsimp only [headSpec]; omega)⟩) hS (fun q _ h => by (try dsimp only at h); (try dsimp only); (try simp only [kNW] at h); (try simp only [kNW]); omega) (fun q h => by (try dsimp only at h); (try dsimp only); (try simp only [kNW] at h); (try simp only [kNW]); omega) (fun z_6 H_4 locs_1 hz_3 hF_5 hS_2 => ?_)
  have hzf_7 := hF_5.1
  refine W.widen (k := 0) (n := 0) (Nat.le_of_ble_eq_true rfl) (Nat.le_of_ble_eq_true rfl) ?_
  obtain ⟨g2_8, gs2_9, sn2_10, hv_11, ho_12, ho_13, ho_14, hM9, hH9⟩ := hz_3
  subst z_6
  refine kx_eqb (ln_cl (w_step (st_ln S ln) y)) (rfl) ?_
  refine kx_iconst hx hb dX3_step_8 ?_
  refine kx_bcmp_ne (x := ln_cl (w_step (st_ln S ln) y)) (y := true) (tgt := 16) hx hb dX3_step_9 (by decide) (fun c_9_15 => ?_) (fun c_9_15 => ?_)
  · -- taken at 9
    refine kx_iconst hx hb dX3_step_16 ?_
    exact kx_zret (z := false) hx hb hr hlk (⟨g2_8, gs2_9, sn2_10, by simp [*], ho_12, ho_13, ho_14, by exact hM9, by exact hH9⟩) hS_2 dX3_step_17
  · -- not taken at 9
    refine kx_iconst hx hb dX3_step_12 ?_
    refine lv_goto (tgt := 17) hx hb dX3_step_13 (by decide) ?_
    exact kx_zret (z := true) hx hb hr hlk (⟨g2_8, gs2_9, sn2_10, by simp [*], ho_12, ho_13, ho_14, by exact hM9, by exact hH9⟩) hS_2 dX3_step_17

set_option maxHeartbeats 4000000 in
set_option maxRecDepth 100000 in
theorem m_X3_wipe_no (l : Launch) (D : kG) (H : Heap) (a : Nat) (ra : Nat) (sa : Nat) (ka : Nat) (ta : Nat) (sn : Nat) (ik : Bool) (tn : Nat) (th : Int) (sp : Int) (iw : Bool) (le : Int) (fi : Int) (se : Int) (g : Nat → Int) (gs : Nat → Int) (S : Ls) (gap : Int) (hist : List Sg) (x : Int) (hO_a : kO D H a 2 [.ref ra, .ref sa, .int (kI ((sn : Nat) : Int)), .ref ka, .int (kI (kb (ik))), .ref ta, .int (kI ((tn : Nat) : Int)), .int (kI (th)), .int (kI (sp)), .int (kI (kb (iw))), .int (kI (le)), .int (kI (fi)), .int (kI (se))]) (hA_ra : kAi D H ra 514 g) (hA_sa : kAi D H sa 2570 gs) (hM : MRow g S gap) (hok : LsOK S gap) (hH : MHist gs hist sn) (ne_a_ra : a ≠ ra) (ne_a_sa : a ≠ sa) (ne_ra_sa : ra ≠ sa) (bs_a : kBase D ≤ a) (bs_ra : kBase D ≤ ra) (bs_sa : kBase D ≤ sa) (hr_x : -2147483648 ≤ x ∧ x ≤ 2147483647) (hr0 : 0 < ref_w S x) (hr9 : ref_w S x ≤ 5) : Met l yX3_wipe (ws_ yX3_wipe cX3_wipe 2 (some .int)) ({ frames := 4, cells := 0, slots := 0, locals := 89 } : Room) (kPre D H [.ref a, .int (kI (x))]) (kQi (fun (r : Int) H' => (r = 0) ∧ (kO D H' a 2 [.ref ra, .ref sa, .int (kI ((sn : Nat) : Int)), .ref ka, .int (kI (kb (ik))), .ref ta, .int (kI ((tn : Nat) : Int)), .int (kI (ref_w S x)), .int (kI (sp)), .int (kI (kb (iw))), .int (kI (le)), .int (kI (fi)), .int (kI (se))])) (fun q : Nat => q = a)) (0) (0) ((fun q : Nat => q = a)) := by
  refine Met.ofW (cc := cX3_wipe) (maxL := 2) (ret := (some .int)) (by decide) rfl ?_
  intro p e s m args below meth c s₁ B hml hv
  obtain ⟨rfl, hH, hK⟩ := hv
  subst hH
  have hx := B.exec
  have hb := B.bytes
  have hr := B.returns
  have hts := atoms_spec (ws := ws_ yX3_wipe cX3_wipe 2 (some .int)) B.pre
  have hts : ∀ w ∈ lw_all, w.before _ s = true := fun w h => hts w (List.mem_cons_of_mem _ h)
  have hown : s.vm.findClass RX3 = some m.cls := findClass_of_methodNamed B.named
  have hlk := B.notSynchronized
  have hS : va_S (fun q : Nat => q = a) s.heap s.heap [] := va_S.rf
  have hB : ∀ q, (fun q : Nat => q = a) q → kBase D ≤ q := fun q h => by (try dsimp only at h); (try simp only [kNW] at h); have hks := hK.size; omega
  have hl := lv_entry ([.ref a, .int (kI (x))]) (n := 2) (Nat.le_of_ble_eq_true rfl)
  rw [lg_entry_eq]
  generalize (lg_sl ([.ref a, .int (kI (x))]) ++ List.replicate (2 - (lg_sl ([.ref a, .int (kI (x))])).length) Slot.unset).toArray = ls at hl ⊢
  have hl : lv_has ls 2 [(0, .ref a), (1, .int (kI (x)))] := hl
  refine lv_aload_n hx hb dX3_wipe_0 rfl (lv_at hl 0 rfl) ?_
  refine kx_bipush hx hb (by decide) dX3_wipe_1 ?_
  refine lv_iload_n hx hb dX3_wipe_3 rfl (lv_at hl 1 rfl) ?_
  refine kx_iconst hx hb dX3_wipe_4 ?_
  refine kx_ci (va_runV (As := [.int (kI (119)), .int (kI (x)), .int (kI (0))]) (rest := []) ⟨hx, hb, hml, hown, hts⟩ (m_acts_w_no l D s.heap a ra sa ka ta sn ik tn th sp iw le fi se g gs S gap hist x 0 hO_a hA_ra hA_sa (by first | assumption | omega) (by first | assumption | omega) (by first | assumption | omega) (by first | assumption | omega) (by first | assumption | omega) (by first | assumption | omega) (by first | assumption | omega) (by first | assumption | omega) (by first | assumption | omega) (by first | assumption | omega) (by first | assumption | omega) (by first | assumption | omega) (by first | assumption | omega)) (cwV 3 hts (lw_V q2286 q2288 qs37 q89 q2289) rfl rfl rfl (by decide +kernel) ⟨Nat.le_of_ble_eq_true rfl, Nat.le_of_ble_eq_true rfl⟩) (kx_pv hK hS hB (kx_rc hK hO_a (C := RX3) (T := TX3) (N := 13) rfl)) rfl rfl hl.1 rfl (lv_room (Nat.le_of_ble_eq_true rfl)) dX3_wipe_5 ⟨by first | exact Nat.le_of_ble_eq_true rfl | omega | (show _ ≤ _; omega) | (dsimp only [headSpec]; omega), by first | exact Nat.le_of_ble_eq_true rfl | omega | (show _ ≤ _; omega) | (dsimp only [headSpec]; omega)⟩) hS (fun q _ h => by (try dsimp only at h); (try dsimp only); (try simp only [kNW] at h); (try simp only [kNW]); omega) (fun q h => by (try dsimp only at h); (try dsimp only); (try simp only [kNW] at h); (try simp only [kNW]); omega) (fun z_6 H_4 locs_1 hz_3 hF_5 hS_2 => ?_)
  have hzf_7 := hF_5.1
  refine W.widen (k := 0) (n := 0) (Nat.le_of_ble_eq_true rfl) (Nat.le_of_ble_eq_true rfl) ?_
  obtain ⟨hv_8, ho_9⟩ := hz_3
  subst z_6
  exact kx_iret (z := 0) hx hb hr hlk (⟨by rfl, ho_9⟩) hS_2 dX3_wipe_8

set_option maxHeartbeats 4000000 in
set_option maxRecDepth 100000 in
theorem m_X3_wipe (l : Launch) (D : kG) (H : Heap) (a : Nat) (ra : Nat) (sa : Nat) (ka : Nat) (ta : Nat) (sn : Nat) (ik : Bool) (tn : Nat) (th : Int) (sp : Int) (iw : Bool) (le : Int) (fi : Int) (se : Int) (g : Nat → Int) (gs : Nat → Int) (S : Ls) (gap : Int) (hist : List Sg) (ln : Nat) (hO_a : kO D H a 2 [.ref ra, .ref sa, .int (kI ((sn : Nat) : Int)), .ref ka, .int (kI (kb (ik))), .ref ta, .int (kI ((tn : Nat) : Int)), .int (kI (th)), .int (kI (sp)), .int (kI (kb (iw))), .int (kI (le)), .int (kI (fi)), .int (kI (se))]) (hA_ra : kAi D H ra 514 g) (hA_sa : kAi D H sa 2570 gs) (hM : MRow g S gap) (hok : LsOK S gap) (hH : MHist gs hist sn) (ne_a_ra : a ≠ ra) (ne_a_sa : a ≠ sa) (ne_ra_sa : ra ≠ sa) (bs_a : kBase D ≤ a) (bs_ra : kBase D ≤ ra) (bs_sa : kBase D ≤ sa) (hln : ln < S.length) (hr0 : ref_w S (ln : Int) = 0) : Met l yX3_wipe (ws_ yX3_wipe cX3_wipe 2 (some .int)) ({ frames := 4, cells := 0, slots := 0, locals := 89 } : Room) (kPre D H [.ref a, .int (kI ((ln : Nat) : Int))]) (kQi (fun (r : Int) H' => ∃ (g2 : Nat → Int) (gs2 : Nat → Int) (sn2 : Nat), (r = ((S.length : Int) - 1)) ∧ (kO D H' a 2 [.ref ra, .ref sa, .int (kI ((sn2 : Nat) : Int)), .ref ka, .int (kI (kb (ik))), .ref ta, .int (kI ((tn : Nat) : Int)), .int (kI (0)), .int (kI (sp)), .int (kI (kb (iw))), .int (kI (le)), .int (kI (fi)), .int (kI (se))]) ∧ (kAi D H' ra 514 g2) ∧ (kAi D H' sa 2570 gs2) ∧ (MRow g2 (S.eraseIdx ln) (gap)) ∧ (MHist gs2 (pushH hist (S, gap)) sn2)) (fun q : Nat => q = a ∨ q = ra ∨ q = sa)) (0) (0) ((fun q : Nat => q = a ∨ q = ra ∨ q = sa)) := by
  refine Met.ofW (cc := cX3_wipe) (maxL := 2) (ret := (some .int)) (by decide) rfl ?_
  intro p e s m args below meth c s₁ B hml hv
  obtain ⟨rfl, hH, hK⟩ := hv
  subst hH
  have hx := B.exec
  have hb := B.bytes
  have hr := B.returns
  have hts := atoms_spec (ws := ws_ yX3_wipe cX3_wipe 2 (some .int)) B.pre
  have hts : ∀ w ∈ lw_all, w.before _ s = true := fun w h => hts w (List.mem_cons_of_mem _ h)
  have hown : s.vm.findClass RX3 = some m.cls := findClass_of_methodNamed B.named
  have hlk := B.notSynchronized
  have hS : va_S (fun q : Nat => q = a ∨ q = ra ∨ q = sa) s.heap s.heap [] := va_S.rf
  have hB : ∀ q, (fun q : Nat => q = a ∨ q = ra ∨ q = sa) q → kBase D ≤ q := fun q h => by (try dsimp only at h); (try simp only [kNW] at h); have hks := hK.size; omega
  have hl := lv_entry ([.ref a, .int (kI ((ln : Nat) : Int))]) (n := 2) (Nat.le_of_ble_eq_true rfl)
  rw [lg_entry_eq]
  generalize (lg_sl ([.ref a, .int (kI ((ln : Nat) : Int))]) ++ List.replicate (2 - (lg_sl ([.ref a, .int (kI ((ln : Nat) : Int))])).length) Slot.unset).toArray = ls at hl ⊢
  have hl : lv_has ls 2 [(0, .ref a), (1, .int (kI ((ln : Nat) : Int)))] := hl
  refine lv_aload_n hx hb dX3_wipe_0 rfl (lv_at hl 0 rfl) ?_
  refine kx_bipush hx hb (by decide) dX3_wipe_1 ?_
  refine lv_iload_n hx hb dX3_wipe_3 rfl (lv_at hl 1 rfl) ?_
  refine kx_iconst hx hb dX3_wipe_4 ?_
  refine kx_ci (va_runV (As := [.int (kI (119)), .int (kI ((ln : Nat) : Int)), .int (kI (0))]) (rest := []) ⟨hx, hb, hml, hown, hts⟩ (m_acts_w l D s.heap a ra sa ka ta sn ik tn th sp iw le fi se g gs S gap hist ln 0 hO_a hA_ra hA_sa (by first | assumption | omega) (by first | assumption | omega) (by first | assumption | omega) (by first | assumption | omega) (by first | assumption | omega) (by first | assumption | omega) (by first | assumption | omega) (by first | assumption | omega) (by first | assumption | omega) (by first | assumption | omega) (by first | assumption | omega) (by first | assumption | omega)) (cwV 3 hts (lw_V q2286 q2288 qs37 q89 q2289) rfl rfl rfl (by decide +kernel) ⟨Nat.le_of_ble_eq_true rfl, Nat.le_of_ble_eq_true rfl⟩) (kx_pv hK hS hB (kx_rc hK hO_a (C := RX3) (T := TX3) (N := 13) rfl)) rfl rfl hl.1 rfl (lv_room (Nat.le_of_ble_eq_true rfl)) dX3_wipe_5 ⟨by first | exact Nat.le_of_ble_eq_true rfl | omega | (show _ ≤ _; omega) | (dsimp only [headSpec]; omega), by first | exact Nat.le_of_ble_eq_true rfl | omega | (show _ ≤ _; omega) | (dsimp only [headSpec]; omega)⟩) hS (fun q _ h => by (try dsimp only at h); (try dsimp only); (try simp only [kNW] at h); (try simp only [kNW]); omega) (fun q h => by (try dsimp only at h); (try dsimp only); (try simp only [kNW] at h); (try simp only [kNW]); omega) (fun z_6 H_4 locs_1 hz_3 hF_5 hS_2 => ?_)
  have hzf_7 := hF_5.1
  refine W.widen (k := 0) (n := 0) (Nat.le_of_ble_eq_true rfl) (Nat.le_of_ble_eq_true rfl) ?_
  obtain ⟨g2_8, gs2_9, sn2_10, hv_11, ho_12, ho_13, ho_14, hM9, hH9⟩ := hz_3
  subst z_6
  exact kx_iret (z := ((S.length : Int) - 1)) hx hb hr hlk (⟨g2_8, gs2_9, sn2_10, by rfl, ho_12, ho_13, ho_14, by exact hM9, by exact hH9⟩) hS_2 dX3_wipe_8

set_option maxHeartbeats 4000000 in
set_option maxRecDepth 100000 in
theorem m_X3_label_no (l : Launch) (D : kG) (H : Heap) (a : Nat) (ra : Nat) (sa : Nat) (ka : Nat) (ta : Nat) (sn : Nat) (ik : Bool) (tn : Nat) (th : Int) (sp : Int) (iw : Bool) (le : Int) (fi : Int) (se : Int) (g : Nat → Int) (gs : Nat → Int) (S : Ls) (gap : Int) (hist : List Sg) (x : Int) (y : Int) (hO_a : kO D H a 2 [.ref ra, .ref sa, .int (kI ((sn : Nat) : Int)), .ref ka, .int (kI (kb (ik))), .ref ta, .int (kI ((tn : Nat) : Int)), .int (kI (th)), .int (kI (sp)), .int (kI (kb (iw))), .int (kI (le)), .int (kI (fi)), .int (kI (se))]) (hA_ra : kAi D H ra 514 g) (hA_sa : kAi D H sa 2570 gs) (hM : MRow g S gap) (hok : LsOK S gap) (hH : MHist gs hist sn) (ne_a_ra : a ≠ ra) (ne_a_sa : a ≠ sa) (ne_ra_sa : ra ≠ sa) (bs_a : kBase D ≤ a) (bs_ra : kBase D ≤ ra) (bs_sa : kBase D ≤ sa) (hr_x : -2147483648 ≤ x ∧ x ≤ 2147483647) (hr_y : -2147483648 ≤ y ∧ y ≤ 2147483647) (hr0 : 0 < ref_l S gap x y) (hr9 : ref_l S gap x y ≤ 5) : Met l yX3_label (ws_ yX3_label cX3_label 3 (some .int)) ({ frames := 10, cells := 0, slots := 0, locals := 225 } : Room) (kPre D H [.ref a, .int (kI (x)), .int (kI (y))]) (kQi (fun (r : Int) H' => (r = 0) ∧ (kO D H' a 2 [.ref ra, .ref sa, .int (kI ((sn : Nat) : Int)), .ref ka, .int (kI (kb (ik))), .ref ta, .int (kI ((tn : Nat) : Int)), .int (kI (ref_l S gap x y)), .int (kI (sp)), .int (kI (kb (iw))), .int (kI (le)), .int (kI (fi)), .int (kI (se))])) (fun q : Nat => q = a)) (0) (0) ((fun q : Nat => q = a)) := by
  refine Met.ofW (cc := cX3_label) (maxL := 3) (ret := (some .int)) (by decide) rfl ?_
  intro p e s m args below meth c s₁ B hml hv
  obtain ⟨rfl, hH, hK⟩ := hv
  subst hH
  have hx := B.exec
  have hb := B.bytes
  have hr := B.returns
  have hts := atoms_spec (ws := ws_ yX3_label cX3_label 3 (some .int)) B.pre
  have hts : ∀ w ∈ lw_all, w.before _ s = true := fun w h => hts w (List.mem_cons_of_mem _ h)
  have hown : s.vm.findClass RX3 = some m.cls := findClass_of_methodNamed B.named
  have hlk := B.notSynchronized
  have hS : va_S (fun q : Nat => q = a) s.heap s.heap [] := va_S.rf
  have hB : ∀ q, (fun q : Nat => q = a) q → kBase D ≤ q := fun q h => by (try dsimp only at h); (try simp only [kNW] at h); have hks := hK.size; omega
  have hl := lv_entry ([.ref a, .int (kI (x)), .int (kI (y))]) (n := 3) (Nat.le_of_ble_eq_true rfl)
  rw [lg_entry_eq]
  generalize (lg_sl ([.ref a, .int (kI (x)), .int (kI (y))]) ++ List.replicate (3 - (lg_sl ([.ref a, .int (kI (x)), .int (kI (y))])).length) Slot.unset).toArray = ls at hl ⊢
  have hl : lv_has ls 3 [(0, .ref a), (1, .int (kI (x))), (2, .int (kI (y)))] := hl
  refine lv_aload_n hx hb dX3_label_0 rfl (lv_at hl 0 rfl) ?_
  refine kx_bipush hx hb (by decide) dX3_label_1 ?_
  refine lv_iload_n hx hb dX3_label_3 rfl (lv_at hl 1 rfl) ?_
  refine lv_iload_n hx hb dX3_label_4 rfl (lv_at hl 2 rfl) ?_
  refine kx_ci (va_runV (As := [.int (kI (108)), .int (kI (x)), .int (kI (y))]) (rest := []) ⟨hx, hb, hml, hown, hts⟩ (m_acts_l_no l D s.heap a ra sa ka ta sn ik tn th sp iw le fi se g gs S gap hist x y hO_a hA_ra hA_sa (by first | assumption | omega) (by first | assumption | omega) (by first | assumption | omega) (by first | assumption | omega) (by first | assumption | omega) (by first | assumption | omega) (by first | assumption | omega) (by first | assumption | omega) (by first | assumption | omega) (by first | assumption | omega) (by first | assumption | omega) (by first | assumption | omega) (by first | assumption | omega)) (cwV 3 hts (lw_V q2286 q2288 qs37 q89 q2289) rfl rfl rfl (by decide +kernel) ⟨Nat.le_of_ble_eq_true rfl, Nat.le_of_ble_eq_true rfl⟩) (kx_pv hK hS hB (kx_rc hK hO_a (C := RX3) (T := TX3) (N := 13) rfl)) rfl rfl hl.1 rfl (lv_room (Nat.le_of_ble_eq_true rfl)) dX3_label_5 ⟨by first | exact Nat.le_of_ble_eq_true rfl | omega | (show _ ≤ _; omega) | (dsimp only [headSpec]; omega), by first | exact Nat.le_of_ble_eq_true rfl | omega | (show _ ≤ _; omega) | (dsimp only [headSpec]; omega)⟩) hS (fun q _ h => by (try dsimp only at h); (try dsimp only); (try simp only [kNW] at h); (try simp only [kNW]); omega) (fun q h => by (try dsimp only at h); (try dsimp only); (try simp only [kNW] at h); (try simp only [kNW]); omega) (fun z_6 H_4 locs_1 hz_3 hF_5 hS_2 => ?_)
  have hzf_7 := hF_5.1
  refine W.widen (k := 0) (n := 0) (Nat.le_of_ble_eq_true rfl) (Nat.le_of_ble_eq_true rfl) ?_
  obtain ⟨hv_8, ho_9⟩ := hz_3
  subst z_6
  exact kx_iret (z := 0) hx hb hr hlk (⟨by rfl, ho_9⟩) hS_2 dX3_label_8

set_option maxHeartbeats 4000000 in
set_option maxRecDepth 100000 in
theorem m_X3_label (l : Launch) (D : kG) (H : Heap) (a : Nat) (ra : Nat) (sa : Nat) (ka : Nat) (ta : Nat) (sn : Nat) (ik : Bool) (tn : Nat) (th : Int) (sp : Int) (iw : Bool) (le : Int) (fi : Int) (se : Int) (g : Nat → Int) (gs : Nat → Int) (S : Ls) (gap : Int) (hist : List Sg) (ln : Nat) (pl : Nat) (hO_a : kO D H a 2 [.ref ra, .ref sa, .int (kI ((sn : Nat) : Int)), .ref ka, .int (kI (kb (ik))), .ref ta, .int (kI ((tn : Nat) : Int)), .int (kI (th)), .int (kI (sp)), .int (kI (kb (iw))), .int (kI (le)), .int (kI (fi)), .int (kI (se))]) (hA_ra : kAi D H ra 514 g) (hA_sa : kAi D H sa 2570 gs) (hM : MRow g S gap) (hok : LsOK S gap) (hH : MHist gs hist sn) (ne_a_ra : a ≠ ra) (ne_a_sa : a ≠ sa) (ne_ra_sa : ra ≠ sa) (bs_a : kBase D ≤ a) (bs_ra : kBase D ≤ ra) (bs_sa : kBase D ≤ sa) (hp30 : pl ≤ 1000) (hln : ln < S.length) (hpl : (pl : Int) + ln_size (st_ln S ln) - 1 ≤ ln_n (st_ln S ln)) (hr0 : ref_l S gap (ln : Int) (pl : Int) = 0) : Met l yX3_label (ws_ yX3_label cX3_label 3 (some .int)) ({ frames := 10, cells := 0, slots := 0, locals := 225 } : Room) (kPre D H [.ref a, .int (kI ((ln : Nat) : Int)), .int (kI ((pl : Nat) : Int))]) (kQi (fun (r : Int) H' => ∃ (g2 : Nat → Int) (gs2 : Nat → Int) (sn2 : Nat), (r = ln_bends (st_ln S ln) pl) ∧ (kO D H' a 2 [.ref ra, .ref sa, .int (kI ((sn2 : Nat) : Int)), .ref ka, .int (kI (kb (ik))), .ref ta, .int (kI ((tn : Nat) : Int)), .int (kI (0)), .int (kI (sp)), .int (kI (kb (iw))), .int (kI (le)), .int (kI (fi)), .int (kI (se))]) ∧ (kAi D H' ra 514 g2) ∧ (kAi D H' sa 2570 gs2) ∧ (MRow g2 (S.set ln (w_lb (st_ln S ln) (pl : Int))) (gap)) ∧ (MHist gs2 (pushH hist (S, gap)) sn2)) (fun q : Nat => q = a ∨ q = ra ∨ q = sa)) (0) (0) ((fun q : Nat => q = a ∨ q = ra ∨ q = sa)) := by
  refine Met.ofW (cc := cX3_label) (maxL := 3) (ret := (some .int)) (by decide) rfl ?_
  intro p e s m args below meth c s₁ B hml hv
  obtain ⟨rfl, hH, hK⟩ := hv
  subst hH
  have hx := B.exec
  have hb := B.bytes
  have hr := B.returns
  have hts := atoms_spec (ws := ws_ yX3_label cX3_label 3 (some .int)) B.pre
  have hts : ∀ w ∈ lw_all, w.before _ s = true := fun w h => hts w (List.mem_cons_of_mem _ h)
  have hown : s.vm.findClass RX3 = some m.cls := findClass_of_methodNamed B.named
  have hlk := B.notSynchronized
  have hS : va_S (fun q : Nat => q = a ∨ q = ra ∨ q = sa) s.heap s.heap [] := va_S.rf
  have hB : ∀ q, (fun q : Nat => q = a ∨ q = ra ∨ q = sa) q → kBase D ≤ q := fun q h => by (try dsimp only at h); (try simp only [kNW] at h); have hks := hK.size; omega
  have hl := lv_entry ([.ref a, .int (kI ((ln : Nat) : Int)), .int (kI ((pl : Nat) : Int))]) (n := 3) (Nat.le_of_ble_eq_true rfl)
  rw [lg_entry_eq]
  generalize (lg_sl ([.ref a, .int (kI ((ln : Nat) : Int)), .int (kI ((pl : Nat) : Int))]) ++ List.replicate (3 - (lg_sl ([.ref a, .int (kI ((ln : Nat) : Int)), .int (kI ((pl : Nat) : Int))])).length) Slot.unset).toArray = ls at hl ⊢
  have hl : lv_has ls 3 [(0, .ref a), (1, .int (kI ((ln : Nat) : Int))), (2, .int (kI ((pl : Nat) : Int)))] := hl
  refine lv_aload_n hx hb dX3_label_0 rfl (lv_at hl 0 rfl) ?_
  refine kx_bipush hx hb (by decide) dX3_label_1 ?_
  refine lv_iload_n hx hb dX3_label_3 rfl (lv_at hl 1 rfl) ?_
  refine lv_iload_n hx hb dX3_label_4 rfl (lv_at hl 2 rfl) ?_
  refine kx_ci (va_runV (As := [.int (kI (108)), .int (kI ((ln : Nat) : Int)), .int (kI ((pl : Nat) : Int))]) (rest := []) ⟨hx, hb, hml, hown, hts⟩ (m_acts_l l D s.heap a ra sa ka ta sn ik tn th sp iw le fi se g gs S gap hist ln pl hO_a hA_ra hA_sa (by first | assumption | omega) (by first | assumption | omega) (by first | assumption | omega) (by first | assumption | omega) (by first | assumption | omega) (by first | assumption | omega) (by first | assumption | omega) (by first | assumption | omega) (by first | assumption | omega) (by first | assumption | omega) (by first | assumption | omega) (by first | assumption | omega) (by first | assumption | omega)) (cwV 3 hts (lw_V q2286 q2288 qs37 q89 q2289) rfl rfl rfl (by decide +kernel) ⟨Nat.le_of_ble_eq_true rfl, Nat.le_of_ble_eq_true rfl⟩) (kx_pv hK hS hB (kx_rc hK hO_a (C := RX3) (T := TX3) (N := 13) rfl)) rfl rfl hl.1 rfl (lv_room (Nat.le_of_ble_eq_true rfl)) dX3_label_5 ⟨by first | exact Nat.le_of_ble_eq_true rfl | omega | (show _ ≤ _; omega) | (dsimp only [headSpec]; omega), by first | exact Nat.le_of_ble_eq_true rfl | omega | (show _ ≤ _; omega) | (dsimp only [headSpec]; omega)⟩) hS (fun q _ h => by (try dsimp only at h); (try dsimp only); (try simp only [kNW] at h); (try simp only [kNW]); omega) (fun q h => by (try dsimp only at h); (try dsimp only); (try simp only [kNW] at h); (try simp only [kNW]); omega) (fun z_6 H_4 locs_1 hz_3 hF_5 hS_2 => ?_)
  have hzf_7 := hF_5.1
  refine W.widen (k := 0) (n := 0) (Nat.le_of_ble_eq_true rfl) (Nat.le_of_ble_eq_true rfl) ?_
  obtain ⟨g2_8, gs2_9, sn2_10, hv_11, ho_12, ho_13, ho_14, hM9, hH9⟩ := hz_3
  subst z_6
  exact kx_iret (z := ln_bends (st_ln S ln) pl) hx hb hr hlk (⟨g2_8, gs2_9, sn2_10, by rfl, ho_12, ho_13, ho_14, by exact hM9, by exact hH9⟩) hS_2 dX3_label_8

set_option maxHeartbeats 4000000 in
set_option maxRecDepth 100000 in
theorem m_X3_unlabel_no (l : Launch) (D : kG) (H : Heap) (a : Nat) (ra : Nat) (sa : Nat) (ka : Nat) (ta : Nat) (sn : Nat) (ik : Bool) (tn : Nat) (th : Int) (sp : Int) (iw : Bool) (le : Int) (fi : Int) (se : Int) (g : Nat → Int) (gs : Nat → Int) (S : Ls) (gap : Int) (hist : List Sg) (x : Int) (hO_a : kO D H a 2 [.ref ra, .ref sa, .int (kI ((sn : Nat) : Int)), .ref ka, .int (kI (kb (ik))), .ref ta, .int (kI ((tn : Nat) : Int)), .int (kI (th)), .int (kI (sp)), .int (kI (kb (iw))), .int (kI (le)), .int (kI (fi)), .int (kI (se))]) (hA_ra : kAi D H ra 514 g) (hA_sa : kAi D H sa 2570 gs) (hM : MRow g S gap) (hok : LsOK S gap) (hH : MHist gs hist sn) (ne_a_ra : a ≠ ra) (ne_a_sa : a ≠ sa) (ne_ra_sa : ra ≠ sa) (bs_a : kBase D ≤ a) (bs_ra : kBase D ≤ ra) (bs_sa : kBase D ≤ sa) (hr_x : -2147483648 ≤ x ∧ x ≤ 2147483647) (hr0 : 0 < ref_u S x) (hr9 : ref_u S x ≤ 5) : Met l yX3_unlabel (ws_ yX3_unlabel cX3_unlabel 2 (some .int)) ({ frames := 4, cells := 0, slots := 0, locals := 89 } : Room) (kPre D H [.ref a, .int (kI (x))]) (kQi (fun (r : Int) H' => (r = 0) ∧ (kO D H' a 2 [.ref ra, .ref sa, .int (kI ((sn : Nat) : Int)), .ref ka, .int (kI (kb (ik))), .ref ta, .int (kI ((tn : Nat) : Int)), .int (kI (ref_u S x)), .int (kI (sp)), .int (kI (kb (iw))), .int (kI (le)), .int (kI (fi)), .int (kI (se))])) (fun q : Nat => q = a)) (0) (0) ((fun q : Nat => q = a)) := by
  refine Met.ofW (cc := cX3_unlabel) (maxL := 2) (ret := (some .int)) (by decide) rfl ?_
  intro p e s m args below meth c s₁ B hml hv
  obtain ⟨rfl, hH, hK⟩ := hv
  subst hH
  have hx := B.exec
  have hb := B.bytes
  have hr := B.returns
  have hts := atoms_spec (ws := ws_ yX3_unlabel cX3_unlabel 2 (some .int)) B.pre
  have hts : ∀ w ∈ lw_all, w.before _ s = true := fun w h => hts w (List.mem_cons_of_mem _ h)
  have hown : s.vm.findClass RX3 = some m.cls := findClass_of_methodNamed B.named
  have hlk := B.notSynchronized
  have hS : va_S (fun q : Nat => q = a) s.heap s.heap [] := va_S.rf
  have hB : ∀ q, (fun q : Nat => q = a) q → kBase D ≤ q := fun q h => by (try dsimp only at h); (try simp only [kNW] at h); have hks := hK.size; omega
  have hl := lv_entry ([.ref a, .int (kI (x))]) (n := 2) (Nat.le_of_ble_eq_true rfl)
  rw [lg_entry_eq]
  generalize (lg_sl ([.ref a, .int (kI (x))]) ++ List.replicate (2 - (lg_sl ([.ref a, .int (kI (x))])).length) Slot.unset).toArray = ls at hl ⊢
  have hl : lv_has ls 2 [(0, .ref a), (1, .int (kI (x)))] := hl
  refine lv_aload_n hx hb dX3_unlabel_0 rfl (lv_at hl 0 rfl) ?_
  refine kx_bipush hx hb (by decide) dX3_unlabel_1 ?_
  refine lv_iload_n hx hb dX3_unlabel_3 rfl (lv_at hl 1 rfl) ?_
  refine kx_iconst hx hb dX3_unlabel_4 ?_
  refine kx_ci (va_runV (As := [.int (kI (117)), .int (kI (x)), .int (kI (0))]) (rest := []) ⟨hx, hb, hml, hown, hts⟩ (m_acts_u_no l D s.heap a ra sa ka ta sn ik tn th sp iw le fi se g gs S gap hist x 0 hO_a hA_ra hA_sa (by first | assumption | omega) (by first | assumption | omega) (by first | assumption | omega) (by first | assumption | omega) (by first | assumption | omega) (by first | assumption | omega) (by first | assumption | omega) (by first | assumption | omega) (by first | assumption | omega) (by first | assumption | omega) (by first | assumption | omega) (by first | assumption | omega) (by first | assumption | omega)) (cwV 3 hts (lw_V q2286 q2288 qs37 q89 q2289) rfl rfl rfl (by decide +kernel) ⟨Nat.le_of_ble_eq_true rfl, Nat.le_of_ble_eq_true rfl⟩) (kx_pv hK hS hB (kx_rc hK hO_a (C := RX3) (T := TX3) (N := 13) rfl)) rfl rfl hl.1 rfl (lv_room (Nat.le_of_ble_eq_true rfl)) dX3_unlabel_5 ⟨by first | exact Nat.le_of_ble_eq_true rfl | omega | (show _ ≤ _; omega) | (dsimp only [headSpec]; omega), by first | exact Nat.le_of_ble_eq_true rfl | omega | (show _ ≤ _; omega) | (dsimp only [headSpec]; omega)⟩) hS (fun q _ h => by (try dsimp only at h); (try dsimp only); (try simp only [kNW] at h); (try simp only [kNW]); omega) (fun q h => by (try dsimp only at h); (try dsimp only); (try simp only [kNW] at h); (try simp only [kNW]); omega) (fun z_6 H_4 locs_1 hz_3 hF_5 hS_2 => ?_)
  have hzf_7 := hF_5.1
  refine W.widen (k := 0) (n := 0) (Nat.le_of_ble_eq_true rfl) (Nat.le_of_ble_eq_true rfl) ?_
  obtain ⟨hv_8, ho_9⟩ := hz_3
  subst z_6
  exact kx_iret (z := 0) hx hb hr hlk (⟨by rfl, ho_9⟩) hS_2 dX3_unlabel_8

set_option maxHeartbeats 4000000 in
set_option maxRecDepth 100000 in
theorem m_X3_unlabel (l : Launch) (D : kG) (H : Heap) (a : Nat) (ra : Nat) (sa : Nat) (ka : Nat) (ta : Nat) (sn : Nat) (ik : Bool) (tn : Nat) (th : Int) (sp : Int) (iw : Bool) (le : Int) (fi : Int) (se : Int) (g : Nat → Int) (gs : Nat → Int) (S : Ls) (gap : Int) (hist : List Sg) (ln : Nat) (hO_a : kO D H a 2 [.ref ra, .ref sa, .int (kI ((sn : Nat) : Int)), .ref ka, .int (kI (kb (ik))), .ref ta, .int (kI ((tn : Nat) : Int)), .int (kI (th)), .int (kI (sp)), .int (kI (kb (iw))), .int (kI (le)), .int (kI (fi)), .int (kI (se))]) (hA_ra : kAi D H ra 514 g) (hA_sa : kAi D H sa 2570 gs) (hM : MRow g S gap) (hok : LsOK S gap) (hH : MHist gs hist sn) (ne_a_ra : a ≠ ra) (ne_a_sa : a ≠ sa) (ne_ra_sa : ra ≠ sa) (bs_a : kBase D ≤ a) (bs_ra : kBase D ≤ ra) (bs_sa : kBase D ≤ sa) (hln : ln < S.length) (hr0 : ref_u S (ln : Int) = 0) : Met l yX3_unlabel (ws_ yX3_unlabel cX3_unlabel 2 (some .int)) ({ frames := 4, cells := 0, slots := 0, locals := 89 } : Room) (kPre D H [.ref a, .int (kI ((ln : Nat) : Int))]) (kQi (fun (r : Int) H' => ∃ (g2 : Nat → Int) (gs2 : Nat → Int) (sn2 : Nat), (r = ln_lb (st_ln S ln)) ∧ (kO D H' a 2 [.ref ra, .ref sa, .int (kI ((sn2 : Nat) : Int)), .ref ka, .int (kI (kb (ik))), .ref ta, .int (kI ((tn : Nat) : Int)), .int (kI (0)), .int (kI (sp)), .int (kI (kb (iw))), .int (kI (le)), .int (kI (fi)), .int (kI (se))]) ∧ (kAi D H' ra 514 g2) ∧ (kAi D H' sa 2570 gs2) ∧ (MRow g2 (S.set ln (w_lb (st_ln S ln) (-1))) (gap)) ∧ (MHist gs2 (pushH hist (S, gap)) sn2)) (fun q : Nat => q = a ∨ q = ra ∨ q = sa)) (0) (0) ((fun q : Nat => q = a ∨ q = ra ∨ q = sa)) := by
  refine Met.ofW (cc := cX3_unlabel) (maxL := 2) (ret := (some .int)) (by decide) rfl ?_
  intro p e s m args below meth c s₁ B hml hv
  obtain ⟨rfl, hH, hK⟩ := hv
  subst hH
  have hx := B.exec
  have hb := B.bytes
  have hr := B.returns
  have hts := atoms_spec (ws := ws_ yX3_unlabel cX3_unlabel 2 (some .int)) B.pre
  have hts : ∀ w ∈ lw_all, w.before _ s = true := fun w h => hts w (List.mem_cons_of_mem _ h)
  have hown : s.vm.findClass RX3 = some m.cls := findClass_of_methodNamed B.named
  have hlk := B.notSynchronized
  have hS : va_S (fun q : Nat => q = a ∨ q = ra ∨ q = sa) s.heap s.heap [] := va_S.rf
  have hB : ∀ q, (fun q : Nat => q = a ∨ q = ra ∨ q = sa) q → kBase D ≤ q := fun q h => by (try dsimp only at h); (try simp only [kNW] at h); have hks := hK.size; omega
  have hl := lv_entry ([.ref a, .int (kI ((ln : Nat) : Int))]) (n := 2) (Nat.le_of_ble_eq_true rfl)
  rw [lg_entry_eq]
  generalize (lg_sl ([.ref a, .int (kI ((ln : Nat) : Int))]) ++ List.replicate (2 - (lg_sl ([.ref a, .int (kI ((ln : Nat) : Int))])).length) Slot.unset).toArray = ls at hl ⊢
  have hl : lv_has ls 2 [(0, .ref a), (1, .int (kI ((ln : Nat) : Int)))] := hl
  refine lv_aload_n hx hb dX3_unlabel_0 rfl (lv_at hl 0 rfl) ?_
  refine kx_bipush hx hb (by decide) dX3_unlabel_1 ?_
  refine lv_iload_n hx hb dX3_unlabel_3 rfl (lv_at hl 1 rfl) ?_
  refine kx_iconst hx hb dX3_unlabel_4 ?_
  refine kx_ci (va_runV (As := [.int (kI (117)), .int (kI ((ln : Nat) : Int)), .int (kI (0))]) (rest := []) ⟨hx, hb, hml, hown, hts⟩ (m_acts_u l D s.heap a ra sa ka ta sn ik tn th sp iw le fi se g gs S gap hist ln 0 hO_a hA_ra hA_sa (by first | assumption | omega) (by first | assumption | omega) (by first | assumption | omega) (by first | assumption | omega) (by first | assumption | omega) (by first | assumption | omega) (by first | assumption | omega) (by first | assumption | omega) (by first | assumption | omega) (by first | assumption | omega) (by first | assumption | omega) (by first | assumption | omega)) (cwV 3 hts (lw_V q2286 q2288 qs37 q89 q2289) rfl rfl rfl (by decide +kernel) ⟨Nat.le_of_ble_eq_true rfl, Nat.le_of_ble_eq_true rfl⟩) (kx_pv hK hS hB (kx_rc hK hO_a (C := RX3) (T := TX3) (N := 13) rfl)) rfl rfl hl.1 rfl (lv_room (Nat.le_of_ble_eq_true rfl)) dX3_unlabel_5 ⟨by first | exact Nat.le_of_ble_eq_true rfl | omega | (show _ ≤ _; omega) | (dsimp only [headSpec]; omega), by first | exact Nat.le_of_ble_eq_true rfl | omega | (show _ ≤ _; omega) | (dsimp only [headSpec]; omega)⟩) hS (fun q _ h => by (try dsimp only at h); (try dsimp only); (try simp only [kNW] at h); (try simp only [kNW]); omega) (fun q h => by (try dsimp only at h); (try dsimp only); (try simp only [kNW] at h); (try simp only [kNW]); omega) (fun z_6 H_4 locs_1 hz_3 hF_5 hS_2 => ?_)
  have hzf_7 := hF_5.1
  refine W.widen (k := 0) (n := 0) (Nat.le_of_ble_eq_true rfl) (Nat.le_of_ble_eq_true rfl) ?_
  obtain ⟨g2_8, gs2_9, sn2_10, hv_11, ho_12, ho_13, ho_14, hM9, hH9⟩ := hz_3
  subst z_6
  exact kx_iret (z := ln_lb (st_ln S ln)) hx hb hr hlk (⟨g2_8, gs2_9, sn2_10, by rfl, ho_12, ho_13, ho_14, by exact hM9, by exact hH9⟩) hS_2 dX3_unlabel_8

set_option maxHeartbeats 4000000 in
set_option maxRecDepth 100000 in
theorem m_X3_labelBest_no (l : Launch) (D : kG) (H : Heap) (a : Nat) (ra : Nat) (sa : Nat) (ka : Nat) (ta : Nat) (sn : Nat) (ik : Bool) (tn : Nat) (th : Int) (sp : Int) (iw : Bool) (le : Int) (fi : Int) (se : Int) (g : Nat → Int) (gs : Nat → Int) (S : Ls) (gap : Int) (hist : List Sg) (x : Int) (hO_a : kO D H a 2 [.ref ra, .ref sa, .int (kI ((sn : Nat) : Int)), .ref ka, .int (kI (kb (ik))), .ref ta, .int (kI ((tn : Nat) : Int)), .int (kI (th)), .int (kI (sp)), .int (kI (kb (iw))), .int (kI (le)), .int (kI (fi)), .int (kI (se))]) (hA_ra : kAi D H ra 514 g) (hA_sa : kAi D H sa 2570 gs) (hM : MRow g S gap) (hok : LsOK S gap) (hH : MHist gs hist sn) (ne_a_ra : a ≠ ra) (ne_a_sa : a ≠ sa) (ne_ra_sa : ra ≠ sa) (bs_a : kBase D ≤ a) (bs_ra : kBase D ≤ ra) (bs_sa : kBase D ≤ sa) (hr_x : -2147483648 ≤ x ∧ x ≤ 2147483647) (hr0 : 0 < ref_best S gap x) (hr9 : ref_best S gap x ≤ 5) : Met l yX3_labelBest (ws_ yX3_labelBest cX3_labelBest 2 (some .int)) ({ frames := 11, cells := 0, slots := 0, locals := 253 } : Room) (kPre D H [.ref a, .int (kI (x))]) (kQi (fun (r : Int) H' => (r = 0) ∧ (kO D H' a 2 [.ref ra, .ref sa, .int (kI ((sn : Nat) : Int)), .ref ka, .int (kI (kb (ik))), .ref ta, .int (kI ((tn : Nat) : Int)), .int (kI (ref_best S gap x)), .int (kI (sp)), .int (kI (kb (iw))), .int (kI (le)), .int (kI (fi)), .int (kI (se))])) (fun q : Nat => q = a)) (0) (0) ((fun q : Nat => q = a)) := by
  refine Met.ofW (cc := cX3_labelBest) (maxL := 2) (ret := (some .int)) (by decide) rfl ?_
  intro p e s m args below meth c s₁ B hml hv
  obtain ⟨rfl, hH, hK⟩ := hv
  subst hH
  have hx := B.exec
  have hb := B.bytes
  have hr := B.returns
  have hts := atoms_spec (ws := ws_ yX3_labelBest cX3_labelBest 2 (some .int)) B.pre
  have hts : ∀ w ∈ lw_all, w.before _ s = true := fun w h => hts w (List.mem_cons_of_mem _ h)
  have hown : s.vm.findClass RX3 = some m.cls := findClass_of_methodNamed B.named
  have hlk := B.notSynchronized
  have hS : va_S (fun q : Nat => q = a) s.heap s.heap [] := va_S.rf
  have hB : ∀ q, (fun q : Nat => q = a) q → kBase D ≤ q := fun q h => by (try dsimp only at h); (try simp only [kNW] at h); have hks := hK.size; omega
  have hl := lv_entry ([.ref a, .int (kI (x))]) (n := 2) (Nat.le_of_ble_eq_true rfl)
  rw [lg_entry_eq]
  generalize (lg_sl ([.ref a, .int (kI (x))]) ++ List.replicate (2 - (lg_sl ([.ref a, .int (kI (x))])).length) Slot.unset).toArray = ls at hl ⊢
  have hl : lv_has ls 2 [(0, .ref a), (1, .int (kI (x)))] := hl
  refine lv_aload_n hx hb dX3_labelBest_0 rfl (lv_at hl 0 rfl) ?_
  refine kx_bipush hx hb (by decide) dX3_labelBest_1 ?_
  refine lv_iload_n hx hb dX3_labelBest_3 rfl (lv_at hl 1 rfl) ?_
  refine kx_iconst hx hb dX3_labelBest_4 ?_
  refine kx_ci (va_runV (As := [.int (kI (98)), .int (kI (x)), .int (kI (0))]) (rest := []) ⟨hx, hb, hml, hown, hts⟩ (m_acts_best_no l D s.heap a ra sa ka ta sn ik tn th sp iw le fi se g gs S gap hist x 0 hO_a hA_ra hA_sa (by first | assumption | omega) (by first | assumption | omega) (by first | assumption | omega) (by first | assumption | omega) (by first | assumption | omega) (by first | assumption | omega) (by first | assumption | omega) (by first | assumption | omega) (by first | assumption | omega) (by first | assumption | omega) (by first | assumption | omega) (by first | assumption | omega) (by first | assumption | omega)) (cwV 3 hts (lw_V q2286 q2288 qs37 q89 q2289) rfl rfl rfl (by decide +kernel) ⟨Nat.le_of_ble_eq_true rfl, Nat.le_of_ble_eq_true rfl⟩) (kx_pv hK hS hB (kx_rc hK hO_a (C := RX3) (T := TX3) (N := 13) rfl)) rfl rfl hl.1 rfl (lv_room (Nat.le_of_ble_eq_true rfl)) dX3_labelBest_5 ⟨by first | exact Nat.le_of_ble_eq_true rfl | omega | (show _ ≤ _; omega) | (dsimp only [headSpec]; omega), by first | exact Nat.le_of_ble_eq_true rfl | omega | (show _ ≤ _; omega) | (dsimp only [headSpec]; omega)⟩) hS (fun q _ h => by (try dsimp only at h); (try dsimp only); (try simp only [kNW] at h); (try simp only [kNW]); omega) (fun q h => by (try dsimp only at h); (try dsimp only); (try simp only [kNW] at h); (try simp only [kNW]); omega) (fun z_6 H_4 locs_1 hz_3 hF_5 hS_2 => ?_)
  have hzf_7 := hF_5.1
  refine W.widen (k := 0) (n := 0) (Nat.le_of_ble_eq_true rfl) (Nat.le_of_ble_eq_true rfl) ?_
  obtain ⟨hv_8, ho_9⟩ := hz_3
  subst z_6
  exact kx_iret (z := 0) hx hb hr hlk (⟨by rfl, ho_9⟩) hS_2 dX3_labelBest_8

set_option maxHeartbeats 4000000 in
set_option maxRecDepth 100000 in
theorem m_X3_labelBest (l : Launch) (D : kG) (H : Heap) (a : Nat) (ra : Nat) (sa : Nat) (ka : Nat) (ta : Nat) (sn : Nat) (ik : Bool) (tn : Nat) (th : Int) (sp : Int) (iw : Bool) (le : Int) (fi : Int) (se : Int) (g : Nat → Int) (gs : Nat → Int) (S : Ls) (gap : Int) (hist : List Sg) (ln : Nat) (hO_a : kO D H a 2 [.ref ra, .ref sa, .int (kI ((sn : Nat) : Int)), .ref ka, .int (kI (kb (ik))), .ref ta, .int (kI ((tn : Nat) : Int)), .int (kI (th)), .int (kI (sp)), .int (kI (kb (iw))), .int (kI (le)), .int (kI (fi)), .int (kI (se))]) (hA_ra : kAi D H ra 514 g) (hA_sa : kAi D H sa 2570 gs) (hM : MRow g S gap) (hok : LsOK S gap) (hH : MHist gs hist sn) (ne_a_ra : a ≠ ra) (ne_a_sa : a ≠ sa) (ne_ra_sa : ra ≠ sa) (bs_a : kBase D ≤ a) (bs_ra : kBase D ≤ ra) (bs_sa : kBase D ≤ sa) (hln : ln < S.length) (hr0 : ref_best S gap (ln : Int) = 0) : Met l yX3_labelBest (ws_ yX3_labelBest cX3_labelBest 2 (some .int)) ({ frames := 11, cells := 0, slots := 0, locals := 255 } : Room) (kPre D H [.ref a, .int (kI ((ln : Nat) : Int))]) (kQi (fun (r : Int) H' => ∃ (g2 : Nat → Int) (gs2 : Nat → Int) (sn2 : Nat), (r = st_best S gap ln) ∧ (kO D H' a 2 [.ref ra, .ref sa, .int (kI ((sn2 : Nat) : Int)), .ref ka, .int (kI (kb (ik))), .ref ta, .int (kI ((tn : Nat) : Int)), .int (kI (0)), .int (kI (sp)), .int (kI (kb (iw))), .int (kI (le)), .int (kI (fi)), .int (kI (se))]) ∧ (kAi D H' ra 514 g2) ∧ (kAi D H' sa 2570 gs2) ∧ (MRow g2 (S.set ln (w_lb (st_ln S ln) (st_best S gap ln))) (gap)) ∧ (MHist gs2 (pushH hist (S, gap)) sn2)) (fun q : Nat => q = a ∨ q = ra ∨ q = sa)) (0) (0) ((fun q : Nat => q = a ∨ q = ra ∨ q = sa)) := by
  refine Met.ofW (cc := cX3_labelBest) (maxL := 2) (ret := (some .int)) (by decide) rfl ?_
  intro p e s m args below meth c s₁ B hml hv
  obtain ⟨rfl, hH, hK⟩ := hv
  subst hH
  have hx := B.exec
  have hb := B.bytes
  have hr := B.returns
  have hts := atoms_spec (ws := ws_ yX3_labelBest cX3_labelBest 2 (some .int)) B.pre
  have hts : ∀ w ∈ lw_all, w.before _ s = true := fun w h => hts w (List.mem_cons_of_mem _ h)
  have hown : s.vm.findClass RX3 = some m.cls := findClass_of_methodNamed B.named
  have hlk := B.notSynchronized
  have hS : va_S (fun q : Nat => q = a ∨ q = ra ∨ q = sa) s.heap s.heap [] := va_S.rf
  have hB : ∀ q, (fun q : Nat => q = a ∨ q = ra ∨ q = sa) q → kBase D ≤ q := fun q h => by (try dsimp only at h); (try simp only [kNW] at h); have hks := hK.size; omega
  have hl := lv_entry ([.ref a, .int (kI ((ln : Nat) : Int))]) (n := 2) (Nat.le_of_ble_eq_true rfl)
  rw [lg_entry_eq]
  generalize (lg_sl ([.ref a, .int (kI ((ln : Nat) : Int))]) ++ List.replicate (2 - (lg_sl ([.ref a, .int (kI ((ln : Nat) : Int))])).length) Slot.unset).toArray = ls at hl ⊢
  have hl : lv_has ls 2 [(0, .ref a), (1, .int (kI ((ln : Nat) : Int)))] := hl
  refine lv_aload_n hx hb dX3_labelBest_0 rfl (lv_at hl 0 rfl) ?_
  refine kx_bipush hx hb (by decide) dX3_labelBest_1 ?_
  refine lv_iload_n hx hb dX3_labelBest_3 rfl (lv_at hl 1 rfl) ?_
  refine kx_iconst hx hb dX3_labelBest_4 ?_
  refine kx_ci (va_runV (As := [.int (kI (98)), .int (kI ((ln : Nat) : Int)), .int (kI (0))]) (rest := []) ⟨hx, hb, hml, hown, hts⟩ (m_acts_best l D s.heap a ra sa ka ta sn ik tn th sp iw le fi se g gs S gap hist ln 0 hO_a hA_ra hA_sa (by first | assumption | omega) (by first | assumption | omega) (by first | assumption | omega) (by first | assumption | omega) (by first | assumption | omega) (by first | assumption | omega) (by first | assumption | omega) (by first | assumption | omega) (by first | assumption | omega) (by first | assumption | omega) (by first | assumption | omega) (by first | assumption | omega)) (cwV 3 hts (lw_V q2286 q2288 qs37 q89 q2289) rfl rfl rfl (by decide +kernel) ⟨Nat.le_of_ble_eq_true rfl, Nat.le_of_ble_eq_true rfl⟩) (kx_pv hK hS hB (kx_rc hK hO_a (C := RX3) (T := TX3) (N := 13) rfl)) rfl rfl hl.1 rfl (lv_room (Nat.le_of_ble_eq_true rfl)) dX3_labelBest_5 ⟨by first | exact Nat.le_of_ble_eq_true rfl | omega | (show _ ≤ _; omega) | (dsimp only [headSpec]; omega), by first | exact Nat.le_of_ble_eq_true rfl | omega | (show _ ≤ _; omega) | (dsimp only [headSpec]; omega)⟩) hS (fun q _ h => by (try dsimp only at h); (try dsimp only); (try simp only [kNW] at h); (try simp only [kNW]); omega) (fun q h => by (try dsimp only at h); (try dsimp only); (try simp only [kNW] at h); (try simp only [kNW]); omega) (fun z_6 H_4 locs_1 hz_3 hF_5 hS_2 => ?_)
  have hzf_7 := hF_5.1
  refine W.widen (k := 0) (n := 0) (Nat.le_of_ble_eq_true rfl) (Nat.le_of_ble_eq_true rfl) ?_
  obtain ⟨g2_8, gs2_9, sn2_10, hv_11, ho_12, ho_13, ho_14, hM9, hH9⟩ := hz_3
  subst z_6
  exact kx_iret (z := st_best S gap ln) hx hb hr hlk (⟨g2_8, gs2_9, sn2_10, by rfl, ho_12, ho_13, ho_14, by exact hM9, by exact hH9⟩) hS_2 dX3_labelBest_8

set_option maxHeartbeats 4000000 in
set_option maxRecDepth 100000 in
theorem m_X3_setGap_no (l : Launch) (D : kG) (H : Heap) (a : Nat) (ra : Nat) (sa : Nat) (ka : Nat) (ta : Nat) (sn : Nat) (ik : Bool) (tn : Nat) (th : Int) (sp : Int) (iw : Bool) (le : Int) (fi : Int) (se : Int) (g : Nat → Int) (gs : Nat → Int) (S : Ls) (gap : Int) (hist : List Sg) (x : Int) (hO_a : kO D H a 2 [.ref ra, .ref sa, .int (kI ((sn : Nat) : Int)), .ref ka, .int (kI (kb (ik))), .ref ta, .int (kI ((tn : Nat) : Int)), .int (kI (th)), .int (kI (sp)), .int (kI (kb (iw))), .int (kI (le)), .int (kI (fi)), .int (kI (se))]) (hA_ra : kAi D H ra 514 g) (hA_sa : kAi D H sa 2570 gs) (hM : MRow g S gap) (hok : LsOK S gap) (hH : MHist gs hist sn) (ne_a_ra : a ≠ ra) (ne_a_sa : a ≠ sa) (ne_ra_sa : ra ≠ sa) (bs_a : kBase D ≤ a) (bs_ra : kBase D ≤ ra) (bs_sa : kBase D ≤ sa) (hr_x : -2147483648 ≤ x ∧ x ≤ 2147483647) (hr0 : 0 < ref_g x) (hr9 : ref_g x ≤ 5) : Met l yX3_setGap (ws_ yX3_setGap cX3_setGap 2 (some .int)) ({ frames := 3, cells := 0, slots := 0, locals := 68 } : Room) (kPre D H [.ref a, .int (kI (x))]) (kQi (fun (r : Int) H' => (r = 0) ∧ (kO D H' a 2 [.ref ra, .ref sa, .int (kI ((sn : Nat) : Int)), .ref ka, .int (kI (kb (ik))), .ref ta, .int (kI ((tn : Nat) : Int)), .int (kI (ref_g x)), .int (kI (sp)), .int (kI (kb (iw))), .int (kI (le)), .int (kI (fi)), .int (kI (se))])) (fun q : Nat => q = a)) (0) (0) ((fun q : Nat => q = a)) := by
  refine Met.ofW (cc := cX3_setGap) (maxL := 2) (ret := (some .int)) (by decide) rfl ?_
  intro p e s m args below meth c s₁ B hml hv
  obtain ⟨rfl, hH, hK⟩ := hv
  subst hH
  have hx := B.exec
  have hb := B.bytes
  have hr := B.returns
  have hts := atoms_spec (ws := ws_ yX3_setGap cX3_setGap 2 (some .int)) B.pre
  have hts : ∀ w ∈ lw_all, w.before _ s = true := fun w h => hts w (List.mem_cons_of_mem _ h)
  have hown : s.vm.findClass RX3 = some m.cls := findClass_of_methodNamed B.named
  have hlk := B.notSynchronized
  have hS : va_S (fun q : Nat => q = a) s.heap s.heap [] := va_S.rf
  have hB : ∀ q, (fun q : Nat => q = a) q → kBase D ≤ q := fun q h => by (try dsimp only at h); (try simp only [kNW] at h); have hks := hK.size; omega
  have hl := lv_entry ([.ref a, .int (kI (x))]) (n := 2) (Nat.le_of_ble_eq_true rfl)
  rw [lg_entry_eq]
  generalize (lg_sl ([.ref a, .int (kI (x))]) ++ List.replicate (2 - (lg_sl ([.ref a, .int (kI (x))])).length) Slot.unset).toArray = ls at hl ⊢
  have hl : lv_has ls 2 [(0, .ref a), (1, .int (kI (x)))] := hl
  refine lv_aload_n hx hb dX3_setGap_0 rfl (lv_at hl 0 rfl) ?_
  refine kx_bipush hx hb (by decide) dX3_setGap_1 ?_
  refine lv_iload_n hx hb dX3_setGap_3 rfl (lv_at hl 1 rfl) ?_
  refine kx_iconst hx hb dX3_setGap_4 ?_
  refine kx_ci (va_runV (As := [.int (kI (103)), .int (kI (x)), .int (kI (0))]) (rest := []) ⟨hx, hb, hml, hown, hts⟩ (m_acts_g_no l D s.heap a ra sa ka ta sn ik tn th sp iw le fi se g gs S gap hist x 0 hO_a hA_ra hA_sa (by first | assumption | omega) (by first | assumption | omega) (by first | assumption | omega) (by first | assumption | omega) (by first | assumption | omega) (by first | assumption | omega) (by first | assumption | omega) (by first | assumption | omega) (by first | assumption | omega) (by first | assumption | omega) (by first | assumption | omega) (by first | assumption | omega) (by first | assumption | omega)) (cwV 3 hts (lw_V q2286 q2288 qs37 q89 q2289) rfl rfl rfl (by decide +kernel) ⟨Nat.le_of_ble_eq_true rfl, Nat.le_of_ble_eq_true rfl⟩) (kx_pv hK hS hB (kx_rc hK hO_a (C := RX3) (T := TX3) (N := 13) rfl)) rfl rfl hl.1 rfl (lv_room (Nat.le_of_ble_eq_true rfl)) dX3_setGap_5 ⟨by first | exact Nat.le_of_ble_eq_true rfl | omega | (show _ ≤ _; omega) | (dsimp only [headSpec]; omega), by first | exact Nat.le_of_ble_eq_true rfl | omega | (show _ ≤ _; omega) | (dsimp only [headSpec]; omega)⟩) hS (fun q _ h => by (try dsimp only at h); (try dsimp only); (try simp only [kNW] at h); (try simp only [kNW]); omega) (fun q h => by (try dsimp only at h); (try dsimp only); (try simp only [kNW] at h); (try simp only [kNW]); omega) (fun z_6 H_4 locs_1 hz_3 hF_5 hS_2 => ?_)
  have hzf_7 := hF_5.1
  refine W.widen (k := 0) (n := 0) (Nat.le_of_ble_eq_true rfl) (Nat.le_of_ble_eq_true rfl) ?_
  obtain ⟨hv_8, ho_9⟩ := hz_3
  subst z_6
  exact kx_iret (z := 0) hx hb hr hlk (⟨by rfl, ho_9⟩) hS_2 dX3_setGap_8

set_option maxHeartbeats 4000000 in
set_option maxRecDepth 100000 in
theorem m_X3_setGap (l : Launch) (D : kG) (H : Heap) (a : Nat) (ra : Nat) (sa : Nat) (ka : Nat) (ta : Nat) (sn : Nat) (ik : Bool) (tn : Nat) (th : Int) (sp : Int) (iw : Bool) (le : Int) (fi : Int) (se : Int) (g : Nat → Int) (gs : Nat → Int) (S : Ls) (gap : Int) (hist : List Sg) (x : Int) (hO_a : kO D H a 2 [.ref ra, .ref sa, .int (kI ((sn : Nat) : Int)), .ref ka, .int (kI (kb (ik))), .ref ta, .int (kI ((tn : Nat) : Int)), .int (kI (th)), .int (kI (sp)), .int (kI (kb (iw))), .int (kI (le)), .int (kI (fi)), .int (kI (se))]) (hA_ra : kAi D H ra 514 g) (hA_sa : kAi D H sa 2570 gs) (hM : MRow g S gap) (hok : LsOK S gap) (hH : MHist gs hist sn) (ne_a_ra : a ≠ ra) (ne_a_sa : a ≠ sa) (ne_ra_sa : ra ≠ sa) (bs_a : kBase D ≤ a) (bs_ra : kBase D ≤ ra) (bs_sa : kBase D ≤ sa) (hr_x : -2147483648 ≤ x ∧ x ≤ 2147483647) (hr0 : ref_g x = 0) : Met l yX3_setGap (ws_ yX3_setGap cX3_setGap 2 (some .int)) ({ frames := 3, cells := 0, slots := 0, locals := 68 } : Room) (kPre D H [.ref a, .int (kI (x))]) (kQi (fun (r : Int) H' => ∃ (g2 : Nat → Int) (gs2 : Nat → Int) (sn2 : Nat), (r = gap) ∧ (kO D H' a 2 [.ref ra, .ref sa, .int (kI ((sn2 : Nat) : Int)), .ref ka, .int (kI (kb (ik))), .ref ta, .int (kI ((tn : Nat) : Int)), .int (kI (0)), .int (kI (sp)), .int (kI (kb (iw))), .int (kI (le)), .int (kI (fi)), .int (kI (se))]) ∧ (kAi D H' ra 514 g2) ∧ (kAi D H' sa 2570 gs2) ∧ (MRow g2 (S) (x)) ∧ (MHist gs2 (pushH hist (S, gap)) sn2)) (fun q : Nat => q = a ∨ q = ra ∨ q = sa)) (0) (0) ((fun q : Nat => q = a ∨ q = ra ∨ q = sa)) := by
  refine Met.ofW (cc := cX3_setGap) (maxL := 2) (ret := (some .int)) (by decide) rfl ?_
  intro p e s m args below meth c s₁ B hml hv
  obtain ⟨rfl, hH, hK⟩ := hv
  subst hH
  have hx := B.exec
  have hb := B.bytes
  have hr := B.returns
  have hts := atoms_spec (ws := ws_ yX3_setGap cX3_setGap 2 (some .int)) B.pre
  have hts : ∀ w ∈ lw_all, w.before _ s = true := fun w h => hts w (List.mem_cons_of_mem _ h)
  have hown : s.vm.findClass RX3 = some m.cls := findClass_of_methodNamed B.named
  have hlk := B.notSynchronized
  have hS : va_S (fun q : Nat => q = a ∨ q = ra ∨ q = sa) s.heap s.heap [] := va_S.rf
  have hB : ∀ q, (fun q : Nat => q = a ∨ q = ra ∨ q = sa) q → kBase D ≤ q := fun q h => by (try dsimp only at h); (try simp only [kNW] at h); have hks := hK.size; omega
  have hl := lv_entry ([.ref a, .int (kI (x))]) (n := 2) (Nat.le_of_ble_eq_true rfl)
  rw [lg_entry_eq]
  generalize (lg_sl ([.ref a, .int (kI (x))]) ++ List.replicate (2 - (lg_sl ([.ref a, .int (kI (x))])).length) Slot.unset).toArray = ls at hl ⊢
  have hl : lv_has ls 2 [(0, .ref a), (1, .int (kI (x)))] := hl
  refine lv_aload_n hx hb dX3_setGap_0 rfl (lv_at hl 0 rfl) ?_
  refine kx_bipush hx hb (by decide) dX3_setGap_1 ?_
  refine lv_iload_n hx hb dX3_setGap_3 rfl (lv_at hl 1 rfl) ?_
  refine kx_iconst hx hb dX3_setGap_4 ?_
  refine kx_ci (va_runV (As := [.int (kI (103)), .int (kI (x)), .int (kI (0))]) (rest := []) ⟨hx, hb, hml, hown, hts⟩ (m_acts_g l D s.heap a ra sa ka ta sn ik tn th sp iw le fi se g gs S gap hist x 0 hO_a hA_ra hA_sa (by first | assumption | omega) (by first | assumption | omega) (by first | assumption | omega) (by first | assumption | omega) (by first | assumption | omega) (by first | assumption | omega) (by first | assumption | omega) (by first | assumption | omega) (by first | assumption | omega) (by first | assumption | omega) (by first | assumption | omega) (by first | assumption | omega)) (cwV 3 hts (lw_V q2286 q2288 qs37 q89 q2289) rfl rfl rfl (by decide +kernel) ⟨Nat.le_of_ble_eq_true rfl, Nat.le_of_ble_eq_true rfl⟩) (kx_pv hK hS hB (kx_rc hK hO_a (C := RX3) (T := TX3) (N := 13) rfl)) rfl rfl hl.1 rfl (lv_room (Nat.le_of_ble_eq_true rfl)) dX3_setGap_5 ⟨by first | exact Nat.le_of_ble_eq_true rfl | omega | (show _ ≤ _; omega) | (dsimp only [headSpec]; omega), by first | exact Nat.le_of_ble_eq_true rfl | omega | (show _ ≤ _; omega) | (dsimp only [headSpec]; omega)⟩) hS (fun q _ h => by (try dsimp only at h); (try dsimp only); (try simp only [kNW] at h); (try simp only [kNW]); omega) (fun q h => by (try dsimp only at h); (try dsimp only); (try simp only [kNW] at h); (try simp only [kNW]); omega) (fun z_6 H_4 locs_1 hz_3 hF_5 hS_2 => ?_)
  have hzf_7 := hF_5.1
  refine W.widen (k := 0) (n := 0) (Nat.le_of_ble_eq_true rfl) (Nat.le_of_ble_eq_true rfl) ?_
  obtain ⟨g2_8, gs2_9, sn2_10, hv_11, ho_12, ho_13, ho_14, hM9, hH9⟩ := hz_3
  subst z_6
  exact kx_iret (z := gap) hx hb hr hlk (⟨g2_8, gs2_9, sn2_10, by rfl, ho_12, ho_13, ho_14, by exact hM9, by exact hH9⟩) hS_2 dX3_setGap_8

set_option maxHeartbeats 4000000 in
set_option maxRecDepth 100000 in
theorem m_X3_labelAll (l : Launch) (D : kG) (H : Heap) (a : Nat) (ra : Nat) (sa : Nat) (ka : Nat) (ta : Nat) (sn : Nat) (ik : Bool) (tn : Nat) (th : Int) (sp : Int) (iw : Bool) (le : Int) (fi : Int) (se : Int) (g : Nat → Int) (gs : Nat → Int) (S : Ls) (gap : Int) (hist : List Sg) (hO_a : kO D H a 2 [.ref ra, .ref sa, .int (kI ((sn : Nat) : Int)), .ref ka, .int (kI (kb (ik))), .ref ta, .int (kI ((tn : Nat) : Int)), .int (kI (th)), .int (kI (sp)), .int (kI (kb (iw))), .int (kI (le)), .int (kI (fi)), .int (kI (se))]) (hA_ra : kAi D H ra 514 g) (hA_sa : kAi D H sa 2570 gs) (hM : MRow g S gap) (hok : LsOK S gap) (hH : MHist gs hist sn) (ne_a_ra : a ≠ ra) (ne_a_sa : a ≠ sa) (ne_ra_sa : ra ≠ sa) (bs_a : kBase D ≤ a) (bs_ra : kBase D ≤ ra) (bs_sa : kBase D ≤ sa) : Met l yX3_labelAll (ws_ yX3_labelAll cX3_labelAll 1 (some .int)) ({ frames := 12, cells := 0, slots := 0, locals := 277 } : Room) (kPre D H [.ref a]) (kQi (fun (r : Int) H' => ∃ (g2 : Nat → Int) (gs2 : Nat → Int) (sn2 : Nat), (r = st_lab (st_la S gap)) ∧ (kO D H' a 2 [.ref ra, .ref sa, .int (kI ((sn2 : Nat) : Int)), .ref ka, .int (kI (kb (ik))), .ref ta, .int (kI ((tn : Nat) : Int)), .int (kI (0)), .int (kI (sp)), .int (kI (kb (iw))), .int (kI (le)), .int (kI (fi)), .int (kI (se))]) ∧ (kAi D H' ra 514 g2) ∧ (kAi D H' sa 2570 gs2) ∧ (MRow g2 (st_la S gap) (gap)) ∧ (MHist gs2 (pushH hist (S, gap)) sn2)) (fun q : Nat => q = a ∨ q = ra ∨ q = sa)) (0) (0) ((fun q : Nat => q = a ∨ q = ra ∨ q = sa)) := by
  refine Met.ofW (cc := cX3_labelAll) (maxL := 1) (ret := (some .int)) (by decide) rfl ?_
  intro p e s m args below meth c s₁ B hml hv
  obtain ⟨rfl, hH, hK⟩ := hv
  subst hH
  have hx := B.exec
  have hb := B.bytes
  have hr := B.returns
  have hts := atoms_spec (ws := ws_ yX3_labelAll cX3_labelAll 1 (some .int)) B.pre
  have hts : ∀ w ∈ lw_all, w.before _ s = true := fun w h => hts w (List.mem_cons_of_mem _ h)
  have hown : s.vm.findClass RX3 = some m.cls := findClass_of_methodNamed B.named
  have hlk := B.notSynchronized
  have hS : va_S (fun q : Nat => q = a ∨ q = ra ∨ q = sa) s.heap s.heap [] := va_S.rf
  have hB : ∀ q, (fun q : Nat => q = a ∨ q = ra ∨ q = sa) q → kBase D ≤ q := fun q h => by (try dsimp only at h); (try simp only [kNW] at h); have hks := hK.size; omega
  have hl := lv_entry ([.ref a]) (n := 1) (Nat.le_of_ble_eq_true rfl)
  rw [lg_entry_eq]
  generalize (lg_sl ([.ref a]) ++ List.replicate (1 - (lg_sl ([.ref a])).length) Slot.unset).toArray = ls at hl ⊢
  have hl : lv_has ls 1 [(0, .ref a)] := hl
  refine lv_aload_n hx hb dX3_labelAll_0 rfl (lv_at hl 0 rfl) ?_
  refine kx_bipush hx hb (by decide) dX3_labelAll_1 ?_
  refine kx_iconst hx hb dX3_labelAll_3 ?_
  refine kx_iconst hx hb dX3_labelAll_4 ?_
  refine kx_ci (va_runV (As := [.int (kI (97)), .int (kI (0)), .int (kI (0))]) (rest := []) ⟨hx, hb, hml, hown, hts⟩ (m_acts_a l D s.heap a ra sa ka ta sn ik tn th sp iw le fi se g gs S gap hist 0 0 hO_a hA_ra hA_sa (by first | assumption | omega) (by first | assumption | omega) (by first | assumption | omega) (by first | assumption | omega) (by first | assumption | omega) (by first | assumption | omega) (by first | assumption | omega) (by first | assumption | omega) (by first | assumption | omega) (by first | assumption | omega) (by first | assumption | omega)) (cwV 3 hts (lw_V q2286 q2288 qs37 q89 q2289) rfl rfl rfl (by decide +kernel) ⟨Nat.le_of_ble_eq_true rfl, Nat.le_of_ble_eq_true rfl⟩) (kx_pv hK hS hB (kx_rc hK hO_a (C := RX3) (T := TX3) (N := 13) rfl)) rfl rfl hl.1 rfl (lv_room (Nat.le_of_ble_eq_true rfl)) dX3_labelAll_5 ⟨by first | exact Nat.le_of_ble_eq_true rfl | omega | (show _ ≤ _; omega) | (dsimp only [headSpec]; omega), by first | exact Nat.le_of_ble_eq_true rfl | omega | (show _ ≤ _; omega) | (dsimp only [headSpec]; omega)⟩) hS (fun q _ h => by (try dsimp only at h); (try dsimp only); (try simp only [kNW] at h); (try simp only [kNW]); omega) (fun q h => by (try dsimp only at h); (try dsimp only); (try simp only [kNW] at h); (try simp only [kNW]); omega) (fun z_6 H_4 locs_1 hz_3 hF_5 hS_2 => ?_)
  have hzf_7 := hF_5.1
  refine W.widen (k := 0) (n := 0) (Nat.le_of_ble_eq_true rfl) (Nat.le_of_ble_eq_true rfl) ?_
  obtain ⟨g2_8, gs2_9, sn2_10, hv_11, ho_12, ho_13, ho_14, hM9, hH9⟩ := hz_3
  subst z_6
  exact kx_iret (z := st_lab (st_la S gap)) hx hb hr hlk (⟨g2_8, gs2_9, sn2_10, by rfl, ho_12, ho_13, ho_14, by exact hM9, by exact hH9⟩) hS_2 dX3_labelAll_8

set_option maxHeartbeats 4000000 in
set_option maxRecDepth 100000 in
theorem m_X3_setLevel_no1 (l : Launch) (D : kG) (H : Heap) (a : Nat) (ra : Nat) (sa : Nat) (ka : Nat) (ta : Nat) (sn : Nat) (ik : Bool) (tn : Nat) (th : Int) (sp : Int) (iw : Bool) (le : Int) (fi : Int) (se : Int) (g : Nat → Int) (gs : Nat → Int) (S : Ls) (gap : Int) (hist : List Sg) (x : Int) (y : Int) (hO_a : kO D H a 2 [.ref ra, .ref sa, .int (kI ((sn : Nat) : Int)), .ref ka, .int (kI (kb (ik))), .ref ta, .int (kI ((tn : Nat) : Int)), .int (kI (th)), .int (kI (sp)), .int (kI (kb (iw))), .int (kI (le)), .int (kI (fi)), .int (kI (se))]) (hA_ra : kAi D H ra 514 g) (hA_sa : kAi D H sa 2570 gs) (hM : MRow g S gap) (hok : LsOK S gap) (hH : MHist gs hist sn) (ne_a_ra : a ≠ ra) (ne_a_sa : a ≠ sa) (ne_ra_sa : ra ≠ sa) (bs_a : kBase D ≤ a) (bs_ra : kBase D ≤ ra) (bs_sa : kBase D ≤ sa) (hr_x : -2147483648 ≤ x ∧ x ≤ 2147483647) (hr_y : -2147483648 ≤ y ∧ y ≤ 2147483647) (hno : ¬ (0 ≤ x ∧ x < S.length)) : Met l yX3_setLevel (ws_ yX3_setLevel cX3_setLevel 4 (some .int)) ({ frames := 2, cells := 0, slots := 0, locals := 43 } : Room) (kPre D H [.ref a, .int (kI (x)), .int (kI (y))]) (kQi (fun (r : Int) H' => (r = 0) ∧ (kO D H' a 2 [.ref ra, .ref sa, .int (kI ((sn : Nat) : Int)), .ref ka, .int (kI (kb (ik))), .ref ta, .int (kI ((tn : Nat) : Int)), .int (kI (1)), .int (kI (sp)), .int (kI (kb (iw))), .int (kI (le)), .int (kI (fi)), .int (kI (se))])) (fun q : Nat => q = a)) (0) (0) ((fun q : Nat => q = a)) := by
  refine Met.ofW (cc := cX3_setLevel) (maxL := 4) (ret := (some .int)) (by decide) rfl ?_
  intro p e s m args below meth c s₁ B hml hv
  obtain ⟨rfl, hH, hK⟩ := hv
  subst hH
  have hx := B.exec
  have hb := B.bytes
  have hr := B.returns
  have hts := atoms_spec (ws := ws_ yX3_setLevel cX3_setLevel 4 (some .int)) B.pre
  have hts : ∀ w ∈ lw_all, w.before _ s = true := fun w h => hts w (List.mem_cons_of_mem _ h)
  have hown : s.vm.findClass RX3 = some m.cls := findClass_of_methodNamed B.named
  have hlk := B.notSynchronized
  have hS : va_S (fun q : Nat => q = a) s.heap s.heap [] := va_S.rf
  have hB : ∀ q, (fun q : Nat => q = a) q → kBase D ≤ q := fun q h => by (try dsimp only at h); (try simp only [kNW] at h); have hks := hK.size; omega
  have hl := lv_entry ([.ref a, .int (kI (x)), .int (kI (y))]) (n := 4) (Nat.le_of_ble_eq_true rfl)
  rw [lg_entry_eq]
  generalize (lg_sl ([.ref a, .int (kI (x)), .int (kI (y))]) ++ List.replicate (4 - (lg_sl ([.ref a, .int (kI (x)), .int (kI (y))])).length) Slot.unset).toArray = ls at hl ⊢
  have hl : lv_has ls 4 [(0, .ref a), (1, .int (kI (x))), (2, .int (kI (y)))] := hl
  refine lv_aload_n hx hb dX3_setLevel_0 rfl (lv_at hl 0 rfl) ?_
  refine lv_aload_n hx hb dX3_setLevel_1 rfl (lv_at hl 0 rfl) ?_
  refine lv_iload_n hx hb dX3_setLevel_2 rfl (lv_at hl 1 rfl) ?_
  refine kx_cb0 (va_runV (As := [.int (kI (x))]) (rest := [.ref a]) ⟨hx, hb, hml, hown, hts⟩ (m_X3_isLine l D s.heap a ([.ref ra, .ref sa, .int (kI ((sn : Nat) : Int)), .ref ka, .int (kI (kb (ik))), .ref ta, .int (kI ((tn : Nat) : Int)), .int (kI (th)), .int (kI (sp)), .int (kI (kb (iw))), .int (kI (le)), .int (kI (fi)), .int (kI (se))]) ra g S gap x hO_a rfl hA_ra (by first | assumption | omega) (by first | assumption | omega) (by first | assumption | omega)) (cwV 1 hts (lw_V q2314 q2316 qs41 q89 q2317) rfl rfl rfl (by decide +kernel) ⟨Nat.le_of_ble_eq_true rfl, Nat.le_of_ble_eq_true rfl⟩) (kx_pv hK hS hB (kx_rc hK hO_a (C := RX3) (T := TX3) (N := 13) rfl)) rfl rfl hl.1 rfl (lv_room (Nat.le_of_ble_eq_true rfl)) dX3_setLevel_3 ⟨by first | exact Nat.le_of_ble_eq_true rfl | omega | (show _ ≤ _; omega) | (dsimp only [headSpec]; omega), by first | exact Nat.le_of_ble_eq_true rfl | omega | (show _ ≤ _; omega) | (dsimp only [headSpec]; omega)⟩) hS (fun z_4 locs_1 hz_3 hS_2 => ?_)
  subst z_4
  refine kx_ifnz (tgt := 13) hx hb dX3_setLevel_6 (by decide) (fun c_6_5 => ?_) (fun c_6_5 => ?_)
  · -- taken at 6
    have c_6_5 := of_decide_eq_true c_6_5
    exfalso; omega
  · -- not taken at 6
    have c_6_5 := of_decide_eq_false c_6_5
    refine kx_iconst hx hb dX3_setLevel_9 ?_
    refine lv_goto (tgt := 28) hx hb dX3_setLevel_10 (by decide) ?_
    refine kx_put (v := .int (kI (1))) (C := RX3) (T := TX3) (N := 13) hx hb hts in_X3 hown hK hO_a rfl 7 (by decide) tyX3 tyX3_ok nmX3 hS_2 (by first | rfl | exact Or.inl rfl | exact Or.inr rfl | exact Or.inr (Or.inl rfl) | exact Or.inr (Or.inr rfl) | exact Or.inr (Or.inr (Or.inl rfl)) | exact Or.inr (Or.inr (Or.inr rfl)) | ((try dsimp only); (try simp only [kNW]); omega)) q2245 (fun _ h9 => h9) rfl rfl rfl rfl (Nat.le_of_ble_eq_true rfl) dX3_setLevel_28 (fun H_8 locs_9 hO_7 hU_6 hS_10 => ?_)
    have hO_7 : kO D H_8 a 2 [.ref ra, .ref sa, .int (kI ((sn : Nat) : Int)), .ref ka, .int (kI (kb (ik))), .ref ta, .int (kI ((tn : Nat) : Int)), .int (kI (1)), .int (kI (sp)), .int (kI (kb (iw))), .int (kI (le)), .int (kI (fi)), .int (kI (se))] := hO_7
    have hzu_11 := hU_6.1
    refine lv_aload_n hx hb dX3_setLevel_31 rfl (lv_at hl 0 rfl) ?_
    refine kx_get (v := .int (kI (1))) (C := RX3) (T := TX3) (N := 13) hx hb hts in_X3 hown hK hO_7 rfl 7 (by decide) q2245 (fun _ h9 => h9) rfl dX3_setLevel_32 ?_
    refine kx_if_le (x := 1) (tgt := 40) hx hb dX3_setLevel_35 (by decide) (by omega) (by omega) (fun c_35_12 => ?_) (fun c_35_12 => ?_)
    · -- taken at 35
      exfalso; omega
    · -- not taken at 35
      refine kx_iconst hx hb dX3_setLevel_38 ?_
      exact kx_iret (z := 0) hx hb hr hlk (⟨by rfl, hO_7⟩) hS_10 dX3_setLevel_39

set_option maxHeartbeats 4000000 in
set_option maxRecDepth 100000 in
theorem m_X3_setLevel_no2 (l : Launch) (D : kG) (H : Heap) (a : Nat) (ra : Nat) (sa : Nat) (ka : Nat) (ta : Nat) (sn : Nat) (ik : Bool) (tn : Nat) (th : Int) (sp : Int) (iw : Bool) (le : Int) (fi : Int) (se : Int) (g : Nat → Int) (gs : Nat → Int) (S : Ls) (gap : Int) (hist : List Sg) (ln : Nat) (y : Int) (hO_a : kO D H a 2 [.ref ra, .ref sa, .int (kI ((sn : Nat) : Int)), .ref ka, .int (kI (kb (ik))), .ref ta, .int (kI ((tn : Nat) : Int)), .int (kI (th)), .int (kI (sp)), .int (kI (kb (iw))), .int (kI (le)), .int (kI (fi)), .int (kI (se))]) (hA_ra : kAi D H ra 514 g) (hA_sa : kAi D H sa 2570 gs) (hM : MRow g S gap) (hok : LsOK S gap) (hH : MHist gs hist sn) (ne_a_ra : a ≠ ra) (ne_a_sa : a ≠ sa) (ne_ra_sa : ra ≠ sa) (bs_a : kBase D ≤ a) (bs_ra : kBase D ≤ ra) (bs_sa : kBase D ≤ sa) (hln : ln < S.length) (hr_y : -2147483648 ≤ y ∧ y ≤ 2147483647) (hno : ¬ (0 ≤ y ∧ y ≤ 99)) : Met l yX3_setLevel (ws_ yX3_setLevel cX3_setLevel 4 (some .int)) ({ frames := 2, cells := 0, slots := 0, locals := 43 } : Room) (kPre D H [.ref a, .int (kI ((ln : Nat) : Int)), .int (kI (y))]) (kQi (fun (r : Int) H' => (r = 0) ∧ (kO D H' a 2 [.ref ra, .ref sa, .int (kI ((sn : Nat) : Int)), .ref ka, .int (kI (kb (ik))), .ref ta, .int (kI ((tn : Nat) : Int)), .int (kI (2)), .int (kI (sp)), .int (kI (kb (iw))), .int (kI (le)), .int (kI (fi)), .int (kI (se))])) (fun q : Nat => q = a)) (0) (0) ((fun q : Nat => q = a)) := by
  refine Met.ofW (cc := cX3_setLevel) (maxL := 4) (ret := (some .int)) (by decide) rfl ?_
  intro p e s m args below meth c s₁ B hml hv
  obtain ⟨rfl, hH, hK⟩ := hv
  subst hH
  have hx := B.exec
  have hb := B.bytes
  have hr := B.returns
  have hts := atoms_spec (ws := ws_ yX3_setLevel cX3_setLevel 4 (some .int)) B.pre
  have hts : ∀ w ∈ lw_all, w.before _ s = true := fun w h => hts w (List.mem_cons_of_mem _ h)
  have hown : s.vm.findClass RX3 = some m.cls := findClass_of_methodNamed B.named
  have hlk := B.notSynchronized
  have hS : va_S (fun q : Nat => q = a) s.heap s.heap [] := va_S.rf
  have hB : ∀ q, (fun q : Nat => q = a) q → kBase D ≤ q := fun q h => by (try dsimp only at h); (try simp only [kNW] at h); have hks := hK.size; omega
  have hl := lv_entry ([.ref a, .int (kI ((ln : Nat) : Int)), .int (kI (y))]) (n := 4) (Nat.le_of_ble_eq_true rfl)
  rw [lg_entry_eq]
  generalize (lg_sl ([.ref a, .int (kI ((ln : Nat) : Int)), .int (kI (y))]) ++ List.replicate (4 - (lg_sl ([.ref a, .int (kI ((ln : Nat) : Int)), .int (kI (y))])).length) Slot.unset).toArray = ls at hl ⊢
  have hl : lv_has ls 4 [(0, .ref a), (1, .int (kI ((ln : Nat) : Int))), (2, .int (kI (y)))] := hl
  have hL8 := hok.1
  refine lv_aload_n hx hb dX3_setLevel_0 rfl (lv_at hl 0 rfl) ?_
  refine lv_aload_n hx hb dX3_setLevel_1 rfl (lv_at hl 0 rfl) ?_
  refine lv_iload_n hx hb dX3_setLevel_2 rfl (lv_at hl 1 rfl) ?_
  refine kx_cb0 (va_runV (As := [.int (kI ((ln : Nat) : Int))]) (rest := [.ref a]) ⟨hx, hb, hml, hown, hts⟩ (m_X3_isLine l D s.heap a ([.ref ra, .ref sa, .int (kI ((sn : Nat) : Int)), .ref ka, .int (kI (kb (ik))), .ref ta, .int (kI ((tn : Nat) : Int)), .int (kI (th)), .int (kI (sp)), .int (kI (kb (iw))), .int (kI (le)), .int (kI (fi)), .int (kI (se))]) ra g S gap ((ln : Int)) hO_a rfl hA_ra (by first | assumption | omega) (by first | assumption | omega) (by first | assumption | omega)) (cwV 1 hts (lw_V q2314 q2316 qs41 q89 q2317) rfl rfl rfl (by decide +kernel) ⟨Nat.le_of_ble_eq_true rfl, Nat.le_of_ble_eq_true rfl⟩) (kx_pv hK hS hB (kx_rc hK hO_a (C := RX3) (T := TX3) (N := 13) rfl)) rfl rfl hl.1 rfl (lv_room (Nat.le_of_ble_eq_true rfl)) dX3_setLevel_3 ⟨by first | exact Nat.le_of_ble_eq_true rfl | omega | (show _ ≤ _; omega) | (dsimp only [headSpec]; omega), by first | exact Nat.le_of_ble_eq_true rfl | omega | (show _ ≤ _; omega) | (dsimp only [headSpec]; omega)⟩) hS (fun z_4 locs_1 hz_3 hS_2 => ?_)
  subst z_4
  refine kx_ifnz (tgt := 13) hx hb dX3_setLevel_6 (by decide) (fun c_6_5 => ?_) (fun c_6_5 => ?_)
  · -- taken at 6
    have c_6_5 := of_decide_eq_true c_6_5
    refine lv_iload_n hx hb dX3_setLevel_13 rfl (lv_at hl 2 rfl) ?_
    refine kx_iconst hx hb dX3_setLevel_14 ?_
    refine kx_bipush hx hb (by decide) dX3_setLevel_15 ?_
    refine kx_cb0 (va_runS (As := [.int (kI (y)), .int (kI (0)), .int (kI (99))]) (rest := [.ref a]) ⟨hx, hb, hml, hown, hts⟩ (m_X3_in l D s.heap y 0 99  (by first | assumption | omega) (by first | assumption | omega) (by first | assumption | omega)) (va_cwS 3 hts (lw_S q2297 q2298 q89 q2299) rfl rfl rfl (by decide +kernel) ⟨Nat.le_of_ble_eq_true rfl, Nat.le_of_ble_eq_true rfl⟩) (kx_ps hK hS_2 hB) rfl rfl hl.1 rfl (lv_room (Nat.le_of_ble_eq_true rfl)) dX3_setLevel_17 ⟨by first | exact Nat.le_of_ble_eq_true rfl | omega | (show _ ≤ _; omega) | (dsimp only [headSpec]; omega), by first | exact Nat.le_of_ble_eq_true rfl | omega | (show _ ≤ _; omega) | (dsimp only [headSpec]; omega)⟩) hS_2 (fun z_9 locs_6 hz_8 hS_7 => ?_)
    subst z_9
    refine kx_ifnz (tgt := 27) hx hb dX3_setLevel_20 (by decide) (fun c_20_10 => ?_) (fun c_20_10 => ?_)
    · -- taken at 20
      have c_20_10 := of_decide_eq_true c_20_10
      exfalso; omega
    · -- not taken at 20
      have c_20_10 := of_decide_eq_false c_20_10
      refine kx_iconst hx hb dX3_setLevel_23 ?_
      refine lv_goto (tgt := 28) hx hb dX3_setLevel_24 (by decide) ?_
      refine kx_put (v := .int (kI (2))) (C := RX3) (T := TX3) (N := 13) hx hb hts in_X3 hown hK hO_a rfl 7 (by decide) tyX3 tyX3_ok nmX3 hS_7 (by first | rfl | exact Or.inl rfl | exact Or.inr rfl | exact Or.inr (Or.inl rfl) | exact Or.inr (Or.inr rfl) | exact Or.inr (Or.inr (Or.inl rfl)) | exact Or.inr (Or.inr (Or.inr rfl)) | ((try dsimp only); (try simp only [kNW]); omega)) q2245 (fun _ h9 => h9) rfl rfl rfl rfl (Nat.le_of_ble_eq_true rfl) dX3_setLevel_28 (fun H_13 locs_14 hO_12 hU_11 hS_15 => ?_)
      have hO_12 : kO D H_13 a 2 [.ref ra, .ref sa, .int (kI ((sn : Nat) : Int)), .ref ka, .int (kI (kb (ik))), .ref ta, .int (kI ((tn : Nat) : Int)), .int (kI (2)), .int (kI (sp)), .int (kI (kb (iw))), .int (kI (le)), .int (kI (fi)), .int (kI (se))] := hO_12
      have hzu_16 := hU_11.1
      refine lv_aload_n hx hb dX3_setLevel_31 rfl (lv_at hl 0 rfl) ?_
      refine kx_get (v := .int (kI (2))) (C := RX3) (T := TX3) (N := 13) hx hb hts in_X3 hown hK hO_12 rfl 7 (by decide) q2245 (fun _ h9 => h9) rfl dX3_setLevel_32 ?_
      refine kx_if_le (x := 2) (tgt := 40) hx hb dX3_setLevel_35 (by decide) (by omega) (by omega) (fun c_35_17 => ?_) (fun c_35_17 => ?_)
      · -- taken at 35
        exfalso; omega
      · -- not taken at 35
        refine kx_iconst hx hb dX3_setLevel_38 ?_
        exact kx_iret (z := 0) hx hb hr hlk (⟨by rfl, hO_12⟩) hS_15 dX3_setLevel_39
  · -- not taken at 6
    have c_6_5 := of_decide_eq_false c_6_5
    exfalso; omega

set_option maxHeartbeats 4000000 in
set_option maxRecDepth 100000 in
theorem m_X3_setLevel (l : Launch) (D : kG) (H : Heap) (a : Nat) (ra : Nat) (sa : Nat) (ka : Nat) (ta : Nat) (sn : Nat) (ik : Bool) (tn : Nat) (th : Int) (sp : Int) (iw : Bool) (le : Int) (fi : Int) (se : Int) (g : Nat → Int) (gs : Nat → Int) (S : Ls) (gap : Int) (hist : List Sg) (ln : Nat) (y : Int) (hO_a : kO D H a 2 [.ref ra, .ref sa, .int (kI ((sn : Nat) : Int)), .ref ka, .int (kI (kb (ik))), .ref ta, .int (kI ((tn : Nat) : Int)), .int (kI (th)), .int (kI (sp)), .int (kI (kb (iw))), .int (kI (le)), .int (kI (fi)), .int (kI (se))]) (hA_ra : kAi D H ra 514 g) (hA_sa : kAi D H sa 2570 gs) (hM : MRow g S gap) (hok : LsOK S gap) (hH : MHist gs hist sn) (ne_a_ra : a ≠ ra) (ne_a_sa : a ≠ sa) (ne_ra_sa : ra ≠ sa) (bs_a : kBase D ≤ a) (bs_ra : kBase D ≤ ra) (bs_sa : kBase D ≤ sa) (hln : ln < S.length) (hy : 0 ≤ y ∧ y ≤ 99) : Met l yX3_setLevel (ws_ yX3_setLevel cX3_setLevel 4 (some .int)) ({ frames := 2, cells := 0, slots := 0, locals := 43 } : Room) (kPre D H [.ref a, .int (kI ((ln : Nat) : Int)), .int (kI (y))]) (kQi (fun (r : Int) H' => ∃ (g2 : Nat → Int) (gs2 : Nat → Int) (sn2 : Nat), (r = ln_lv (st_ln S ln)) ∧ (kO D H' a 2 [.ref ra, .ref sa, .int (kI ((sn2 : Nat) : Int)), .ref ka, .int (kI (kb (ik))), .ref ta, .int (kI ((tn : Nat) : Int)), .int (kI (0)), .int (kI (sp)), .int (kI (kb (iw))), .int (kI (le)), .int (kI (fi)), .int (kI (se))]) ∧ (kAi D H' ra 514 g2) ∧ (kAi D H' sa 2570 gs2) ∧ (MRow g2 (S.set ln (w_lv (st_ln S ln) y)) gap) ∧ (MHist gs2 (pushH hist (S, gap)) sn2)) (fun q : Nat => q = a ∨ q = ra ∨ q = sa)) (0) (0) ((fun q : Nat => q = a ∨ q = ra ∨ q = sa)) := by
  refine Met.ofW (cc := cX3_setLevel) (maxL := 4) (ret := (some .int)) (by decide) rfl ?_
  intro p e s m args below meth c s₁ B hml hv
  obtain ⟨rfl, hH, hK⟩ := hv
  subst hH
  have hx := B.exec
  have hb := B.bytes
  have hr := B.returns
  have hts := atoms_spec (ws := ws_ yX3_setLevel cX3_setLevel 4 (some .int)) B.pre
  have hts : ∀ w ∈ lw_all, w.before _ s = true := fun w h => hts w (List.mem_cons_of_mem _ h)
  have hown : s.vm.findClass RX3 = some m.cls := findClass_of_methodNamed B.named
  have hlk := B.notSynchronized
  have hS : va_S (fun q : Nat => q = a ∨ q = ra ∨ q = sa) s.heap s.heap [] := va_S.rf
  have hB : ∀ q, (fun q : Nat => q = a ∨ q = ra ∨ q = sa) q → kBase D ≤ q := fun q h => by (try dsimp only at h); (try simp only [kNW] at h); have hks := hK.size; omega
  have hl := lv_entry ([.ref a, .int (kI ((ln : Nat) : Int)), .int (kI (y))]) (n := 4) (Nat.le_of_ble_eq_true rfl)
  rw [lg_entry_eq]
  generalize (lg_sl ([.ref a, .int (kI ((ln : Nat) : Int)), .int (kI (y))]) ++ List.replicate (4 - (lg_sl ([.ref a, .int (kI ((ln : Nat) : Int)), .int (kI (y))])).length) Slot.unset).toArray = ls at hl ⊢
  have hl : lv_has ls 4 [(0, .ref a), (1, .int (kI ((ln : Nat) : Int))), (2, .int (kI (y)))] := hl
  have hL8 := hok.1
  have hsn5 := hH.2.1
  refine lv_aload_n hx hb dX3_setLevel_0 rfl (lv_at hl 0 rfl) ?_
  refine lv_aload_n hx hb dX3_setLevel_1 rfl (lv_at hl 0 rfl) ?_
  refine lv_iload_n hx hb dX3_setLevel_2 rfl (lv_at hl 1 rfl) ?_
  refine kx_cb0 (va_runV (As := [.int (kI ((ln : Nat) : Int))]) (rest := [.ref a]) ⟨hx, hb, hml, hown, hts⟩ (m_X3_isLine l D s.heap a ([.ref ra, .ref sa, .int (kI ((sn : Nat) : Int)), .ref ka, .int (kI (kb (ik))), .ref ta, .int (kI ((tn : Nat) : Int)), .int (kI (th)), .int (kI (sp)), .int (kI (kb (iw))), .int (kI (le)), .int (kI (fi)), .int (kI (se))]) ra g S gap ((ln : Int)) hO_a rfl hA_ra (by first | assumption | omega) (by first | assumption | omega) (by first | assumption | omega)) (cwV 1 hts (lw_V q2314 q2316 qs41 q89 q2317) rfl rfl rfl (by decide +kernel) ⟨Nat.le_of_ble_eq_true rfl, Nat.le_of_ble_eq_true rfl⟩) (kx_pv hK hS hB (kx_rc hK hO_a (C := RX3) (T := TX3) (N := 13) rfl)) rfl rfl hl.1 rfl (lv_room (Nat.le_of_ble_eq_true rfl)) dX3_setLevel_3 ⟨by first | exact Nat.le_of_ble_eq_true rfl | omega | (show _ ≤ _; omega) | (dsimp only [headSpec]; omega), by first | exact Nat.le_of_ble_eq_true rfl | omega | (show _ ≤ _; omega) | (dsimp only [headSpec]; omega)⟩) hS (fun z_4 locs_1 hz_3 hS_2 => ?_)
  subst z_4
  refine kx_ifnz (tgt := 13) hx hb dX3_setLevel_6 (by decide) (fun c_6_5 => ?_) (fun c_6_5 => ?_)
  · -- taken at 6
    have c_6_5 := of_decide_eq_true c_6_5
    refine lv_iload_n hx hb dX3_setLevel_13 rfl (lv_at hl 2 rfl) ?_
    refine kx_iconst hx hb dX3_setLevel_14 ?_
    refine kx_bipush hx hb (by decide) dX3_setLevel_15 ?_
    refine kx_cb0 (va_runS (As := [.int (kI (y)), .int (kI (0)), .int (kI (99))]) (rest := [.ref a]) ⟨hx, hb, hml, hown, hts⟩ (m_X3_in l D s.heap y 0 99  (by first | assumption | omega) (by first | assumption | omega) (by first | assumption | omega)) (va_cwS 3 hts (lw_S q2297 q2298 q89 q2299) rfl rfl rfl (by decide +kernel) ⟨Nat.le_of_ble_eq_true rfl, Nat.le_of_ble_eq_true rfl⟩) (kx_ps hK hS_2 hB) rfl rfl hl.1 rfl (lv_room (Nat.le_of_ble_eq_true rfl)) dX3_setLevel_17 ⟨by first | exact Nat.le_of_ble_eq_true rfl | omega | (show _ ≤ _; omega) | (dsimp only [headSpec]; omega), by first | exact Nat.le_of_ble_eq_true rfl | omega | (show _ ≤ _; omega) | (dsimp only [headSpec]; omega)⟩) hS_2 (fun z_9 locs_6 hz_8 hS_7 => ?_)
    subst z_9
    refine kx_ifnz (tgt := 27) hx hb dX3_setLevel_20 (by decide) (fun c_20_10 => ?_) (fun c_20_10 => ?_)
    · -- taken at 20
      have c_20_10 := of_decide_eq_true c_20_10
      refine kx_iconst hx hb dX3_setLevel_27 ?_
      refine kx_put (v := .int (kI (0))) (C := RX3) (T := TX3) (N := 13) hx hb hts in_X3 hown hK hO_a rfl 7 (by decide) tyX3 tyX3_ok nmX3 hS_7 (by first | rfl | exact Or.inl rfl | exact Or.inr rfl | exact Or.inr (Or.inl rfl) | exact Or.inr (Or.inr rfl) | exact Or.inr (Or.inr (Or.inl rfl)) | exact Or.inr (Or.inr (Or.inr rfl)) | ((try dsimp only); (try simp only [kNW]); omega)) q2245 (fun _ h9 => h9) rfl rfl rfl rfl (Nat.le_of_ble_eq_true rfl) dX3_setLevel_28 (fun H_13 locs_14 hO_12 hU_11 hS_15 => ?_)
      have hO_12 : kO D H_13 a 2 [.ref ra, .ref sa, .int (kI ((sn : Nat) : Int)), .ref ka, .int (kI (kb (ik))), .ref ta, .int (kI ((tn : Nat) : Int)), .int (kI (0)), .int (kI (sp)), .int (kI (kb (iw))), .int (kI (le)), .int (kI (fi)), .int (kI (se))] := hO_12
      have hzu_16 := hU_11.1
      refine lv_aload_n hx hb dX3_setLevel_31 rfl (lv_at hl 0 rfl) ?_
      refine kx_get (v := .int (kI (0))) (C := RX3) (T := TX3) (N := 13) hx hb hts in_X3 hown hK hO_12 rfl 7 (by decide) q2245 (fun _ h9 => h9) rfl dX3_setLevel_32 ?_
      refine kx_if_le (x := 0) (tgt := 40) hx hb dX3_setLevel_35 (by decide) (by omega) (by omega) (fun c_35_17 => ?_) (fun c_35_17 => ?_)
      · -- taken at 35
        refine lv_aload_n hx hb dX3_setLevel_40 rfl (lv_at hl 0 rfl) ?_
        have h_18 := hA_ra.up hU_11 (by first | assumption | exact Ne.symm (by assumption) | omega | (have h9 := hA_ra.lt; omega))
        have h_19 := hA_sa.up hU_11 (by first | assumption | exact Ne.symm (by assumption) | omega | (have h9 := hA_sa.lt; omega))
        refine kx_cv (va_runV (As := []) (rest := []) ⟨hx, hb, hml, hown, hts⟩ (m_X3_records l D H_13 a ra sa ka ta sn ik tn 0 sp iw le fi se g gs hO_12 h_18 h_19 (by first | assumption | omega) (by first | assumption | omega) (by first | assumption | omega) (by first | assumption | omega) (by first | assumption | omega) (by first | assumption | omega)) (cwV 0 hts (lw_V q2383 q2385 qs56 q89 q2386) rfl rfl rfl (by decide +kernel) ⟨Nat.le_of_ble_eq_true rfl, Nat.le_of_ble_eq_true rfl⟩) (kx_pv hK hS_15 hB (kx_rc hK hO_12 (C := RX3) (T := TX3) (N := 13) rfl)) rfl rfl hl.1 rfl (lv_room (Nat.le_of_ble_eq_true rfl)) dX3_setLevel_41 ⟨by first | exact Nat.le_of_ble_eq_true rfl | omega | (show _ ≤ _; omega) | (dsimp only [headSpec]; omega), by first | exact Nat.le_of_ble_eq_true rfl | omega | (show _ ≤ _; omega) | (dsimp only [headSpec]; omega)⟩) hS_15 (fun q _ h => by (try dsimp only at h); (try dsimp only); (try simp only [kNW] at h); (try simp only [kNW]); omega) (fun q h => by (try dsimp only at h); (try dsimp only); (try simp only [kNW] at h); (try simp only [kNW]); omega) (fun H_23 locs_20 hz_22 hF_24 hS_21 => ?_)
        have hzf_26 := hF_24.1
        refine W.widen (k := 0) (n := 0) (Nat.le_of_ble_eq_true rfl) (Nat.le_of_ble_eq_true rfl) ?_
        obtain ⟨gs2_27, sn2_28, ho_29, ho_30, hs1, hs2, hs3⟩ := hz_22
        refine lv_aload_n hx hb dX3_setLevel_44 rfl (lv_at hl 0 rfl) ?_
        refine lv_iload_n hx hb dX3_setLevel_45 rfl (lv_at hl 1 rfl) ?_
        refine kx_iconst hx hb dX3_setLevel_46 ?_
        have h_31 := h_18.fr hF_24 (fun h => by (try dsimp only at h); (try simp only [kNW] at h); omega)
        refine kx_ci0 (va_runV (As := [.int (kI ((ln : Nat) : Int)), .int (kI (0))]) (rest := []) ⟨hx, hb, hml, hown, hts⟩ (of_lv l D H_23 a ([.ref ra, .ref sa, .int (kI ((sn2_28 : Nat) : Int)), .ref ka, .int (kI (kb (ik))), .ref ta, .int (kI ((tn : Nat) : Int)), .int (kI (0)), .int (kI (sp)), .int (kI (kb (iw))), .int (kI (le)), .int (kI (fi)), .int (kI (se))]) ra g S gap ln ho_29 rfl h_31 (by first | assumption | omega) (by first | assumption | omega) (by first | assumption | omega)) (cwV 2 hts (lw_V q2304 q2306 qs40 q89 q2307) rfl rfl rfl (by decide +kernel) ⟨Nat.le_of_ble_eq_true rfl, Nat.le_of_ble_eq_true rfl⟩) (kx_pv hK hS_21 hB (kx_rc hK ho_29 (C := RX3) (T := TX3) (N := 13) rfl)) rfl rfl hl.1 rfl (lv_room (Nat.le_of_ble_eq_true rfl)) dX3_setLevel_47 ⟨by first | exact Nat.le_of_ble_eq_true rfl | omega | (show _ ≤ _; omega) | (dsimp only [headSpec]; omega), by first | exact Nat.le_of_ble_eq_true rfl | omega | (show _ ≤ _; omega) | (dsimp only [headSpec]; omega)⟩) hS_21 (fun z_35 locs_32 hz_34 hS_33 => ?_)
        subst z_35
        refine lv_istore_n (lv' := [(3, .int (kI (ln_lv (st_ln S ln)))), (0, .ref a), (1, .int (kI ((ln : Nat) : Int))), (2, .int (kI (y)))]) hx hb dX3_setLevel_50 rfl hl (by decide) rfl (fun ls hl => ?_)
        refine lv_aload_n hx hb dX3_setLevel_51 rfl (lv_at hl 1 rfl) ?_
        refine lv_iload_n hx hb dX3_setLevel_52 rfl (lv_at hl 2 rfl) ?_
        refine kx_iconst hx hb dX3_setLevel_53 ?_
        refine lv_iload_n hx hb dX3_setLevel_54 rfl (lv_at hl 3 rfl) ?_
        refine kx_cv (va_runV (As := [.int (kI ((ln : Nat) : Int)), .int (kI (0)), .int (kI (y))]) (rest := []) ⟨hx, hb, hml, hown, hts⟩ (m_X3_puts l D H_23 a ([.ref ra, .ref sa, .int (kI ((sn2_28 : Nat) : Int)), .ref ka, .int (kI (kb (ik))), .ref ta, .int (kI ((tn : Nat) : Int)), .int (kI (0)), .int (kI (sp)), .int (kI (kb (iw))), .int (kI (le)), .int (kI (fi)), .int (kI (se))]) ra g (((ln : Nat) : Int)) 0 y (2 + 64 * ln) ho_29 rfl h_31 (by first | assumption | omega) (by first | assumption | omega) (by first | assumption | omega)) (cwV 3 hts (lw_V q2391 q2393 qs58 q89 q2394) rfl rfl rfl (by decide +kernel) ⟨Nat.le_of_ble_eq_true rfl, Nat.le_of_ble_eq_true rfl⟩) (kx_pv hK hS_33 hB (kx_rc hK ho_29 (C := RX3) (T := TX3) (N := 13) rfl)) rfl rfl hl.1 rfl (lv_room (Nat.le_of_ble_eq_true rfl)) dX3_setLevel_55 ⟨by first | exact Nat.le_of_ble_eq_true rfl | omega | (show _ ≤ _; omega) | (dsimp only [headSpec]; omega), by first | exact Nat.le_of_ble_eq_true rfl | omega | (show _ ≤ _; omega) | (dsimp only [headSpec]; omega)⟩) hS_33 (fun q _ h => by (try dsimp only at h); (try dsimp only); (try simp only [kNW] at h); (try simp only [kNW]); omega) (fun q h => by (try dsimp only at h); (try dsimp only); (try simp only [kNW] at h); (try simp only [kNW]); omega) (fun H_39 locs_36 hz_38 hF_40 hS_37 => ?_)
        have hzf_42 := hF_40.1
        refine W.widen (k := 0) (n := 0) (Nat.le_of_ble_eq_true rfl) (Nat.le_of_ble_eq_true rfl) ?_
        have ho_43 := hz_38
        refine lv_aload_n hx hb dX3_setLevel_58 rfl (lv_at hl 1 rfl) ?_
        refine lv_iload_n hx hb dX3_setLevel_59 rfl (lv_at hl 2 rfl) ?_
        refine kx_iconst hx hb dX3_setLevel_60 ?_
        refine kx_iconst hx hb dX3_setLevel_61 ?_
        have h_44 := ho_29.fr hF_40 (fun h => by (try dsimp only at h); (try simp only [kNW] at h); omega)
        refine kx_cv (va_runV (As := [.int (kI ((ln : Nat) : Int)), .int (kI (3)), .int (kI ((-1)))]) (rest := []) ⟨hx, hb, hml, hown, hts⟩ (m_X3_puts l D H_39 a ([.ref ra, .ref sa, .int (kI ((sn2_28 : Nat) : Int)), .ref ka, .int (kI (kb (ik))), .ref ta, .int (kI ((tn : Nat) : Int)), .int (kI (0)), .int (kI (sp)), .int (kI (kb (iw))), .int (kI (le)), .int (kI (fi)), .int (kI (se))]) ra (kup g (2 + 64 * ln) y) (((ln : Nat) : Int)) 3 ((-1)) (2 + 64 * ln + 3) h_44 rfl ho_43 (by first | assumption | omega) (by first | assumption | omega) (by first | assumption | omega)) (cwV 3 hts (lw_V q2391 q2393 qs58 q89 q2394) rfl rfl rfl (by decide +kernel) ⟨Nat.le_of_ble_eq_true rfl, Nat.le_of_ble_eq_true rfl⟩) (kx_pv hK hS_37 hB (kx_rc hK h_44 (C := RX3) (T := TX3) (N := 13) rfl)) rfl rfl hl.1 rfl (lv_room (Nat.le_of_ble_eq_true rfl)) dX3_setLevel_62 ⟨by first | exact Nat.le_of_ble_eq_true rfl | omega | (show _ ≤ _; omega) | (dsimp only [headSpec]; omega), by first | exact Nat.le_of_ble_eq_true rfl | omega | (show _ ≤ _; omega) | (dsimp only [headSpec]; omega)⟩) hS_37 (fun q _ h => by (try dsimp only at h); (try dsimp only); (try simp only [kNW] at h); (try simp only [kNW]); omega) (fun q h => by (try dsimp only at h); (try dsimp only); (try simp only [kNW] at h); (try simp only [kNW]); omega) (fun H_48 locs_45 hz_47 hF_49 hS_46 => ?_)
        have hzf_51 := hF_49.1
        refine W.widen (k := 0) (n := 0) (Nat.le_of_ble_eq_true rfl) (Nat.le_of_ble_eq_true rfl) ?_
        have ho_52 := hz_47
        refine lv_iload_n hx hb dX3_setLevel_65 rfl (lv_at hl 0 rfl) ?_
        have h_53 := h_44.fr hF_49 (fun h => by (try dsimp only at h); (try simp only [kNW] at h); omega)
        have h_54 := ho_30.fr hF_40 (fun h => by (try dsimp only at h); (try simp only [kNW] at h); omega)
        have h_55 := h_54.fr hF_49 (fun h => by (try dsimp only at h); (try simp only [kNW] at h); omega)
        exact kx_iret (z := ln_lv (st_ln S ln)) hx hb hr hlk (⟨(kup ((kup g (2 + 64 * ln) y)) (2 + 64 * ln + 3) (((-1)))), gs2_27, sn2_28, by rfl, h_53, ho_52, h_55, by exact hM.setLv hok hln y, by exact hH.push hok hM hs1 hs2 hs3⟩) hS_46 dX3_setLevel_66
      · -- not taken at 35
        exfalso; omega
    · -- not taken at 20
      have c_20_10 := of_decide_eq_false c_20_10
      exfalso; omega
  · -- not taken at 6
    have c_6_5 := of_decide_eq_false c_6_5
    exfalso; omega

set_option maxHeartbeats 4000000 in
set_option maxRecDepth 100000 in
theorem m_X3_append_no1 (l : Launch) (D : kG) (H : Heap) (a : Nat) (ra : Nat) (sa : Nat) (ka : Nat) (ta : Nat) (sn : Nat) (ik : Bool) (tn : Nat) (th : Int) (sp : Int) (iw : Bool) (le : Int) (fi : Int) (se : Int) (x : Int) (hO_a : kO D H a 2 [.ref ra, .ref sa, .int (kI ((sn : Nat) : Int)), .ref ka, .int (kI (kb (ik))), .ref ta, .int (kI ((tn : Nat) : Int)), .int (kI (th)), .int (kI (sp)), .int (kI (kb (iw))), .int (kI (le)), .int (kI (fi)), .int (kI (se))]) (bs_a : kBase D ≤ a) (hr_x : -2147483648 ≤ x ∧ x ≤ 2147483647) (hno : ¬ (32 ≤ x ∧ x ≤ 126)) : Met l yX3_append (ws_ yX3_append cX3_append 2 (some .int)) ({ frames := 1, cells := 0, slots := 0, locals := 22 } : Room) (kPre D H [.ref a, .int (kI (x))]) (kQi (fun (r : Int) H' => (r = 0) ∧ (kO D H' a 2 [.ref ra, .ref sa, .int (kI ((sn : Nat) : Int)), .ref ka, .int (kI (kb (ik))), .ref ta, .int (kI ((tn : Nat) : Int)), .int (kI (1)), .int (kI (sp)), .int (kI (kb (iw))), .int (kI (le)), .int (kI (fi)), .int (kI (se))])) (fun q : Nat => q = a)) (0) (0) ((fun q : Nat => q = a)) := by
  refine Met.ofW (cc := cX3_append) (maxL := 2) (ret := (some .int)) (by decide) rfl ?_
  intro p e s m args below meth c s₁ B hml hv
  obtain ⟨rfl, hH, hK⟩ := hv
  subst hH
  have hx := B.exec
  have hb := B.bytes
  have hr := B.returns
  have hts := atoms_spec (ws := ws_ yX3_append cX3_append 2 (some .int)) B.pre
  have hts : ∀ w ∈ lw_all, w.before _ s = true := fun w h => hts w (List.mem_cons_of_mem _ h)
  have hown : s.vm.findClass RX3 = some m.cls := findClass_of_methodNamed B.named
  have hlk := B.notSynchronized
  have hS : va_S (fun q : Nat => q = a) s.heap s.heap [] := va_S.rf
  have hB : ∀ q, (fun q : Nat => q = a) q → kBase D ≤ q := fun q h => by (try dsimp only at h); (try simp only [kNW] at h); have hks := hK.size; omega
  have hl := lv_entry ([.ref a, .int (kI (x))]) (n := 2) (Nat.le_of_ble_eq_true rfl)
  rw [lg_entry_eq]
  generalize (lg_sl ([.ref a, .int (kI (x))]) ++ List.replicate (2 - (lg_sl ([.ref a, .int (kI (x))])).length) Slot.unset).toArray = ls at hl ⊢
  have hl : lv_has ls 2 [(0, .ref a), (1, .int (kI (x)))] := hl
  refine lv_aload_n hx hb dX3_append_0 rfl (lv_at hl 0 rfl) ?_
  refine kx_iconst hx hb dX3_append_1 ?_
  refine kx_put (v := .int (kI (0))) (C := RX3) (T := TX3) (N := 13) hx hb hts in_X3 hown hK hO_a rfl 7 (by decide) tyX3 tyX3_ok nmX3 hS (by first | rfl | exact Or.inl rfl | exact Or.inr rfl | exact Or.inr (Or.inl rfl) | exact Or.inr (Or.inr rfl) | exact Or.inr (Or.inr (Or.inl rfl)) | exact Or.inr (Or.inr (Or.inr rfl)) | ((try dsimp only); (try simp only [kNW]); omega)) q2245 (fun _ h9 => h9) rfl rfl rfl rfl (Nat.le_of_ble_eq_true rfl) dX3_append_2 (fun H_3 locs_4 hO_2 hU_1 hS_5 => ?_)
  have hO_2 : kO D H_3 a 2 [.ref ra, .ref sa, .int (kI ((sn : Nat) : Int)), .ref ka, .int (kI (kb (ik))), .ref ta, .int (kI ((tn : Nat) : Int)), .int (kI (0)), .int (kI (sp)), .int (kI (kb (iw))), .int (kI (le)), .int (kI (fi)), .int (kI (se))] := hO_2
  have hzu_6 := hU_1.1
  refine lv_iload_n hx hb dX3_append_5 rfl (lv_at hl 1 rfl) ?_
  refine kx_bipush hx hb (by decide) dX3_append_6 ?_
  refine kx_bipush hx hb (by decide) dX3_append_8 ?_
  refine kx_cb0 (va_runS (As := [.int (kI (x)), .int (kI (32)), .int (kI (126))]) (rest := []) ⟨hx, hb, hml, hown, hts⟩ (m_X3_in l D H_3 x 32 126  (by first | assumption | omega) (by first | assumption | omega) (by first | assumption | omega)) (va_cwS 3 hts (lw_S q2297 q2298 q89 q2299) rfl rfl rfl (by decide +kernel) ⟨Nat.le_of_ble_eq_true rfl, Nat.le_of_ble_eq_true rfl⟩) (kx_ps hK hS_5 hB) rfl rfl hl.1 rfl (lv_room (Nat.le_of_ble_eq_true rfl)) dX3_append_10 ⟨by first | exact Nat.le_of_ble_eq_true rfl | omega | (show _ ≤ _; omega) | (dsimp only [headSpec]; omega), by first | exact Nat.le_of_ble_eq_true rfl | omega | (show _ ≤ _; omega) | (dsimp only [headSpec]; omega)⟩) hS_5 (fun z_10 locs_7 hz_9 hS_8 => ?_)
  subst z_10
  refine kx_ifnz (tgt := 22) hx hb dX3_append_13 (by decide) (fun c_13_11 => ?_) (fun c_13_11 => ?_)
  · -- taken at 13
    have c_13_11 := of_decide_eq_true c_13_11
    exfalso; omega
  · -- not taken at 13
    have c_13_11 := of_decide_eq_false c_13_11
    refine lv_aload_n hx hb dX3_append_16 rfl (lv_at hl 0 rfl) ?_
    refine kx_iconst hx hb dX3_append_17 ?_
    refine kx_ci (va_runV (As := [.int (kI (1))]) (rest := []) ⟨hx, hb, hml, hown, hts⟩ (m_X3_fails l D H_3 a ra sa ka ta sn ik tn 0 sp iw le fi se 1 hO_2 (by first | assumption | omega)) (cwV 1 hts (lw_V q2455 q2457 qs64 q89 q2458) rfl rfl rfl (by decide +kernel) ⟨Nat.le_of_ble_eq_true rfl, Nat.le_of_ble_eq_true rfl⟩) (kx_pv hK hS_8 hB (kx_rc hK hO_2 (C := RX3) (T := TX3) (N := 13) rfl)) rfl rfl hl.1 rfl (lv_room (Nat.le_of_ble_eq_true rfl)) dX3_append_18 ⟨by first | exact Nat.le_of_ble_eq_true rfl | omega | (show _ ≤ _; omega) | (dsimp only [headSpec]; omega), by first | exact Nat.le_of_ble_eq_true rfl | omega | (show _ ≤ _; omega) | (dsimp only [headSpec]; omega)⟩) hS_8 (fun q _ h => by (try dsimp only at h); (try dsimp only); (try simp only [kNW] at h); (try simp only [kNW]); omega) (fun q h => by (try dsimp only at h); (try dsimp only); (try simp only [kNW] at h); (try simp only [kNW]); omega) (fun z_17 H_15 locs_12 hz_14 hF_16 hS_13 => ?_)
    have hzf_18 := hF_16.1
    refine W.widen (k := 0) (n := 0) (Nat.le_of_ble_eq_true rfl) (Nat.le_of_ble_eq_true rfl) ?_
    obtain ⟨hv_19, ho_20⟩ := hz_14
    subst z_17
    exact kx_iret (z := 0) hx hb hr hlk (⟨by rfl, ho_20⟩) hS_13 dX3_append_21

set_option maxHeartbeats 4000000 in
set_option maxRecDepth 100000 in
theorem m_X3_append_no2 (l : Launch) (D : kG) (H : Heap) (a : Nat) (ra : Nat) (sa : Nat) (ka : Nat) (ta : Nat) (sn : Nat) (ik : Bool) (tn : Nat) (th : Int) (sp : Int) (iw : Bool) (le : Int) (fi : Int) (se : Int) (x : Int) (hO_a : kO D H a 2 [.ref ra, .ref sa, .int (kI ((sn : Nat) : Int)), .ref ka, .int (kI (kb (ik))), .ref ta, .int (kI ((tn : Nat) : Int)), .int (kI (th)), .int (kI (sp)), .int (kI (kb (iw))), .int (kI (le)), .int (kI (fi)), .int (kI (se))]) (bs_a : kBase D ≤ a) (hx2 : 32 ≤ x ∧ x ≤ 126) (ht : tn = 60) : Met l yX3_append (ws_ yX3_append cX3_append 2 (some .int)) ({ frames := 1, cells := 0, slots := 0, locals := 22 } : Room) (kPre D H [.ref a, .int (kI (x))]) (kQi (fun (r : Int) H' => (r = 0) ∧ (kO D H' a 2 [.ref ra, .ref sa, .int (kI ((sn : Nat) : Int)), .ref ka, .int (kI (kb (ik))), .ref ta, .int (kI ((tn : Nat) : Int)), .int (kI (2)), .int (kI (sp)), .int (kI (kb (iw))), .int (kI (le)), .int (kI (fi)), .int (kI (se))])) (fun q : Nat => q = a)) (0) (0) ((fun q : Nat => q = a)) := by
  refine Met.ofW (cc := cX3_append) (maxL := 2) (ret := (some .int)) (by decide) rfl ?_
  intro p e s m args below meth c s₁ B hml hv
  obtain ⟨rfl, hH, hK⟩ := hv
  subst hH
  have hx := B.exec
  have hb := B.bytes
  have hr := B.returns
  have hts := atoms_spec (ws := ws_ yX3_append cX3_append 2 (some .int)) B.pre
  have hts : ∀ w ∈ lw_all, w.before _ s = true := fun w h => hts w (List.mem_cons_of_mem _ h)
  have hown : s.vm.findClass RX3 = some m.cls := findClass_of_methodNamed B.named
  have hlk := B.notSynchronized
  have hS : va_S (fun q : Nat => q = a) s.heap s.heap [] := va_S.rf
  have hB : ∀ q, (fun q : Nat => q = a) q → kBase D ≤ q := fun q h => by (try dsimp only at h); (try simp only [kNW] at h); have hks := hK.size; omega
  have hl := lv_entry ([.ref a, .int (kI (x))]) (n := 2) (Nat.le_of_ble_eq_true rfl)
  rw [lg_entry_eq]
  generalize (lg_sl ([.ref a, .int (kI (x))]) ++ List.replicate (2 - (lg_sl ([.ref a, .int (kI (x))])).length) Slot.unset).toArray = ls at hl ⊢
  have hl : lv_has ls 2 [(0, .ref a), (1, .int (kI (x)))] := hl
  refine lv_aload_n hx hb dX3_append_0 rfl (lv_at hl 0 rfl) ?_
  refine kx_iconst hx hb dX3_append_1 ?_
  refine kx_put (v := .int (kI (0))) (C := RX3) (T := TX3) (N := 13) hx hb hts in_X3 hown hK hO_a rfl 7 (by decide) tyX3 tyX3_ok nmX3 hS (by first | rfl | exact Or.inl rfl | exact Or.inr rfl | exact Or.inr (Or.inl rfl) | exact Or.inr (Or.inr rfl) | exact Or.inr (Or.inr (Or.inl rfl)) | exact Or.inr (Or.inr (Or.inr rfl)) | ((try dsimp only); (try simp only [kNW]); omega)) q2245 (fun _ h9 => h9) rfl rfl rfl rfl (Nat.le_of_ble_eq_true rfl) dX3_append_2 (fun H_3 locs_4 hO_2 hU_1 hS_5 => ?_)
  have hO_2 : kO D H_3 a 2 [.ref ra, .ref sa, .int (kI ((sn : Nat) : Int)), .ref ka, .int (kI (kb (ik))), .ref ta, .int (kI ((tn : Nat) : Int)), .int (kI (0)), .int (kI (sp)), .int (kI (kb (iw))), .int (kI (le)), .int (kI (fi)), .int (kI (se))] := hO_2
  have hzu_6 := hU_1.1
  refine lv_iload_n hx hb dX3_append_5 rfl (lv_at hl 1 rfl) ?_
  refine kx_bipush hx hb (by decide) dX3_append_6 ?_
  refine kx_bipush hx hb (by decide) dX3_append_8 ?_
  refine kx_cb0 (va_runS (As := [.int (kI (x)), .int (kI (32)), .int (kI (126))]) (rest := []) ⟨hx, hb, hml, hown, hts⟩ (m_X3_in l D H_3 x 32 126  (by first | assumption | omega) (by first | assumption | omega) (by first | assumption | omega)) (va_cwS 3 hts (lw_S q2297 q2298 q89 q2299) rfl rfl rfl (by decide +kernel) ⟨Nat.le_of_ble_eq_true rfl, Nat.le_of_ble_eq_true rfl⟩) (kx_ps hK hS_5 hB) rfl rfl hl.1 rfl (lv_room (Nat.le_of_ble_eq_true rfl)) dX3_append_10 ⟨by first | exact Nat.le_of_ble_eq_true rfl | omega | (show _ ≤ _; omega) | (dsimp only [headSpec]; omega), by first | exact Nat.le_of_ble_eq_true rfl | omega | (show _ ≤ _; omega) | (dsimp only [headSpec]; omega)⟩) hS_5 (fun z_10 locs_7 hz_9 hS_8 => ?_)
  subst z_10
  refine kx_ifnz (tgt := 22) hx hb dX3_append_13 (by decide) (fun c_13_11 => ?_) (fun c_13_11 => ?_)
  · -- taken at 13
    have c_13_11 := of_decide_eq_true c_13_11
    refine lv_aload_n hx hb dX3_append_22 rfl (lv_at hl 0 rfl) ?_
    refine kx_get (v := .int (kI ((tn : Nat) : Int))) (C := RX3) (T := TX3) (N := 13) hx hb hts in_X3 hown hK hO_2 rfl 6 (by decide) q2244 (fun _ h9 => h9) rfl dX3_append_23 ?_
    refine kx_bipush hx hb (by decide) dX3_append_26 ?_
    refine kx_icmp_ne (x := ((tn : Nat) : Int)) (y := 60) (tgt := 37) hx hb dX3_append_28 (by decide) (by omega) (by omega) (by omega) (by omega) (fun c_28_12 => ?_) (fun c_28_12 => ?_)
    · -- taken at 28
      exfalso; omega
    · -- not taken at 28
      refine lv_aload_n hx hb dX3_append_31 rfl (lv_at hl 0 rfl) ?_
      refine kx_iconst hx hb dX3_append_32 ?_
      refine kx_ci (va_runV (As := [.int (kI (2))]) (rest := []) ⟨hx, hb, hml, hown, hts⟩ (m_X3_fails l D H_3 a ra sa ka ta sn ik tn 0 sp iw le fi se 2 hO_2 (by first | assumption | omega)) (cwV 1 hts (lw_V q2455 q2457 qs64 q89 q2458) rfl rfl rfl (by decide +kernel) ⟨Nat.le_of_ble_eq_true rfl, Nat.le_of_ble_eq_true rfl⟩) (kx_pv hK hS_8 hB (kx_rc hK hO_2 (C := RX3) (T := TX3) (N := 13) rfl)) rfl rfl hl.1 rfl (lv_room (Nat.le_of_ble_eq_true rfl)) dX3_append_33 ⟨by first | exact Nat.le_of_ble_eq_true rfl | omega | (show _ ≤ _; omega) | (dsimp only [headSpec]; omega), by first | exact Nat.le_of_ble_eq_true rfl | omega | (show _ ≤ _; omega) | (dsimp only [headSpec]; omega)⟩) hS_8 (fun q _ h => by (try dsimp only at h); (try dsimp only); (try simp only [kNW] at h); (try simp only [kNW]); omega) (fun q h => by (try dsimp only at h); (try dsimp only); (try simp only [kNW] at h); (try simp only [kNW]); omega) (fun z_18 H_16 locs_13 hz_15 hF_17 hS_14 => ?_)
      have hzf_19 := hF_17.1
      refine W.widen (k := 0) (n := 0) (Nat.le_of_ble_eq_true rfl) (Nat.le_of_ble_eq_true rfl) ?_
      obtain ⟨hv_20, ho_21⟩ := hz_15
      subst z_18
      exact kx_iret (z := 0) hx hb hr hlk (⟨by rfl, ho_21⟩) hS_14 dX3_append_36
  · -- not taken at 13
    have c_13_11 := of_decide_eq_false c_13_11
    exfalso; omega

set_option maxHeartbeats 4000000 in
set_option maxRecDepth 100000 in
theorem m_X3_append (l : Launch) (D : kG) (H : Heap) (a : Nat) (ra : Nat) (sa : Nat) (ka : Nat) (ta : Nat) (sn : Nat) (ik : Bool) (tn : Nat) (th : Int) (sp : Int) (iw : Bool) (le : Int) (fi : Int) (se : Int) (gt : Nat → Int) (x : Int) (hO_a : kO D H a 2 [.ref ra, .ref sa, .int (kI ((sn : Nat) : Int)), .ref ka, .int (kI (kb (ik))), .ref ta, .int (kI ((tn : Nat) : Int)), .int (kI (th)), .int (kI (sp)), .int (kI (kb (iw))), .int (kI (le)), .int (kI (fi)), .int (kI (se))]) (hA_ta : kAi D H ta 60 gt) (ne_a_ta : a ≠ ta) (bs_a : kBase D ≤ a) (bs_ta : kBase D ≤ ta) (hx2 : 32 ≤ x ∧ x ≤ 126) (ht : tn < 60) : Met l yX3_append (ws_ yX3_append cX3_append 2 (some .int)) ({ frames := 1, cells := 0, slots := 0, locals := 22 } : Room) (kPre D H [.ref a, .int (kI (x))]) (kQi (fun (r : Int) H' => (r = ((tn + 1 : Nat) : Int)) ∧ (kO D H' a 2 [.ref ra, .ref sa, .int (kI ((sn : Nat) : Int)), .ref ka, .int (kI (kb (ik))), .ref ta, .int (kI ((tn + 1 : Nat) : Int)), .int (kI (0)), .int (kI (sp)), .int (kI (kb (iw))), .int (kI (le)), .int (kI (fi)), .int (kI (se))]) ∧ (kAi D H' ta 60 (kup gt tn x))) (fun q : Nat => q = a ∨ q = ta)) (0) (0) ((fun q : Nat => q = a ∨ q = ta)) := by
  refine Met.ofW (cc := cX3_append) (maxL := 2) (ret := (some .int)) (by decide) rfl ?_
  intro p e s m args below meth c s₁ B hml hv
  obtain ⟨rfl, hH, hK⟩ := hv
  subst hH
  have hx := B.exec
  have hb := B.bytes
  have hr := B.returns
  have hts := atoms_spec (ws := ws_ yX3_append cX3_append 2 (some .int)) B.pre
  have hts : ∀ w ∈ lw_all, w.before _ s = true := fun w h => hts w (List.mem_cons_of_mem _ h)
  have hown : s.vm.findClass RX3 = some m.cls := findClass_of_methodNamed B.named
  have hlk := B.notSynchronized
  have hS : va_S (fun q : Nat => q = a ∨ q = ta) s.heap s.heap [] := va_S.rf
  have hB : ∀ q, (fun q : Nat => q = a ∨ q = ta) q → kBase D ≤ q := fun q h => by (try dsimp only at h); (try simp only [kNW] at h); have hks := hK.size; omega
  have hl := lv_entry ([.ref a, .int (kI (x))]) (n := 2) (Nat.le_of_ble_eq_true rfl)
  rw [lg_entry_eq]
  generalize (lg_sl ([.ref a, .int (kI (x))]) ++ List.replicate (2 - (lg_sl ([.ref a, .int (kI (x))])).length) Slot.unset).toArray = ls at hl ⊢
  have hl : lv_has ls 2 [(0, .ref a), (1, .int (kI (x)))] := hl
  refine lv_aload_n hx hb dX3_append_0 rfl (lv_at hl 0 rfl) ?_
  refine kx_iconst hx hb dX3_append_1 ?_
  refine kx_put (v := .int (kI (0))) (C := RX3) (T := TX3) (N := 13) hx hb hts in_X3 hown hK hO_a rfl 7 (by decide) tyX3 tyX3_ok nmX3 hS (by first | rfl | exact Or.inl rfl | exact Or.inr rfl | exact Or.inr (Or.inl rfl) | exact Or.inr (Or.inr rfl) | exact Or.inr (Or.inr (Or.inl rfl)) | exact Or.inr (Or.inr (Or.inr rfl)) | ((try dsimp only); (try simp only [kNW]); omega)) q2245 (fun _ h9 => h9) rfl rfl rfl rfl (Nat.le_of_ble_eq_true rfl) dX3_append_2 (fun H_3 locs_4 hO_2 hU_1 hS_5 => ?_)
  have hO_2 : kO D H_3 a 2 [.ref ra, .ref sa, .int (kI ((sn : Nat) : Int)), .ref ka, .int (kI (kb (ik))), .ref ta, .int (kI ((tn : Nat) : Int)), .int (kI (0)), .int (kI (sp)), .int (kI (kb (iw))), .int (kI (le)), .int (kI (fi)), .int (kI (se))] := hO_2
  have hzu_6 := hU_1.1
  refine lv_iload_n hx hb dX3_append_5 rfl (lv_at hl 1 rfl) ?_
  refine kx_bipush hx hb (by decide) dX3_append_6 ?_
  refine kx_bipush hx hb (by decide) dX3_append_8 ?_
  refine kx_cb0 (va_runS (As := [.int (kI (x)), .int (kI (32)), .int (kI (126))]) (rest := []) ⟨hx, hb, hml, hown, hts⟩ (m_X3_in l D H_3 x 32 126  (by first | assumption | omega) (by first | assumption | omega) (by first | assumption | omega)) (va_cwS 3 hts (lw_S q2297 q2298 q89 q2299) rfl rfl rfl (by decide +kernel) ⟨Nat.le_of_ble_eq_true rfl, Nat.le_of_ble_eq_true rfl⟩) (kx_ps hK hS_5 hB) rfl rfl hl.1 rfl (lv_room (Nat.le_of_ble_eq_true rfl)) dX3_append_10 ⟨by first | exact Nat.le_of_ble_eq_true rfl | omega | (show _ ≤ _; omega) | (dsimp only [headSpec]; omega), by first | exact Nat.le_of_ble_eq_true rfl | omega | (show _ ≤ _; omega) | (dsimp only [headSpec]; omega)⟩) hS_5 (fun z_10 locs_7 hz_9 hS_8 => ?_)
  subst z_10
  refine kx_ifnz (tgt := 22) hx hb dX3_append_13 (by decide) (fun c_13_11 => ?_) (fun c_13_11 => ?_)
  · -- taken at 13
    have c_13_11 := of_decide_eq_true c_13_11
    refine lv_aload_n hx hb dX3_append_22 rfl (lv_at hl 0 rfl) ?_
    refine kx_get (v := .int (kI ((tn : Nat) : Int))) (C := RX3) (T := TX3) (N := 13) hx hb hts in_X3 hown hK hO_2 rfl 6 (by decide) q2244 (fun _ h9 => h9) rfl dX3_append_23 ?_
    refine kx_bipush hx hb (by decide) dX3_append_26 ?_
    refine kx_icmp_ne (x := ((tn : Nat) : Int)) (y := 60) (tgt := 37) hx hb dX3_append_28 (by decide) (by omega) (by omega) (by omega) (by omega) (fun c_28_12 => ?_) (fun c_28_12 => ?_)
    · -- taken at 28
      refine lv_aload_n hx hb dX3_append_37 rfl (lv_at hl 0 rfl) ?_
      refine kx_get (v := .ref ta) (C := RX3) (T := TX3) (N := 13) hx hb hts in_X3 hown hK hO_2 rfl 5 (by decide) q2243 (fun _ h9 => h9) rfl dX3_append_38 ?_
      refine lv_aload_n hx hb dX3_append_41 rfl (lv_at hl 0 rfl) ?_
      refine kx_get (v := .int (kI ((tn : Nat) : Int))) (C := RX3) (T := TX3) (N := 13) hx hb hts in_X3 hown hK hO_2 rfl 6 (by decide) q2244 (fun _ h9 => h9) rfl dX3_append_42 ?_
      refine lv_iload_n hx hb dX3_append_45 rfl (lv_at hl 1 rfl) ?_
      have h_13 := hA_ta.up hU_1 (by first | assumption | exact Ne.symm (by assumption) | omega | (have h9 := hA_ta.lt; omega))
      refine kx_iast (i := ((tn : Nat) : Int)) (x := x) hx hb hK h_13 hS_8 (by first | rfl | exact Or.inl rfl | exact Or.inr rfl | exact Or.inr (Or.inl rfl) | exact Or.inr (Or.inr rfl) | exact Or.inr (Or.inr (Or.inl rfl)) | exact Or.inr (Or.inr (Or.inr rfl)) | ((try dsimp only); (try simp only [kNW]); omega)) tn (rfl) (by omega) (by omega) dX3_append_46 (fun H_16 locs_17 hA_15 hU_14 hS_18 => ?_)
      have hzu_19 := hU_14.1
      refine lv_aload_n hx hb dX3_append_47 rfl (lv_at hl 0 rfl) ?_
      refine lv_dup hx hb dX3_append_48 rfl ?_
      have h_20 := hO_2.up hU_14 (by first | assumption | exact Ne.symm (by assumption) | omega | (have h9 := hO_2.lt; omega))
      refine kx_get (v := .int (kI ((tn : Nat) : Int))) (C := RX3) (T := TX3) (N := 13) hx hb hts in_X3 hown hK h_20 rfl 6 (by decide) q2244 (fun _ h9 => h9) rfl dX3_append_49 ?_
      refine kx_iconst hx hb dX3_append_52 ?_
      refine kx_iadd hx hb dX3_append_53 ?_
      refine kx_eqi (((tn + 1 : Nat) : Int)) (by omega) ?_
      refine kx_put (v := .int (kI ((tn + 1 : Nat) : Int))) (C := RX3) (T := TX3) (N := 13) hx hb hts in_X3 hown hK h_20 rfl 6 (by decide) tyX3 tyX3_ok nmX3 hS_18 (by first | rfl | exact Or.inl rfl | exact Or.inr rfl | exact Or.inr (Or.inl rfl) | exact Or.inr (Or.inr rfl) | exact Or.inr (Or.inr (Or.inl rfl)) | exact Or.inr (Or.inr (Or.inr rfl)) | ((try dsimp only); (try simp only [kNW]); omega)) q2244 (fun _ h9 => h9) rfl rfl rfl rfl (Nat.le_of_ble_eq_true rfl) dX3_append_54 (fun H_23 locs_24 hO_22 hU_21 hS_25 => ?_)
      have hO_22 : kO D H_23 a 2 [.ref ra, .ref sa, .int (kI ((sn : Nat) : Int)), .ref ka, .int (kI (kb (ik))), .ref ta, .int (kI ((tn + 1 : Nat) : Int)), .int (kI (0)), .int (kI (sp)), .int (kI (kb (iw))), .int (kI (le)), .int (kI (fi)), .int (kI (se))] := hO_22
      have hzu_26 := hU_21.1
      refine lv_aload_n hx hb dX3_append_57 rfl (lv_at hl 0 rfl) ?_
      refine kx_get (v := .int (kI ((tn + 1 : Nat) : Int))) (C := RX3) (T := TX3) (N := 13) hx hb hts in_X3 hown hK hO_22 rfl 6 (by decide) q2244 (fun _ h9 => h9) rfl dX3_append_58 ?_
      have h_27 := hA_15.up hU_21 (by first | assumption | exact Ne.symm (by assumption) | omega | (have h9 := hA_15.lt; omega))
      exact kx_iret (z := ((tn + 1 : Nat) : Int)) hx hb hr hlk (⟨by rfl, hO_22, h_27⟩) hS_25 dX3_append_61
    · -- not taken at 28
      exfalso; omega
  · -- not taken at 13
    have c_13_11 := of_decide_eq_false c_13_11
    exfalso; omega

set_option maxHeartbeats 4000000 in
set_option maxRecDepth 100000 in
theorem m_X3_clearText (l : Launch) (D : kG) (H : Heap) (a : Nat) (ra : Nat) (sa : Nat) (ka : Nat) (ta : Nat) (sn : Nat) (ik : Bool) (tn : Nat) (th : Int) (sp : Int) (iw : Bool) (le : Int) (fi : Int) (se : Int) (hO_a : kO D H a 2 [.ref ra, .ref sa, .int (kI ((sn : Nat) : Int)), .ref ka, .int (kI (kb (ik))), .ref ta, .int (kI ((tn : Nat) : Int)), .int (kI (th)), .int (kI (sp)), .int (kI (kb (iw))), .int (kI (le)), .int (kI (fi)), .int (kI (se))]) (bs_a : kBase D ≤ a) : Met l yX3_clearText (ws_ yX3_clearText cX3_clearText 2 (some .int)) ({ frames := 0, cells := 0, slots := 0, locals := 0 } : Room) (kPre D H [.ref a]) (kQi (fun (r : Int) H' => (r = ((tn : Nat) : Int)) ∧ (kO D H' a 2 [.ref ra, .ref sa, .int (kI ((sn : Nat) : Int)), .ref ka, .int (kI (kb (ik))), .ref ta, .int (kI ((0 : Nat) : Int)), .int (kI (0)), .int (kI (sp)), .int (kI (kb (iw))), .int (kI (le)), .int (kI (fi)), .int (kI (se))])) (fun q : Nat => q = a)) (0) (0) ((fun q : Nat => q = a)) := by
  refine Met.ofW (cc := cX3_clearText) (maxL := 2) (ret := (some .int)) (by decide) rfl ?_
  intro p e s m args below meth c s₁ B hml hv
  obtain ⟨rfl, hH, hK⟩ := hv
  subst hH
  have hx := B.exec
  have hb := B.bytes
  have hr := B.returns
  have hts := atoms_spec (ws := ws_ yX3_clearText cX3_clearText 2 (some .int)) B.pre
  have hts : ∀ w ∈ lw_all, w.before _ s = true := fun w h => hts w (List.mem_cons_of_mem _ h)
  have hown : s.vm.findClass RX3 = some m.cls := findClass_of_methodNamed B.named
  have hlk := B.notSynchronized
  have hS : va_S (fun q : Nat => q = a) s.heap s.heap [] := va_S.rf
  have hB : ∀ q, (fun q : Nat => q = a) q → kBase D ≤ q := fun q h => by (try dsimp only at h); (try simp only [kNW] at h); have hks := hK.size; omega
  have hl := lv_entry ([.ref a]) (n := 2) (Nat.le_of_ble_eq_true rfl)
  rw [lg_entry_eq]
  generalize (lg_sl ([.ref a]) ++ List.replicate (2 - (lg_sl ([.ref a])).length) Slot.unset).toArray = ls at hl ⊢
  have hl : lv_has ls 2 [(0, .ref a)] := hl
  refine lv_aload_n hx hb dX3_clearText_0 rfl (lv_at hl 0 rfl) ?_
  refine kx_iconst hx hb dX3_clearText_1 ?_
  refine kx_put (v := .int (kI (0))) (C := RX3) (T := TX3) (N := 13) hx hb hts in_X3 hown hK hO_a rfl 7 (by decide) tyX3 tyX3_ok nmX3 hS (by first | rfl | exact Or.inl rfl | exact Or.inr rfl | exact Or.inr (Or.inl rfl) | exact Or.inr (Or.inr rfl) | exact Or.inr (Or.inr (Or.inl rfl)) | exact Or.inr (Or.inr (Or.inr rfl)) | ((try dsimp only); (try simp only [kNW]); omega)) q2245 (fun _ h9 => h9) rfl rfl rfl rfl (Nat.le_of_ble_eq_true rfl) dX3_clearText_2 (fun H_3 locs_4 hO_2 hU_1 hS_5 => ?_)
  have hO_2 : kO D H_3 a 2 [.ref ra, .ref sa, .int (kI ((sn : Nat) : Int)), .ref ka, .int (kI (kb (ik))), .ref ta, .int (kI ((tn : Nat) : Int)), .int (kI (0)), .int (kI (sp)), .int (kI (kb (iw))), .int (kI (le)), .int (kI (fi)), .int (kI (se))] := hO_2
  have hzu_6 := hU_1.1
  refine lv_aload_n hx hb dX3_clearText_5 rfl (lv_at hl 0 rfl) ?_
  refine kx_get (v := .int (kI ((tn : Nat) : Int))) (C := RX3) (T := TX3) (N := 13) hx hb hts in_X3 hown hK hO_2 rfl 6 (by decide) q2244 (fun _ h9 => h9) rfl dX3_clearText_6 ?_
  refine lv_istore_n (lv' := [(1, .int (kI ((tn : Nat) : Int))), (0, .ref a)]) hx hb dX3_clearText_9 rfl hl (by decide) rfl (fun ls hl => ?_)
  refine lv_aload_n hx hb dX3_clearText_10 rfl (lv_at hl 1 rfl) ?_
  refine kx_iconst hx hb dX3_clearText_11 ?_
  refine kx_put (v := .int (kI ((0 : Nat) : Int))) (C := RX3) (T := TX3) (N := 13) hx hb hts in_X3 hown hK hO_2 rfl 6 (by decide) tyX3 tyX3_ok nmX3 hS_5 (by first | rfl | exact Or.inl rfl | exact Or.inr rfl | exact Or.inr (Or.inl rfl) | exact Or.inr (Or.inr rfl) | exact Or.inr (Or.inr (Or.inl rfl)) | exact Or.inr (Or.inr (Or.inr rfl)) | ((try dsimp only); (try simp only [kNW]); omega)) q2244 (fun _ h9 => h9) rfl rfl rfl rfl (Nat.le_of_ble_eq_true rfl) dX3_clearText_12 (fun H_9 locs_10 hO_8 hU_7 hS_11 => ?_)
  have hO_8 : kO D H_9 a 2 [.ref ra, .ref sa, .int (kI ((sn : Nat) : Int)), .ref ka, .int (kI (kb (ik))), .ref ta, .int (kI ((0 : Nat) : Int)), .int (kI (0)), .int (kI (sp)), .int (kI (kb (iw))), .int (kI (le)), .int (kI (fi)), .int (kI (se))] := hO_8
  have hzu_12 := hU_7.1
  refine lv_iload_n hx hb dX3_clearText_15 rfl (lv_at hl 0 rfl) ?_
  exact kx_iret (z := ((tn : Nat) : Int)) hx hb hr hlk (⟨by rfl, hO_8⟩) hS_11 dX3_clearText_16

set_option maxHeartbeats 4000000 in
set_option maxRecDepth 100000 in
theorem m_X3_savedStates (l : Launch) (D : kG) (H : Heap) (a : Nat) (ra : Nat) (sa : Nat) (ka : Nat) (ta : Nat) (sn : Nat) (ik : Bool) (tn : Nat) (th : Int) (sp : Int) (iw : Bool) (le : Int) (fi : Int) (se : Int) (hO_a : kO D H a 2 [.ref ra, .ref sa, .int (kI ((sn : Nat) : Int)), .ref ka, .int (kI (kb (ik))), .ref ta, .int (kI ((tn : Nat) : Int)), .int (kI (th)), .int (kI (sp)), .int (kI (kb (iw))), .int (kI (le)), .int (kI (fi)), .int (kI (se))]) (bs_a : kBase D ≤ a) : Met l yX3_savedStates (ws_ yX3_savedStates cX3_savedStates 1 (some .int)) ({ frames := 0, cells := 0, slots := 0, locals := 0 } : Room) (kPre D H [.ref a]) (kQi (fun (r : Int) H' => (r = ((sn : Nat) : Int)) ∧ (kO D H' a 2 [.ref ra, .ref sa, .int (kI ((sn : Nat) : Int)), .ref ka, .int (kI (kb (ik))), .ref ta, .int (kI ((tn : Nat) : Int)), .int (kI (0)), .int (kI (sp)), .int (kI (kb (iw))), .int (kI (le)), .int (kI (fi)), .int (kI (se))])) (fun q : Nat => q = a)) (0) (0) ((fun q : Nat => q = a)) := by
  refine Met.ofW (cc := cX3_savedStates) (maxL := 1) (ret := (some .int)) (by decide) rfl ?_
  intro p e s m args below meth c s₁ B hml hv
  obtain ⟨rfl, hH, hK⟩ := hv
  subst hH
  have hx := B.exec
  have hb := B.bytes
  have hr := B.returns
  have hts := atoms_spec (ws := ws_ yX3_savedStates cX3_savedStates 1 (some .int)) B.pre
  have hts : ∀ w ∈ lw_all, w.before _ s = true := fun w h => hts w (List.mem_cons_of_mem _ h)
  have hown : s.vm.findClass RX3 = some m.cls := findClass_of_methodNamed B.named
  have hlk := B.notSynchronized
  have hS : va_S (fun q : Nat => q = a) s.heap s.heap [] := va_S.rf
  have hB : ∀ q, (fun q : Nat => q = a) q → kBase D ≤ q := fun q h => by (try dsimp only at h); (try simp only [kNW] at h); have hks := hK.size; omega
  have hl := lv_entry ([.ref a]) (n := 1) (Nat.le_of_ble_eq_true rfl)
  rw [lg_entry_eq]
  generalize (lg_sl ([.ref a]) ++ List.replicate (1 - (lg_sl ([.ref a])).length) Slot.unset).toArray = ls at hl ⊢
  have hl : lv_has ls 1 [(0, .ref a)] := hl
  refine lv_aload_n hx hb dX3_savedStates_0 rfl (lv_at hl 0 rfl) ?_
  refine kx_iconst hx hb dX3_savedStates_1 ?_
  refine kx_put (v := .int (kI (0))) (C := RX3) (T := TX3) (N := 13) hx hb hts in_X3 hown hK hO_a rfl 7 (by decide) tyX3 tyX3_ok nmX3 hS (by first | rfl | exact Or.inl rfl | exact Or.inr rfl | exact Or.inr (Or.inl rfl) | exact Or.inr (Or.inr rfl) | exact Or.inr (Or.inr (Or.inl rfl)) | exact Or.inr (Or.inr (Or.inr rfl)) | ((try dsimp only); (try simp only [kNW]); omega)) q2245 (fun _ h9 => h9) rfl rfl rfl rfl (Nat.le_of_ble_eq_true rfl) dX3_savedStates_2 (fun H_3 locs_4 hO_2 hU_1 hS_5 => ?_)
  have hO_2 : kO D H_3 a 2 [.ref ra, .ref sa, .int (kI ((sn : Nat) : Int)), .ref ka, .int (kI (kb (ik))), .ref ta, .int (kI ((tn : Nat) : Int)), .int (kI (0)), .int (kI (sp)), .int (kI (kb (iw))), .int (kI (le)), .int (kI (fi)), .int (kI (se))] := hO_2
  have hzu_6 := hU_1.1
  refine lv_aload_n hx hb dX3_savedStates_5 rfl (lv_at hl 0 rfl) ?_
  refine kx_get (v := .int (kI ((sn : Nat) : Int))) (C := RX3) (T := TX3) (N := 13) hx hb hts in_X3 hown hK hO_2 rfl 2 (by decide) q2240 (fun _ h9 => h9) rfl dX3_savedStates_6 ?_
  exact kx_iret (z := ((sn : Nat) : Int)) hx hb hr hlk (⟨by rfl, hO_2⟩) hS_5 dX3_savedStates_9

set_option maxHeartbeats 4000000 in
set_option maxRecDepth 100000 in
theorem m_X3_thrown (l : Launch) (D : kG) (H : Heap) (a : Nat) (ra : Nat) (sa : Nat) (ka : Nat) (ta : Nat) (sn : Nat) (ik : Bool) (tn : Nat) (th : Int) (sp : Int) (iw : Bool) (le : Int) (fi : Int) (se : Int) (hO_a : kO D H a 2 [.ref ra, .ref sa, .int (kI ((sn : Nat) : Int)), .ref ka, .int (kI (kb (ik))), .ref ta, .int (kI ((tn : Nat) : Int)), .int (kI (th)), .int (kI (sp)), .int (kI (kb (iw))), .int (kI (le)), .int (kI (fi)), .int (kI (se))]) : Met l yX3_thrown (ws_ yX3_thrown cX3_thrown 1 (some .int)) ({ frames := 0, cells := 0, slots := 0, locals := 0 } : Room) (kPre D H [.ref a]) (kQi (fun (r : Int) H' => H' = H ∧ r = th) kNO) (0) (0) (kNO) := by
  refine Met.ofW (cc := cX3_thrown) (maxL := 1) (ret := (some .int)) (by decide) rfl ?_
  intro p e s m args below meth c s₁ B hml hv
  obtain ⟨rfl, hH, hK⟩ := hv
  subst hH
  have hx := B.exec
  have hb := B.bytes
  have hr := B.returns
  have hts := atoms_spec (ws := ws_ yX3_thrown cX3_thrown 1 (some .int)) B.pre
  have hts : ∀ w ∈ lw_all, w.before _ s = true := fun w h => hts w (List.mem_cons_of_mem _ h)
  have hown : s.vm.findClass RX3 = some m.cls := findClass_of_methodNamed B.named
  have hlk := B.notSynchronized
  have hS : va_S kNO s.heap s.heap [] := va_S.rf
  have hB : ∀ q, kNO q → kBase D ≤ q := fun _ h => h.elim
  have hl := lv_entry ([.ref a]) (n := 1) (Nat.le_of_ble_eq_true rfl)
  rw [lg_entry_eq]
  generalize (lg_sl ([.ref a]) ++ List.replicate (1 - (lg_sl ([.ref a])).length) Slot.unset).toArray = ls at hl ⊢
  have hl : lv_has ls 1 [(0, .ref a)] := hl
  refine lv_aload_n hx hb dX3_thrown_0 rfl (lv_at hl 0 rfl) ?_
  refine kx_get (v := .int (kI (th))) (C := RX3) (T := TX3) (N := 13) hx hb hts in_X3 hown hK hO_a rfl 7 (by decide) q2245 (fun _ h9 => h9) rfl dX3_thrown_1 ?_
  exact kx_iret (z := th) hx hb hr hlk (⟨rfl, by rfl⟩) hS dX3_thrown_4

set_option maxHeartbeats 4000000 in
set_option maxRecDepth 100000 in
theorem m_X3_undo_no (l : Launch) (D : kG) (H : Heap) (a : Nat) (ra : Nat) (sa : Nat) (ka : Nat) (ta : Nat) (sn : Nat) (ik : Bool) (tn : Nat) (th : Int) (sp : Int) (iw : Bool) (le : Int) (fi : Int) (se : Int) (hO_a : kO D H a 2 [.ref ra, .ref sa, .int (kI ((sn : Nat) : Int)), .ref ka, .int (kI (kb (ik))), .ref ta, .int (kI ((tn : Nat) : Int)), .int (kI (th)), .int (kI (sp)), .int (kI (kb (iw))), .int (kI (le)), .int (kI (fi)), .int (kI (se))]) (bs_a : kBase D ≤ a) (hsn : sn = 0) : Met l yX3_undo (ws_ yX3_undo cX3_undo 2 (some .int)) ({ frames := 1, cells := 0, slots := 0, locals := 21 } : Room) (kPre D H [.ref a]) (kQi (fun (r : Int) H' => (r = 0) ∧ (kO D H' a 2 [.ref ra, .ref sa, .int (kI ((sn : Nat) : Int)), .ref ka, .int (kI (kb (ik))), .ref ta, .int (kI ((tn : Nat) : Int)), .int (kI (1)), .int (kI (sp)), .int (kI (kb (iw))), .int (kI (le)), .int (kI (fi)), .int (kI (se))])) (fun q : Nat => q = a)) (0) (0) ((fun q : Nat => q = a)) := by
  refine Met.ofW (cc := cX3_undo) (maxL := 2) (ret := (some .int)) (by decide) rfl ?_
  intro p e s m args below meth c s₁ B hml hv
  obtain ⟨rfl, hH, hK⟩ := hv
  subst hH
  have hx := B.exec
  have hb := B.bytes
  have hr := B.returns
  have hts := atoms_spec (ws := ws_ yX3_undo cX3_undo 2 (some .int)) B.pre
  have hts : ∀ w ∈ lw_all, w.before _ s = true := fun w h => hts w (List.mem_cons_of_mem _ h)
  have hown : s.vm.findClass RX3 = some m.cls := findClass_of_methodNamed B.named
  have hlk := B.notSynchronized
  have hS : va_S (fun q : Nat => q = a) s.heap s.heap [] := va_S.rf
  have hB : ∀ q, (fun q : Nat => q = a) q → kBase D ≤ q := fun q h => by (try dsimp only at h); (try simp only [kNW] at h); have hks := hK.size; omega
  have hl := lv_entry ([.ref a]) (n := 2) (Nat.le_of_ble_eq_true rfl)
  rw [lg_entry_eq]
  generalize (lg_sl ([.ref a]) ++ List.replicate (2 - (lg_sl ([.ref a])).length) Slot.unset).toArray = ls at hl ⊢
  have hl : lv_has ls 2 [(0, .ref a)] := hl
  refine lv_aload_n hx hb dX3_undo_0 rfl (lv_at hl 0 rfl) ?_
  refine kx_iconst hx hb dX3_undo_1 ?_
  refine kx_put (v := .int (kI (0))) (C := RX3) (T := TX3) (N := 13) hx hb hts in_X3 hown hK hO_a rfl 7 (by decide) tyX3 tyX3_ok nmX3 hS (by first | rfl | exact Or.inl rfl | exact Or.inr rfl | exact Or.inr (Or.inl rfl) | exact Or.inr (Or.inr rfl) | exact Or.inr (Or.inr (Or.inl rfl)) | exact Or.inr (Or.inr (Or.inr rfl)) | ((try dsimp only); (try simp only [kNW]); omega)) q2245 (fun _ h9 => h9) rfl rfl rfl rfl (Nat.le_of_ble_eq_true rfl) dX3_undo_2 (fun H_3 locs_4 hO_2 hU_1 hS_5 => ?_)
  have hO_2 : kO D H_3 a 2 [.ref ra, .ref sa, .int (kI ((sn : Nat) : Int)), .ref ka, .int (kI (kb (ik))), .ref ta, .int (kI ((tn : Nat) : Int)), .int (kI (0)), .int (kI (sp)), .int (kI (kb (iw))), .int (kI (le)), .int (kI (fi)), .int (kI (se))] := hO_2
  have hzu_6 := hU_1.1
  refine lv_aload_n hx hb dX3_undo_5 rfl (lv_at hl 0 rfl) ?_
  refine kx_get (v := .int (kI ((sn : Nat) : Int))) (C := RX3) (T := TX3) (N := 13) hx hb hts in_X3 hown hK hO_2 rfl 2 (by decide) q2240 (fun _ h9 => h9) rfl dX3_undo_6 ?_
  refine kx_if_ne (x := ((sn : Nat) : Int)) (tgt := 18) hx hb dX3_undo_9 (by decide) (by omega) (by omega) (fun c_9_7 => ?_) (fun c_9_7 => ?_)
  · -- taken at 9
    exfalso; omega
  · -- not taken at 9
    refine lv_aload_n hx hb dX3_undo_12 rfl (lv_at hl 0 rfl) ?_
    refine kx_iconst hx hb dX3_undo_13 ?_
    refine kx_ci (va_runV (As := [.int (kI (1))]) (rest := []) ⟨hx, hb, hml, hown, hts⟩ (m_X3_fails l D H_3 a ra sa ka ta sn ik tn 0 sp iw le fi se 1 hO_2 (by first | assumption | omega)) (cwV 1 hts (lw_V q2455 q2457 qs64 q89 q2458) rfl rfl rfl (by decide +kernel) ⟨Nat.le_of_ble_eq_true rfl, Nat.le_of_ble_eq_true rfl⟩) (kx_pv hK hS_5 hB (kx_rc hK hO_2 (C := RX3) (T := TX3) (N := 13) rfl)) rfl rfl hl.1 rfl (lv_room (Nat.le_of_ble_eq_true rfl)) dX3_undo_14 ⟨by first | exact Nat.le_of_ble_eq_true rfl | omega | (show _ ≤ _; omega) | (dsimp only [headSpec]; omega), by first | exact Nat.le_of_ble_eq_true rfl | omega | (show _ ≤ _; omega) | (dsimp only [headSpec]; omega)⟩) hS_5 (fun q _ h => by (try dsimp only at h); (try dsimp only); (try simp only [kNW] at h); (try simp only [kNW]); omega) (fun q h => by (try dsimp only at h); (try dsimp only); (try simp only [kNW] at h); (try simp only [kNW]); omega) (fun z_13 H_11 locs_8 hz_10 hF_12 hS_9 => ?_)
    have hzf_14 := hF_12.1
    refine W.widen (k := 0) (n := 0) (Nat.le_of_ble_eq_true rfl) (Nat.le_of_ble_eq_true rfl) ?_
    obtain ⟨hv_15, ho_16⟩ := hz_10
    subst z_13
    exact kx_iret (z := 0) hx hb hr hlk (⟨by rfl, ho_16⟩) hS_9 dX3_undo_17

set_option maxHeartbeats 4000000 in
set_option maxRecDepth 100000 in
theorem m_X3_undo (l : Launch) (D : kG) (H : Heap) (a : Nat) (ra : Nat) (sa : Nat) (ka : Nat) (ta : Nat) (sn : Nat) (ik : Bool) (tn : Nat) (th : Int) (sp : Int) (iw : Bool) (le : Int) (fi : Int) (se : Int) (g : Nat → Int) (gs : Nat → Int) (S : Ls) (gap : Int) (hist : List Sg) (hO_a : kO D H a 2 [.ref ra, .ref sa, .int (kI ((sn : Nat) : Int)), .ref ka, .int (kI (kb (ik))), .ref ta, .int (kI ((tn : Nat) : Int)), .int (kI (th)), .int (kI (sp)), .int (kI (kb (iw))), .int (kI (le)), .int (kI (fi)), .int (kI (se))]) (hA_ra : kAi D H ra 514 g) (hA_sa : kAi D H sa 2570 gs) (hM : MRow g S gap) (hok : LsOK S gap) (hH : MHist gs hist sn) (ne_a_ra : a ≠ ra) (ne_a_sa : a ≠ sa) (ne_ra_sa : ra ≠ sa) (bs_a : kBase D ≤ a) (bs_ra : kBase D ≤ ra) (bs_sa : kBase D ≤ sa) (hsn : 0 < sn) : Met l yX3_undo (ws_ yX3_undo cX3_undo 2 (some .int)) ({ frames := 0, cells := 0, slots := 0, locals := 0 } : Room) (kPre D H [.ref a]) (kQi (fun (r : Int) H' => ∃ (g2 : Nat → Int), (r = ((sn - 1 : Nat) : Int)) ∧ (kO D H' a 2 [.ref ra, .ref sa, .int (kI ((sn - 1 : Nat) : Int)), .ref ka, .int (kI (kb (ik))), .ref ta, .int (kI ((tn : Nat) : Int)), .int (kI (0)), .int (kI (sp)), .int (kI (kb (iw))), .int (kI (le)), .int (kI (fi)), .int (kI (se))]) ∧ (kAi D H' ra 514 g2) ∧ (kAi D H' sa 2570 gs) ∧ (MRow g2 (sg_at hist (sn - 1)).1 (sg_at hist (sn - 1)).2) ∧ (MHist gs hist.dropLast (sn - 1))) (fun q : Nat => q = a ∨ q = ra)) (0) (0) ((fun q : Nat => q = a ∨ q = ra)) := by
  refine Met.ofW (cc := cX3_undo) (maxL := 2) (ret := (some .int)) (by decide) rfl ?_
  intro p e s m args below meth c s₁ B hml hv
  obtain ⟨rfl, hH, hK⟩ := hv
  subst hH
  have hx := B.exec
  have hb := B.bytes
  have hr := B.returns
  have hts := atoms_spec (ws := ws_ yX3_undo cX3_undo 2 (some .int)) B.pre
  have hts : ∀ w ∈ lw_all, w.before _ s = true := fun w h => hts w (List.mem_cons_of_mem _ h)
  have hown : s.vm.findClass RX3 = some m.cls := findClass_of_methodNamed B.named
  have hlk := B.notSynchronized
  have hS : va_S (fun q : Nat => q = a ∨ q = ra) s.heap s.heap [] := va_S.rf
  have hB : ∀ q, (fun q : Nat => q = a ∨ q = ra) q → kBase D ≤ q := fun q h => by (try dsimp only at h); (try simp only [kNW] at h); have hks := hK.size; omega
  have hl := lv_entry ([.ref a]) (n := 2) (Nat.le_of_ble_eq_true rfl)
  rw [lg_entry_eq]
  generalize (lg_sl ([.ref a]) ++ List.replicate (2 - (lg_sl ([.ref a])).length) Slot.unset).toArray = ls at hl ⊢
  have hl : lv_has ls 2 [(0, .ref a)] := hl
  have hsn5 := hH.2.1
  refine lv_aload_n hx hb dX3_undo_0 rfl (lv_at hl 0 rfl) ?_
  refine kx_iconst hx hb dX3_undo_1 ?_
  refine kx_put (v := .int (kI (0))) (C := RX3) (T := TX3) (N := 13) hx hb hts in_X3 hown hK hO_a rfl 7 (by decide) tyX3 tyX3_ok nmX3 hS (by first | rfl | exact Or.inl rfl | exact Or.inr rfl | exact Or.inr (Or.inl rfl) | exact Or.inr (Or.inr rfl) | exact Or.inr (Or.inr (Or.inl rfl)) | exact Or.inr (Or.inr (Or.inr rfl)) | ((try dsimp only); (try simp only [kNW]); omega)) q2245 (fun _ h9 => h9) rfl rfl rfl rfl (Nat.le_of_ble_eq_true rfl) dX3_undo_2 (fun H_3 locs_4 hO_2 hU_1 hS_5 => ?_)
  have hO_2 : kO D H_3 a 2 [.ref ra, .ref sa, .int (kI ((sn : Nat) : Int)), .ref ka, .int (kI (kb (ik))), .ref ta, .int (kI ((tn : Nat) : Int)), .int (kI (0)), .int (kI (sp)), .int (kI (kb (iw))), .int (kI (le)), .int (kI (fi)), .int (kI (se))] := hO_2
  have hzu_6 := hU_1.1
  refine lv_aload_n hx hb dX3_undo_5 rfl (lv_at hl 0 rfl) ?_
  refine kx_get (v := .int (kI ((sn : Nat) : Int))) (C := RX3) (T := TX3) (N := 13) hx hb hts in_X3 hown hK hO_2 rfl 2 (by decide) q2240 (fun _ h9 => h9) rfl dX3_undo_6 ?_
  refine kx_if_ne (x := ((sn : Nat) : Int)) (tgt := 18) hx hb dX3_undo_9 (by decide) (by omega) (by omega) (fun c_9_7 => ?_) (fun c_9_7 => ?_)
  · -- taken at 9
    refine lv_aload_n hx hb dX3_undo_18 rfl (lv_at hl 0 rfl) ?_
    refine lv_dup hx hb dX3_undo_19 rfl ?_
    refine kx_get (v := .int (kI ((sn : Nat) : Int))) (C := RX3) (T := TX3) (N := 13) hx hb hts in_X3 hown hK hO_2 rfl 2 (by decide) q2240 (fun _ h9 => h9) rfl dX3_undo_20 ?_
    refine kx_iconst hx hb dX3_undo_23 ?_
    refine kx_isub hx hb dX3_undo_24 ?_
    refine kx_eqi (((sn - 1 : Nat) : Int)) (by omega) ?_
    refine kx_put (v := .int (kI ((sn - 1 : Nat) : Int))) (C := RX3) (T := TX3) (N := 13) hx hb hts in_X3 hown hK hO_2 rfl 2 (by decide) tyX3 tyX3_ok nmX3 hS_5 (by first | rfl | exact Or.inl rfl | exact Or.inr rfl | exact Or.inr (Or.inl rfl) | exact Or.inr (Or.inr rfl) | exact Or.inr (Or.inr (Or.inl rfl)) | exact Or.inr (Or.inr (Or.inr rfl)) | ((try dsimp only); (try simp only [kNW]); omega)) q2240 (fun _ h9 => h9) rfl rfl rfl rfl (Nat.le_of_ble_eq_true rfl) dX3_undo_25 (fun H_10 locs_11 hO_9 hU_8 hS_12 => ?_)
    have hO_9 : kO D H_10 a 2 [.ref ra, .ref sa, .int (kI ((sn - 1 : Nat) : Int)), .ref ka, .int (kI (kb (ik))), .ref ta, .int (kI ((tn : Nat) : Int)), .int (kI (0)), .int (kI (sp)), .int (kI (kb (iw))), .int (kI (le)), .int (kI (fi)), .int (kI (se))] := hO_9
    have hzu_13 := hU_8.1
    refine kx_iconst hx hb dX3_undo_28 ?_
    refine lv_istore_n (lv' := [(1, .int (kI (0))), (0, .ref a)]) hx hb dX3_undo_29 rfl hl (by decide) rfl (fun ls hl => ?_)
    have lp_30_x_14 : ∀ (n_30 : Nat) (k : Nat) (g1 : Nat → Int) (H : Heap) (hO_a : kO D H a 2 [.ref ra, .ref sa, .int (kI ((sn - 1 : Nat) : Int)), .ref ka, .int (kI (kb (ik))), .ref ta, .int (kI ((tn : Nat) : Int)), .int (kI (0)), .int (kI (sp)), .int (kI (kb (iw))), .int (kI (le)), .int (kI (fi)), .int (kI (se))]) (hA_ra : kAi D H ra 514 g1) (hA_sa : kAi D H sa 2570 gs) (hk : k ≤ 514) (h1 : ∀ j, j < k → g1 j = gs (514 * (sn - 1) + j)) (locs : List Loc) (hS : va_S (fun q : Nat => q = a ∨ q = ra) s.heap H locs) (hm_30 : 514 - k < n_30) (ls : Array Slot), lv_has ls 2 [(0, .ref a), (1, .int (kI ((k : Nat) : Int)))] → W p l e (headSpec (ws_ yX3_undo cX3_undo 2 (some .int)) ({ frames := 0, cells := 0, slots := 0, locals := 0 } : Room)).room s m ([.ref a] : List Value).toArray below meth c H locs (0) (0) (MQ below (kQi (fun (r : Int) H' => ∃ (g2 : Nat → Int), (r = ((sn - 1 : Nat) : Int)) ∧ (kO D H' a 2 [.ref ra, .ref sa, .int (kI ((sn - 1 : Nat) : Int)), .ref ka, .int (kI (kb (ik))), .ref ta, .int (kI ((tn : Nat) : Int)), .int (kI (0)), .int (kI (sp)), .int (kI (kb (iw))), .int (kI (le)), .int (kI (fi)), .int (kI (se))]) ∧ (kAi D H' ra 514 g2) ∧ (kAi D H' sa 2570 gs) ∧ (MRow g2 (sg_at hist (sn - 1)).1 (sg_at hist (sn - 1)).2) ∧ (MHist gs hist.dropLast (sn - 1))) (fun q : Nat => q = a ∨ q = ra)) ([.ref a] : List Value).toArray s (0) (0) ((fun q : Nat => q = a ∨ q = ra))) (F0 m 30 ls []) := by
      intro n_30
      induction n_30 with
      | zero => intro k g1 H hO_a hA_ra hA_sa hk h1 locs hS hm_30; exact absurd hm_30 (Nat.not_lt_zero _)
      | succ n_30 ih_30 =>
        intro k g1 H hO_a hA_ra hA_sa hk h1 locs hS hm_30 ls hl
        refine lv_iload_n hx hb dX3_undo_30 rfl (lv_at hl 1 rfl) ?_
        refine kx_sipush hx hb (by decide) dX3_undo_31 ?_
        refine kx_icmp_ge (x := ((k : Nat) : Int)) (y := 514) (tgt := 64) hx hb dX3_undo_34 (by decide) (by omega) (by omega) (by omega) (by omega) (fun c_34_15 => ?_) (fun c_34_15 => ?_)
        · -- taken at 34
          refine lv_aload_n hx hb dX3_undo_64 rfl (lv_at hl 0 rfl) ?_
          refine kx_get (v := .int (kI ((sn - 1 : Nat) : Int))) (C := RX3) (T := TX3) (N := 13) hx hb hts in_X3 hown hK hO_a rfl 2 (by decide) q2240 (fun _ h9 => h9) rfl dX3_undo_65 ?_
          exact kx_iret (z := ((sn - 1 : Nat) : Int)) hx hb hr hlk (⟨g1, by rfl, hO_a, hA_ra, hA_sa, by exact hH.last hsn (fun j hj => h1 j (by omega)), by exact hH.drop hsn⟩) hS dX3_undo_68
        · -- not taken at 34
          refine lv_aload_n hx hb dX3_undo_37 rfl (lv_at hl 0 rfl) ?_
          refine kx_get (v := .ref ra) (C := RX3) (T := TX3) (N := 13) hx hb hts in_X3 hown hK hO_a rfl 0 (by decide) q2238 (fun _ h9 => h9) rfl dX3_undo_38 ?_
          refine lv_iload_n hx hb dX3_undo_41 rfl (lv_at hl 1 rfl) ?_
          refine lv_aload_n hx hb dX3_undo_42 rfl (lv_at hl 0 rfl) ?_
          refine kx_get (v := .ref sa) (C := RX3) (T := TX3) (N := 13) hx hb hts in_X3 hown hK hO_a rfl 1 (by decide) q2239 (fun _ h9 => h9) rfl dX3_undo_43 ?_
          refine kx_sipush hx hb (by decide) dX3_undo_46 ?_
          refine lv_aload_n hx hb dX3_undo_49 rfl (lv_at hl 0 rfl) ?_
          refine kx_get (v := .int (kI ((sn - 1 : Nat) : Int))) (C := RX3) (T := TX3) (N := 13) hx hb hts in_X3 hown hK hO_a rfl 2 (by decide) q2240 (fun _ h9 => h9) rfl dX3_undo_50 ?_
          refine kx_imul hx hb dX3_undo_53 ?_
          refine lv_iload_n hx hb dX3_undo_54 rfl (lv_at hl 1 rfl) ?_
          refine kx_iadd hx hb dX3_undo_55 ?_
          refine kx_iald (i := ((514 * ((sn - 1 : Nat) : Int)) + ((k : Nat) : Int))) hx hb hK hA_sa (514 * (sn - 1) + k) (by omega) (by omega) (by omega) dX3_undo_56 ?_
          refine kx_iast (i := ((k : Nat) : Int)) (x := (gs (514 * (sn - 1) + k))) hx hb hK hA_ra hS (by first | rfl | exact Or.inl rfl | exact Or.inr rfl | exact Or.inr (Or.inl rfl) | exact Or.inr (Or.inr rfl) | exact Or.inr (Or.inr (Or.inl rfl)) | exact Or.inr (Or.inr (Or.inr rfl)) | ((try dsimp only); (try simp only [kNW]); omega)) k (rfl) (by omega) (by omega) dX3_undo_57 (fun H_18 locs_19 hA_17 hU_16 hS_20 => ?_)
          have hzu_21 := hU_16.1
          refine lv_iinc (v := kI (((k + 1 : Nat) : Int))) (lv' := [(1, .int (kI ((k + 1 : Nat) : Int))), (0, .ref a)]) hx hb dX3_undo_58 hl (k := 1) rfl (kI_incN _ _) (by decide) rfl (fun ls hl => ?_)
          refine lv_goto (tgt := 30) hx hb dX3_undo_61 (by decide) ?_
          have h_22 := hO_a.up hU_16 (by first | assumption | exact Ne.symm (by assumption) | omega | (have h9 := hO_a.lt; omega))
          have h_23 := hA_sa.up hU_16 (by first | assumption | exact Ne.symm (by assumption) | omega | (have h9 := hA_sa.lt; omega))
          exact ih_30  (k + 1) (kup g1 k ((gs (514 * (sn - 1) + k)))) H_18 h_22 hA_17 h_23 (by first | assumption | omega | (simp_all; done) | grind) (fun j hj => by unfold kup; split <;> first | (rename_i z; rw [z]; done) | exact h1 j (by omega)) _ hS_20 (by omega) ls (lv_sub hl [1, 0] rfl)
    have h_24 := hA_ra.up hU_1 (by first | assumption | exact Ne.symm (by assumption) | omega | (have h9 := hA_ra.lt; omega))
    have h_25 := h_24.up hU_8 (by first | assumption | exact Ne.symm (by assumption) | omega | (have h9 := h_24.lt; omega))
    have h_26 := hA_sa.up hU_1 (by first | assumption | exact Ne.symm (by assumption) | omega | (have h9 := hA_sa.lt; omega))
    have h_27 := h_26.up hU_8 (by first | assumption | exact Ne.symm (by assumption) | omega | (have h9 := h_26.lt; omega))
    exact lp_30_x_14 (514 - 0 + 1) 0 g H_10 hO_9 h_25 h_27 (by first | assumption | omega | (simp_all; done) | grind) (fun j hj => absurd hj (Nat.not_lt_zero j)) _ hS_12 (Nat.lt_succ_self _) ls (lv_sub hl [1, 0] rfl)
  · -- not taken at 9
    exfalso; omega

set_option maxHeartbeats 4000000 in
set_option maxRecDepth 100000 in
theorem m_X3_takeSnapshot (l : Launch) (D : kG) (H : Heap) (a : Nat) (ra : Nat) (sa : Nat) (ka : Nat) (ta : Nat) (sn : Nat) (ik : Bool) (tn : Nat) (th : Int) (sp : Int) (iw : Bool) (le : Int) (fi : Int) (se : Int) (g : Nat → Int) (gk : Nat → Int) (S : Ls) (gap : Int) (hO_a : kO D H a 2 [.ref ra, .ref sa, .int (kI ((sn : Nat) : Int)), .ref ka, .int (kI (kb (ik))), .ref ta, .int (kI ((tn : Nat) : Int)), .int (kI (th)), .int (kI (sp)), .int (kI (kb (iw))), .int (kI (le)), .int (kI (fi)), .int (kI (se))]) (hA_ra : kAi D H ra 514 g) (hA_ka : kAi D H ka 514 gk) (hM : MRow g S gap) (hok : LsOK S gap) (ne_a_ra : a ≠ ra) (ne_a_ka : a ≠ ka) (ne_ra_ka : ra ≠ ka) (bs_a : kBase D ≤ a) (bs_ka : kBase D ≤ ka) : Met l yX3_takeSnapshot (ws_ yX3_takeSnapshot cX3_takeSnapshot 2 (some .int)) ({ frames := 0, cells := 0, slots := 0, locals := 0 } : Room) (kPre D H [.ref a]) (kQi (fun (r : Int) H' => ∃ (gk2 : Nat → Int), (r = ((S.length : Nat) : Int)) ∧ (kO D H' a 2 [.ref ra, .ref sa, .int (kI ((sn : Nat) : Int)), .ref ka, .int (kI (kb (true))), .ref ta, .int (kI ((tn : Nat) : Int)), .int (kI (0)), .int (kI (sp)), .int (kI (kb (iw))), .int (kI (le)), .int (kI (fi)), .int (kI (se))]) ∧ (kAi D H' ra 514 g) ∧ (kAi D H' ka 514 gk2) ∧ (MRow gk2 S gap)) (fun q : Nat => q = a ∨ q = ka)) (0) (0) ((fun q : Nat => q = a ∨ q = ka)) := by
  refine Met.ofW (cc := cX3_takeSnapshot) (maxL := 2) (ret := (some .int)) (by decide) rfl ?_
  intro p e s m args below meth c s₁ B hml hv
  obtain ⟨rfl, hH, hK⟩ := hv
  subst hH
  have hx := B.exec
  have hb := B.bytes
  have hr := B.returns
  have hts := atoms_spec (ws := ws_ yX3_takeSnapshot cX3_takeSnapshot 2 (some .int)) B.pre
  have hts : ∀ w ∈ lw_all, w.before _ s = true := fun w h => hts w (List.mem_cons_of_mem _ h)
  have hown : s.vm.findClass RX3 = some m.cls := findClass_of_methodNamed B.named
  have hlk := B.notSynchronized
  have hS : va_S (fun q : Nat => q = a ∨ q = ka) s.heap s.heap [] := va_S.rf
  have hB : ∀ q, (fun q : Nat => q = a ∨ q = ka) q → kBase D ≤ q := fun q h => by (try dsimp only at h); (try simp only [kNW] at h); have hks := hK.size; omega
  have hl := lv_entry ([.ref a]) (n := 2) (Nat.le_of_ble_eq_true rfl)
  rw [lg_entry_eq]
  generalize (lg_sl ([.ref a]) ++ List.replicate (2 - (lg_sl ([.ref a])).length) Slot.unset).toArray = ls at hl ⊢
  have hl : lv_has ls 2 [(0, .ref a)] := hl
  refine lv_aload_n hx hb dX3_takeSnapshot_0 rfl (lv_at hl 0 rfl) ?_
  refine kx_iconst hx hb dX3_takeSnapshot_1 ?_
  refine kx_put (v := .int (kI (0))) (C := RX3) (T := TX3) (N := 13) hx hb hts in_X3 hown hK hO_a rfl 7 (by decide) tyX3 tyX3_ok nmX3 hS (by first | rfl | exact Or.inl rfl | exact Or.inr rfl | exact Or.inr (Or.inl rfl) | exact Or.inr (Or.inr rfl) | exact Or.inr (Or.inr (Or.inl rfl)) | exact Or.inr (Or.inr (Or.inr rfl)) | ((try dsimp only); (try simp only [kNW]); omega)) q2245 (fun _ h9 => h9) rfl rfl rfl rfl (Nat.le_of_ble_eq_true rfl) dX3_takeSnapshot_2 (fun H_3 locs_4 hO_2 hU_1 hS_5 => ?_)
  have hO_2 : kO D H_3 a 2 [.ref ra, .ref sa, .int (kI ((sn : Nat) : Int)), .ref ka, .int (kI (kb (ik))), .ref ta, .int (kI ((tn : Nat) : Int)), .int (kI (0)), .int (kI (sp)), .int (kI (kb (iw))), .int (kI (le)), .int (kI (fi)), .int (kI (se))] := hO_2
  have hzu_6 := hU_1.1
  refine lv_aload_n hx hb dX3_takeSnapshot_5 rfl (lv_at hl 0 rfl) ?_
  refine kx_iconst hx hb dX3_takeSnapshot_6 ?_
  refine kx_put (v := .int (kI (kb (true)))) (C := RX3) (T := TX3) (N := 13) hx hb hts in_X3 hown hK hO_2 rfl 4 (by decide) tyX3 tyX3_ok nmX3 hS_5 (by first | rfl | exact Or.inl rfl | exact Or.inr rfl | exact Or.inr (Or.inl rfl) | exact Or.inr (Or.inr rfl) | exact Or.inr (Or.inr (Or.inl rfl)) | exact Or.inr (Or.inr (Or.inr rfl)) | ((try dsimp only); (try simp only [kNW]); omega)) q2242 (fun _ h9 => h9) rfl rfl (kb_narZ _) (kb_fitZ _) (Nat.le_of_ble_eq_true rfl) dX3_takeSnapshot_7 (fun H_9 locs_10 hO_8 hU_7 hS_11 => ?_)
  have hO_8 : kO D H_9 a 2 [.ref ra, .ref sa, .int (kI ((sn : Nat) : Int)), .ref ka, .int (kI (kb (true))), .ref ta, .int (kI ((tn : Nat) : Int)), .int (kI (0)), .int (kI (sp)), .int (kI (kb (iw))), .int (kI (le)), .int (kI (fi)), .int (kI (se))] := hO_8
  have hzu_12 := hU_7.1
  refine kx_iconst hx hb dX3_takeSnapshot_10 ?_
  refine lv_istore_n (lv' := [(1, .int (kI (0))), (0, .ref a)]) hx hb dX3_takeSnapshot_11 rfl hl (by decide) rfl (fun ls hl => ?_)
  have lp_12_x_13 : ∀ (n_12 : Nat) (k : Nat) (g1 : Nat → Int) (H : Heap) (hO_a : kO D H a 2 [.ref ra, .ref sa, .int (kI ((sn : Nat) : Int)), .ref ka, .int (kI (kb (true))), .ref ta, .int (kI ((tn : Nat) : Int)), .int (kI (0)), .int (kI (sp)), .int (kI (kb (iw))), .int (kI (le)), .int (kI (fi)), .int (kI (se))]) (hA_ra : kAi D H ra 514 g) (hA_ka : kAi D H ka 514 g1) (hk : k ≤ 514) (h1 : ∀ j, j < k → g1 j = g j) (locs : List Loc) (hS : va_S (fun q : Nat => q = a ∨ q = ka) s.heap H locs) (hm_12 : 514 - k < n_12) (ls : Array Slot), lv_has ls 2 [(0, .ref a), (1, .int (kI ((k : Nat) : Int)))] → W p l e (headSpec (ws_ yX3_takeSnapshot cX3_takeSnapshot 2 (some .int)) ({ frames := 0, cells := 0, slots := 0, locals := 0 } : Room)).room s m ([.ref a] : List Value).toArray below meth c H locs (0) (0) (MQ below (kQi (fun (r : Int) H' => ∃ (gk2 : Nat → Int), (r = ((S.length : Nat) : Int)) ∧ (kO D H' a 2 [.ref ra, .ref sa, .int (kI ((sn : Nat) : Int)), .ref ka, .int (kI (kb (true))), .ref ta, .int (kI ((tn : Nat) : Int)), .int (kI (0)), .int (kI (sp)), .int (kI (kb (iw))), .int (kI (le)), .int (kI (fi)), .int (kI (se))]) ∧ (kAi D H' ra 514 g) ∧ (kAi D H' ka 514 gk2) ∧ (MRow gk2 S gap)) (fun q : Nat => q = a ∨ q = ka)) ([.ref a] : List Value).toArray s (0) (0) ((fun q : Nat => q = a ∨ q = ka))) (F0 m 12 ls []) := by
    intro n_12
    induction n_12 with
    | zero => intro k g1 H hO_a hA_ra hA_ka hk h1 locs hS hm_12; exact absurd hm_12 (Nat.not_lt_zero _)
    | succ n_12 ih_12 =>
      intro k g1 H hO_a hA_ra hA_ka hk h1 locs hS hm_12 ls hl
      refine lv_iload_n hx hb dX3_takeSnapshot_12 rfl (lv_at hl 1 rfl) ?_
      refine kx_sipush hx hb (by decide) dX3_takeSnapshot_13 ?_
      refine kx_icmp_ge (x := ((k : Nat) : Int)) (y := 514) (tgt := 37) hx hb dX3_takeSnapshot_16 (by decide) (by omega) (by omega) (by omega) (by omega) (fun c_16_14 => ?_) (fun c_16_14 => ?_)
      · -- taken at 16
        refine lv_aload_n hx hb dX3_takeSnapshot_37 rfl (lv_at hl 0 rfl) ?_
        refine kx_get (v := .ref ra) (C := RX3) (T := TX3) (N := 13) hx hb hts in_X3 hown hK hO_a rfl 0 (by decide) q2238 (fun _ h9 => h9) rfl dX3_takeSnapshot_38 ?_
        refine kx_iconst hx hb dX3_takeSnapshot_41 ?_
        refine kx_iald (i := 0) hx hb hK hA_ra 0 (rfl) (by omega) (by omega) dX3_takeSnapshot_42 ?_
        exact kx_iret (z := (g 0)) hx hb hr hlk (⟨g1, by exact hM.len, hO_a, hA_ra, hA_ka, by exact hM.congr hok.1 hok.ns (fun j hj => h1 j (by omega))⟩) hS dX3_takeSnapshot_43
      · -- not taken at 16
        refine lv_aload_n hx hb dX3_takeSnapshot_19 rfl (lv_at hl 0 rfl) ?_
        refine kx_get (v := .ref ka) (C := RX3) (T := TX3) (N := 13) hx hb hts in_X3 hown hK hO_a rfl 3 (by decide) q2241 (fun _ h9 => h9) rfl dX3_takeSnapshot_20 ?_
        refine lv_iload_n hx hb dX3_takeSnapshot_23 rfl (lv_at hl 1 rfl) ?_
        refine lv_aload_n hx hb dX3_takeSnapshot_24 rfl (lv_at hl 0 rfl) ?_
        refine kx_get (v := .ref ra) (C := RX3) (T := TX3) (N := 13) hx hb hts in_X3 hown hK hO_a rfl 0 (by decide) q2238 (fun _ h9 => h9) rfl dX3_takeSnapshot_25 ?_
        refine lv_iload_n hx hb dX3_takeSnapshot_28 rfl (lv_at hl 1 rfl) ?_
        refine kx_iald (i := ((k : Nat) : Int)) hx hb hK hA_ra k (rfl) (by omega) (by omega) dX3_takeSnapshot_29 ?_
        refine kx_iast (i := ((k : Nat) : Int)) (x := (g k)) hx hb hK hA_ka hS (by first | rfl | exact Or.inl rfl | exact Or.inr rfl | exact Or.inr (Or.inl rfl) | exact Or.inr (Or.inr rfl) | exact Or.inr (Or.inr (Or.inl rfl)) | exact Or.inr (Or.inr (Or.inr rfl)) | ((try dsimp only); (try simp only [kNW]); omega)) k (rfl) (by omega) (by omega) dX3_takeSnapshot_30 (fun H_17 locs_18 hA_16 hU_15 hS_19 => ?_)
        have hzu_20 := hU_15.1
        refine lv_iinc (v := kI (((k + 1 : Nat) : Int))) (lv' := [(1, .int (kI ((k + 1 : Nat) : Int))), (0, .ref a)]) hx hb dX3_takeSnapshot_31 hl (k := 1) rfl (kI_incN _ _) (by decide) rfl (fun ls hl => ?_)
        refine lv_goto (tgt := 12) hx hb dX3_takeSnapshot_34 (by decide) ?_
        have h_21 := hO_a.up hU_15 (by first | assumption | exact Ne.symm (by assumption) | omega | (have h9 := hO_a.lt; omega))
        have h_22 := hA_ra.up hU_15 (by first | assumption | exact Ne.symm (by assumption) | omega | (have h9 := hA_ra.lt; omega))
        exact ih_12  (k + 1) (kup g1 k ((g k))) H_17 h_21 h_22 hA_16 (by first | assumption | omega | (simp_all; done) | grind) (fun j hj => by unfold kup; split <;> first | (rename_i z; rw [z]; done) | exact h1 j (by omega)) _ hS_19 (by omega) ls (lv_sub hl [1, 0] rfl)
  have h_23 := hA_ra.up hU_1 (by first | assumption | exact Ne.symm (by assumption) | omega | (have h9 := hA_ra.lt; omega))
  have h_24 := h_23.up hU_7 (by first | assumption | exact Ne.symm (by assumption) | omega | (have h9 := h_23.lt; omega))
  have h_25 := hA_ka.up hU_1 (by first | assumption | exact Ne.symm (by assumption) | omega | (have h9 := hA_ka.lt; omega))
  have h_26 := h_25.up hU_7 (by first | assumption | exact Ne.symm (by assumption) | omega | (have h9 := h_25.lt; omega))
  exact lp_12_x_13 (514 - 0 + 1) 0 gk H_9 hO_8 h_24 h_26 (by first | assumption | omega | (simp_all; done) | grind) (fun j hj => absurd hj (Nat.not_lt_zero j)) _ hS_11 (Nat.lt_succ_self _) ls (lv_sub hl [1, 0] rfl)

set_option maxHeartbeats 4000000 in
set_option maxRecDepth 100000 in
theorem m_X3_restoreSnapshot_no (l : Launch) (D : kG) (H : Heap) (a : Nat) (ra : Nat) (sa : Nat) (ka : Nat) (ta : Nat) (sn : Nat) (tn : Nat) (th : Int) (sp : Int) (iw : Bool) (le : Int) (fi : Int) (se : Int) (hO_a : kO D H a 2 [.ref ra, .ref sa, .int (kI ((sn : Nat) : Int)), .ref ka, .int (kI (kb (false))), .ref ta, .int (kI ((tn : Nat) : Int)), .int (kI (th)), .int (kI (sp)), .int (kI (kb (iw))), .int (kI (le)), .int (kI (fi)), .int (kI (se))]) (bs_a : kBase D ≤ a) : Met l yX3_restoreSnapshot (ws_ yX3_restoreSnapshot cX3_restoreSnapshot 2 (some .int)) ({ frames := 1, cells := 0, slots := 0, locals := 21 } : Room) (kPre D H [.ref a]) (kQi (fun (r : Int) H' => (r = 0) ∧ (kO D H' a 2 [.ref ra, .ref sa, .int (kI ((sn : Nat) : Int)), .ref ka, .int (kI (kb (false))), .ref ta, .int (kI ((tn : Nat) : Int)), .int (kI (1)), .int (kI (sp)), .int (kI (kb (iw))), .int (kI (le)), .int (kI (fi)), .int (kI (se))])) (fun q : Nat => q = a)) (0) (0) ((fun q : Nat => q = a)) := by
  refine Met.ofW (cc := cX3_restoreSnapshot) (maxL := 2) (ret := (some .int)) (by decide) rfl ?_
  intro p e s m args below meth c s₁ B hml hv
  obtain ⟨rfl, hH, hK⟩ := hv
  subst hH
  have hx := B.exec
  have hb := B.bytes
  have hr := B.returns
  have hts := atoms_spec (ws := ws_ yX3_restoreSnapshot cX3_restoreSnapshot 2 (some .int)) B.pre
  have hts : ∀ w ∈ lw_all, w.before _ s = true := fun w h => hts w (List.mem_cons_of_mem _ h)
  have hown : s.vm.findClass RX3 = some m.cls := findClass_of_methodNamed B.named
  have hlk := B.notSynchronized
  have hS : va_S (fun q : Nat => q = a) s.heap s.heap [] := va_S.rf
  have hB : ∀ q, (fun q : Nat => q = a) q → kBase D ≤ q := fun q h => by (try dsimp only at h); (try simp only [kNW] at h); have hks := hK.size; omega
  have hl := lv_entry ([.ref a]) (n := 2) (Nat.le_of_ble_eq_true rfl)
  rw [lg_entry_eq]
  generalize (lg_sl ([.ref a]) ++ List.replicate (2 - (lg_sl ([.ref a])).length) Slot.unset).toArray = ls at hl ⊢
  have hl : lv_has ls 2 [(0, .ref a)] := hl
  refine lv_aload_n hx hb dX3_restoreSnapshot_0 rfl (lv_at hl 0 rfl) ?_
  refine kx_iconst hx hb dX3_restoreSnapshot_1 ?_
  refine kx_put (v := .int (kI (0))) (C := RX3) (T := TX3) (N := 13) hx hb hts in_X3 hown hK hO_a rfl 7 (by decide) tyX3 tyX3_ok nmX3 hS (by first | rfl | exact Or.inl rfl | exact Or.inr rfl | exact Or.inr (Or.inl rfl) | exact Or.inr (Or.inr rfl) | exact Or.inr (Or.inr (Or.inl rfl)) | exact Or.inr (Or.inr (Or.inr rfl)) | ((try dsimp only); (try simp only [kNW]); omega)) q2245 (fun _ h9 => h9) rfl rfl rfl rfl (Nat.le_of_ble_eq_true rfl) dX3_restoreSnapshot_2 (fun H_3 locs_4 hO_2 hU_1 hS_5 => ?_)
  have hO_2 : kO D H_3 a 2 [.ref ra, .ref sa, .int (kI ((sn : Nat) : Int)), .ref ka, .int (kI (kb (false))), .ref ta, .int (kI ((tn : Nat) : Int)), .int (kI (0)), .int (kI (sp)), .int (kI (kb (iw))), .int (kI (le)), .int (kI (fi)), .int (kI (se))] := hO_2
  have hzu_6 := hU_1.1
  refine lv_aload_n hx hb dX3_restoreSnapshot_5 rfl (lv_at hl 0 rfl) ?_
  refine kx_get (v := .int (kI (kb (false)))) (C := RX3) (T := TX3) (N := 13) hx hb hts in_X3 hown hK hO_2 rfl 4 (by decide) q2242 (fun _ h9 => h9) rfl dX3_restoreSnapshot_6 ?_
  refine kx_ifnz (tgt := 18) hx hb dX3_restoreSnapshot_9 (by decide) (fun c_9_7 => ?_) (fun c_9_7 => ?_)
  · -- taken at 9
    exact absurd c_9_7 (by decide)
  · -- not taken at 9
    refine lv_aload_n hx hb dX3_restoreSnapshot_12 rfl (lv_at hl 0 rfl) ?_
    refine kx_iconst hx hb dX3_restoreSnapshot_13 ?_
    refine kx_ci (va_runV (As := [.int (kI (1))]) (rest := []) ⟨hx, hb, hml, hown, hts⟩ (m_X3_fails l D H_3 a ra sa ka ta sn false tn 0 sp iw le fi se 1 hO_2 (by first | assumption | omega)) (cwV 1 hts (lw_V q2455 q2457 qs64 q89 q2458) rfl rfl rfl (by decide +kernel) ⟨Nat.le_of_ble_eq_true rfl, Nat.le_of_ble_eq_true rfl⟩) (kx_pv hK hS_5 hB (kx_rc hK hO_2 (C := RX3) (T := TX3) (N := 13) rfl)) rfl rfl hl.1 rfl (lv_room (Nat.le_of_ble_eq_true rfl)) dX3_restoreSnapshot_14 ⟨by first | exact Nat.le_of_ble_eq_true rfl | omega | (show _ ≤ _; omega) | (dsimp only [headSpec]; omega), by first | exact Nat.le_of_ble_eq_true rfl | omega | (show _ ≤ _; omega) | (dsimp only [headSpec]; omega)⟩) hS_5 (fun q _ h => by (try dsimp only at h); (try dsimp only); (try simp only [kNW] at h); (try simp only [kNW]); omega) (fun q h => by (try dsimp only at h); (try dsimp only); (try simp only [kNW] at h); (try simp only [kNW]); omega) (fun z_13 H_11 locs_8 hz_10 hF_12 hS_9 => ?_)
    have hzf_14 := hF_12.1
    refine W.widen (k := 0) (n := 0) (Nat.le_of_ble_eq_true rfl) (Nat.le_of_ble_eq_true rfl) ?_
    obtain ⟨hv_15, ho_16⟩ := hz_10
    subst z_13
    exact kx_iret (z := 0) hx hb hr hlk (⟨by rfl, ho_16⟩) hS_9 dX3_restoreSnapshot_17

set_option maxHeartbeats 4000000 in
set_option maxRecDepth 100000 in
theorem m_X3_restoreSnapshot (l : Launch) (D : kG) (H : Heap) (a : Nat) (ra : Nat) (sa : Nat) (ka : Nat) (ta : Nat) (sn : Nat) (tn : Nat) (th : Int) (sp : Int) (iw : Bool) (le : Int) (fi : Int) (se : Int) (g : Nat → Int) (gs : Nat → Int) (S : Ls) (gap : Int) (hist : List Sg) (gk : Nat → Int) (Sk : Ls) (gapk : Int) (hO_a : kO D H a 2 [.ref ra, .ref sa, .int (kI ((sn : Nat) : Int)), .ref ka, .int (kI (kb (true))), .ref ta, .int (kI ((tn : Nat) : Int)), .int (kI (th)), .int (kI (sp)), .int (kI (kb (iw))), .int (kI (le)), .int (kI (fi)), .int (kI (se))]) (hA_ra : kAi D H ra 514 g) (hA_sa : kAi D H sa 2570 gs) (hA_ka : kAi D H ka 514 gk) (hM : MRow g S gap) (hok : LsOK S gap) (hH : MHist gs hist sn) (ne_a_ra : a ≠ ra) (ne_a_sa : a ≠ sa) (ne_ra_sa : ra ≠ sa) (bs_a : kBase D ≤ a) (bs_ra : kBase D ≤ ra) (bs_sa : kBase D ≤ sa) (ne_a_ka : a ≠ ka) (ne_ra_ka : ra ≠ ka) (ne_sa_ka : sa ≠ ka) (hMk : MRow gk Sk gapk) (hokk : LsOK Sk gapk) : Met l yX3_restoreSnapshot (ws_ yX3_restoreSnapshot cX3_restoreSnapshot 2 (some .int)) ({ frames := 1, cells := 0, slots := 0, locals := 21 } : Room) (kPre D H [.ref a]) (kQi (fun (r : Int) H' => ∃ (g2 : Nat → Int) (gs2 : Nat → Int) (sn2 : Nat), (r = ((Sk.length : Nat) : Int)) ∧ (kO D H' a 2 [.ref ra, .ref sa, .int (kI ((sn2 : Nat) : Int)), .ref ka, .int (kI (kb (true))), .ref ta, .int (kI ((tn : Nat) : Int)), .int (kI (0)), .int (kI (sp)), .int (kI (kb (iw))), .int (kI (le)), .int (kI (fi)), .int (kI (se))]) ∧ (kAi D H' ra 514 g2) ∧ (kAi D H' sa 2570 gs2) ∧ (kAi D H' ka 514 gk) ∧ (MRow g2 Sk gapk) ∧ (MHist gs2 (pushH hist (S, gap)) sn2)) (fun q : Nat => q = a ∨ q = ra ∨ q = sa)) (0) (0) ((fun q : Nat => q = a ∨ q = ra ∨ q = sa)) := by
  refine Met.ofW (cc := cX3_restoreSnapshot) (maxL := 2) (ret := (some .int)) (by decide) rfl ?_
  intro p e s m args below meth c s₁ B hml hv
  obtain ⟨rfl, hH, hK⟩ := hv
  subst hH
  have hx := B.exec
  have hb := B.bytes
  have hr := B.returns
  have hts := atoms_spec (ws := ws_ yX3_restoreSnapshot cX3_restoreSnapshot 2 (some .int)) B.pre
  have hts : ∀ w ∈ lw_all, w.before _ s = true := fun w h => hts w (List.mem_cons_of_mem _ h)
  have hown : s.vm.findClass RX3 = some m.cls := findClass_of_methodNamed B.named
  have hlk := B.notSynchronized
  have hS : va_S (fun q : Nat => q = a ∨ q = ra ∨ q = sa) s.heap s.heap [] := va_S.rf
  have hB : ∀ q, (fun q : Nat => q = a ∨ q = ra ∨ q = sa) q → kBase D ≤ q := fun q h => by (try dsimp only at h); (try simp only [kNW] at h); have hks := hK.size; omega
  have hl := lv_entry ([.ref a]) (n := 2) (Nat.le_of_ble_eq_true rfl)
  rw [lg_entry_eq]
  generalize (lg_sl ([.ref a]) ++ List.replicate (2 - (lg_sl ([.ref a])).length) Slot.unset).toArray = ls at hl ⊢
  have hl : lv_has ls 2 [(0, .ref a)] := hl
  have hsn5 := hH.2.1
  refine lv_aload_n hx hb dX3_restoreSnapshot_0 rfl (lv_at hl 0 rfl) ?_
  refine kx_iconst hx hb dX3_restoreSnapshot_1 ?_
  refine kx_put (v := .int (kI (0))) (C := RX3) (T := TX3) (N := 13) hx hb hts in_X3 hown hK hO_a rfl 7 (by decide) tyX3 tyX3_ok nmX3 hS (by first | rfl | exact Or.inl rfl | exact Or.inr rfl | exact Or.inr (Or.inl rfl) | exact Or.inr (Or.inr rfl) | exact Or.inr (Or.inr (Or.inl rfl)) | exact Or.inr (Or.inr (Or.inr rfl)) | ((try dsimp only); (try simp only [kNW]); omega)) q2245 (fun _ h9 => h9) rfl rfl rfl rfl (Nat.le_of_ble_eq_true rfl) dX3_restoreSnapshot_2 (fun H_3 locs_4 hO_2 hU_1 hS_5 => ?_)
  have hO_2 : kO D H_3 a 2 [.ref ra, .ref sa, .int (kI ((sn : Nat) : Int)), .ref ka, .int (kI (kb (true))), .ref ta, .int (kI ((tn : Nat) : Int)), .int (kI (0)), .int (kI (sp)), .int (kI (kb (iw))), .int (kI (le)), .int (kI (fi)), .int (kI (se))] := hO_2
  have hzu_6 := hU_1.1
  refine lv_aload_n hx hb dX3_restoreSnapshot_5 rfl (lv_at hl 0 rfl) ?_
  refine kx_get (v := .int (kI (kb (true)))) (C := RX3) (T := TX3) (N := 13) hx hb hts in_X3 hown hK hO_2 rfl 4 (by decide) q2242 (fun _ h9 => h9) rfl dX3_restoreSnapshot_6 ?_
  refine kx_ifnz (tgt := 18) hx hb dX3_restoreSnapshot_9 (by decide) (fun c_9_7 => ?_) (fun c_9_7 => ?_)
  · -- taken at 9
    refine lv_aload_n hx hb dX3_restoreSnapshot_18 rfl (lv_at hl 0 rfl) ?_
    have h_8 := hA_ra.up hU_1 (by first | assumption | exact Ne.symm (by assumption) | omega | (have h9 := hA_ra.lt; omega))
    have h_9 := hA_sa.up hU_1 (by first | assumption | exact Ne.symm (by assumption) | omega | (have h9 := hA_sa.lt; omega))
    refine kx_cv (va_runV (As := []) (rest := []) ⟨hx, hb, hml, hown, hts⟩ (m_X3_records l D H_3 a ra sa ka ta sn true tn 0 sp iw le fi se g gs hO_2 h_8 h_9 (by first | assumption | omega) (by first | assumption | omega) (by first | assumption | omega) (by first | assumption | omega) (by first | assumption | omega) (by first | assumption | omega)) (cwV 0 hts (lw_V q2383 q2385 qs56 q89 q2386) rfl rfl rfl (by decide +kernel) ⟨Nat.le_of_ble_eq_true rfl, Nat.le_of_ble_eq_true rfl⟩) (kx_pv hK hS_5 hB (kx_rc hK hO_2 (C := RX3) (T := TX3) (N := 13) rfl)) rfl rfl hl.1 rfl (lv_room (Nat.le_of_ble_eq_true rfl)) dX3_restoreSnapshot_19 ⟨by first | exact Nat.le_of_ble_eq_true rfl | omega | (show _ ≤ _; omega) | (dsimp only [headSpec]; omega), by first | exact Nat.le_of_ble_eq_true rfl | omega | (show _ ≤ _; omega) | (dsimp only [headSpec]; omega)⟩) hS_5 (fun q _ h => by (try dsimp only at h); (try dsimp only); (try simp only [kNW] at h); (try simp only [kNW]); omega) (fun q h => by (try dsimp only at h); (try dsimp only); (try simp only [kNW] at h); (try simp only [kNW]); omega) (fun H_13 locs_10 hz_12 hF_14 hS_11 => ?_)
    have hzf_16 := hF_14.1
    refine W.widen (k := 0) (n := 0) (Nat.le_of_ble_eq_true rfl) (Nat.le_of_ble_eq_true rfl) ?_
    obtain ⟨gs2_17, sn2_18, ho_19, ho_20, hs1, hs2, hs3⟩ := hz_12
    refine kx_iconst hx hb dX3_restoreSnapshot_22 ?_
    refine lv_istore_n (lv' := [(1, .int (kI (0))), (0, .ref a)]) hx hb dX3_restoreSnapshot_23 rfl hl (by decide) rfl (fun ls hl => ?_)
    have lp_24_x_21 : ∀ (n_24 : Nat) (k : Nat) (g1 : Nat → Int) (gs3 : Nat → Int) (sn3 : Nat) (H : Heap) (hO_a : kO D H a 2 [.ref ra, .ref sa, .int (kI ((sn3 : Nat) : Int)), .ref ka, .int (kI (kb (true))), .ref ta, .int (kI ((tn : Nat) : Int)), .int (kI (0)), .int (kI (sp)), .int (kI (kb (iw))), .int (kI (le)), .int (kI (fi)), .int (kI (se))]) (hA_ra : kAi D H ra 514 g1) (hA_sa : kAi D H sa 2570 gs3) (hA_ka : kAi D H ka 514 gk) (hk : k ≤ 514) (h1 : ∀ j, j < k → g1 j = gk j) (hH3 : MHist gs3 (pushH hist (S, gap)) sn3) (locs : List Loc) (hS : va_S (fun q : Nat => q = a ∨ q = ra ∨ q = sa) s.heap H locs) (hm_24 : 514 - k < n_24) (ls : Array Slot), lv_has ls 2 [(0, .ref a), (1, .int (kI ((k : Nat) : Int)))] → W p l e (headSpec (ws_ yX3_restoreSnapshot cX3_restoreSnapshot 2 (some .int)) ({ frames := 1, cells := 0, slots := 0, locals := 21 } : Room)).room s m ([.ref a] : List Value).toArray below meth c H locs (0) (0) (MQ below (kQi (fun (r : Int) H' => ∃ (g2 : Nat → Int) (gs2 : Nat → Int) (sn2 : Nat), (r = ((Sk.length : Nat) : Int)) ∧ (kO D H' a 2 [.ref ra, .ref sa, .int (kI ((sn2 : Nat) : Int)), .ref ka, .int (kI (kb (true))), .ref ta, .int (kI ((tn : Nat) : Int)), .int (kI (0)), .int (kI (sp)), .int (kI (kb (iw))), .int (kI (le)), .int (kI (fi)), .int (kI (se))]) ∧ (kAi D H' ra 514 g2) ∧ (kAi D H' sa 2570 gs2) ∧ (kAi D H' ka 514 gk) ∧ (MRow g2 Sk gapk) ∧ (MHist gs2 (pushH hist (S, gap)) sn2)) (fun q : Nat => q = a ∨ q = ra ∨ q = sa)) ([.ref a] : List Value).toArray s (0) (0) ((fun q : Nat => q = a ∨ q = ra ∨ q = sa))) (F0 m 24 ls []) := by
      intro n_24
      induction n_24 with
      | zero => intro k g1 gs3 sn3 H hO_a hA_ra hA_sa hA_ka hk h1 hH3 locs hS hm_24; exact absurd hm_24 (Nat.not_lt_zero _)
      | succ n_24 ih_24 =>
        intro k g1 gs3 sn3 H hO_a hA_ra hA_sa hA_ka hk h1 hH3 locs hS hm_24 ls hl
        refine lv_iload_n hx hb dX3_restoreSnapshot_24 rfl (lv_at hl 1 rfl) ?_
        refine kx_sipush hx hb (by decide) dX3_restoreSnapshot_25 ?_
        refine kx_icmp_ge (x := ((k : Nat) : Int)) (y := 514) (tgt := 49) hx hb dX3_restoreSnapshot_28 (by decide) (by omega) (by omega) (by omega) (by omega) (fun c_28_22 => ?_) (fun c_28_22 => ?_)
        · -- taken at 28
          refine lv_aload_n hx hb dX3_restoreSnapshot_49 rfl (lv_at hl 0 rfl) ?_
          refine kx_get (v := .ref ra) (C := RX3) (T := TX3) (N := 13) hx hb hts in_X3 hown hK hO_a rfl 0 (by decide) q2238 (fun _ h9 => h9) rfl dX3_restoreSnapshot_50 ?_
          refine kx_iconst hx hb dX3_restoreSnapshot_53 ?_
          refine kx_iald (i := 0) hx hb hK hA_ra 0 (rfl) (by omega) (by omega) dX3_restoreSnapshot_54 ?_
          refine kx_eqi (((Sk.length : Nat) : Int)) (by rw [h1 0 (by omega)]; exact hMk.len) ?_
          exact kx_iret (z := ((Sk.length : Nat) : Int)) hx hb hr hlk (⟨g1, gs3, sn3, by rfl, hO_a, hA_ra, hA_sa, hA_ka, by exact hMk.congr hokk.1 hokk.ns (fun j hj => h1 j (by omega)), by exact hH3⟩) hS dX3_restoreSnapshot_55
        · -- not taken at 28
          refine lv_aload_n hx hb dX3_restoreSnapshot_31 rfl (lv_at hl 0 rfl) ?_
          refine kx_get (v := .ref ra) (C := RX3) (T := TX3) (N := 13) hx hb hts in_X3 hown hK hO_a rfl 0 (by decide) q2238 (fun _ h9 => h9) rfl dX3_restoreSnapshot_32 ?_
          refine lv_iload_n hx hb dX3_restoreSnapshot_35 rfl (lv_at hl 1 rfl) ?_
          refine lv_aload_n hx hb dX3_restoreSnapshot_36 rfl (lv_at hl 0 rfl) ?_
          refine kx_get (v := .ref ka) (C := RX3) (T := TX3) (N := 13) hx hb hts in_X3 hown hK hO_a rfl 3 (by decide) q2241 (fun _ h9 => h9) rfl dX3_restoreSnapshot_37 ?_
          refine lv_iload_n hx hb dX3_restoreSnapshot_40 rfl (lv_at hl 1 rfl) ?_
          refine kx_iald (i := ((k : Nat) : Int)) hx hb hK hA_ka k (rfl) (by omega) (by omega) dX3_restoreSnapshot_41 ?_
          refine kx_iast (i := ((k : Nat) : Int)) (x := (gk k)) hx hb hK hA_ra hS (by first | rfl | exact Or.inl rfl | exact Or.inr rfl | exact Or.inr (Or.inl rfl) | exact Or.inr (Or.inr rfl) | exact Or.inr (Or.inr (Or.inl rfl)) | exact Or.inr (Or.inr (Or.inr rfl)) | ((try dsimp only); (try simp only [kNW]); omega)) k (rfl) (by omega) (by omega) dX3_restoreSnapshot_42 (fun H_25 locs_26 hA_24 hU_23 hS_27 => ?_)
          have hzu_28 := hU_23.1
          refine lv_iinc (v := kI (((k + 1 : Nat) : Int))) (lv' := [(1, .int (kI ((k + 1 : Nat) : Int))), (0, .ref a)]) hx hb dX3_restoreSnapshot_43 hl (k := 1) rfl (kI_incN _ _) (by decide) rfl (fun ls hl => ?_)
          refine lv_goto (tgt := 24) hx hb dX3_restoreSnapshot_46 (by decide) ?_
          have h_29 := hO_a.up hU_23 (by first | assumption | exact Ne.symm (by assumption) | omega | (have h9 := hO_a.lt; omega))
          have h_30 := hA_sa.up hU_23 (by first | assumption | exact Ne.symm (by assumption) | omega | (have h9 := hA_sa.lt; omega))
          have h_31 := hA_ka.up hU_23 (by first | assumption | exact Ne.symm (by assumption) | omega | (have h9 := hA_ka.lt; omega))
          exact ih_24  (k + 1) (kup g1 k ((gk k))) gs3 sn3 H_25 h_29 hA_24 h_30 h_31 (by first | assumption | omega | (simp_all; done) | grind) (fun j hj => by unfold kup; split <;> first | (rename_i z; rw [z]; done) | exact h1 j (by omega)) (hH3) _ hS_27 (by omega) ls (lv_sub hl [1, 0] rfl)
    have h_32 := h_8.fr hF_14 (fun h => by (try dsimp only at h); (try simp only [kNW] at h); omega)
    have h_33 := hA_ka.up hU_1 (by first | assumption | exact Ne.symm (by assumption) | omega | (have h9 := hA_ka.lt; omega))
    have h_34 := h_33.fr hF_14 (fun h => by (try dsimp only at h); (try simp only [kNW] at h); omega)
    exact lp_24_x_21 (514 - 0 + 1) 0 g gs2_17 sn2_18 H_13 ho_19 h_32 ho_20 h_34 (by first | assumption | omega | (simp_all; done) | grind) (fun j hj => absurd hj (Nat.not_lt_zero j)) (hH.push hok hM hs1 hs2 hs3) _ hS_11 (Nat.lt_succ_self _) ls (lv_sub hl [1, 0] rfl)
  · -- not taken at 9
    exact absurd c_9_7 (by decide)

set_option maxHeartbeats 4000000 in
set_option maxRecDepth 100000 in
theorem m_X3_init (l : Launch) (D : kG) (H : Heap) (a : Nat) (hO_a : kO D H a 2 [.null, .null, .int (kI (0)), .null, .int (kI (kb (false))), .null, .int (kI (0)), .int (kI (0)), .int (kI (0)), .int (kI (kb (false))), .int (kI (0)), .int (kI (0)), .int (kI (0))]) (bs_a : kBase D ≤ a) : Met l yX3_init (ws_ yX3_init cX3_init 1 none) ({ frames := 1, cells := 4, slots := 3658, locals := 20 } : Room) (kPre D H [.ref a]) (kQv (fun H' => ∃ (ra : Nat) (sa : Nat) (ka : Nat) (ta : Nat) (gs : Nat → Int) (gk : Nat → Int) (gt : Nat → Int) (g2 : Nat → Int), (kO D H' a 2 [.ref ra, .ref sa, .int (kI (0)), .ref ka, .int (kI (kb (false))), .ref ta, .int (kI (0)), .int (kI (0)), .int (kI (0)), .int (kI (kb (false))), .int (kI (0)), .int (kI (0)), .int (kI (0))]) ∧ (kAi D H' ra 514 g2) ∧ (kAi D H' sa 2570 gs) ∧ (kAi D H' ka 514 gk) ∧ (kAi D H' ta 60 gt) ∧ (MRow g2 [] 2) ∧ (((a ≠ ra ∧ a ≠ sa ∧ a ≠ ka ∧ a ≠ ta) ∧ ra ≠ sa ∧ ra ≠ ka ∧ ra ≠ ta) ∧ sa ≠ ka ∧ sa ≠ ta ∧ ka ≠ ta) ∧ (H.size ≤ ra ∧ H.size ≤ sa ∧ H.size ≤ ka ∧ H.size ≤ ta)) (fun q : Nat => q = a ∨ H.size ≤ q)) (4) (3658) ((fun q : Nat => q = a ∨ H.size ≤ q)) := by
  refine Met.ofW (cc := cX3_init) (maxL := 1) (ret := none) (by decide) rfl ?_
  intro p e s m args below meth c s₁ B hml hv
  obtain ⟨rfl, hH, hK⟩ := hv
  subst hH
  have hx := B.exec
  have hb := B.bytes
  have hr := B.returns
  have hts := atoms_spec (ws := ws_ yX3_init cX3_init 1 none) B.pre
  have hts : ∀ w ∈ lw_all, w.before _ s = true := fun w h => hts w (List.mem_cons_of_mem _ h)
  have hown : s.vm.findClass RX3 = some m.cls := findClass_of_methodNamed B.named
  have hlk := B.notSynchronized
  have hin : meth.name = "<init>" := (name_of_methodNamed B.named B.method).1
  have hS : va_S (fun q : Nat => q = a ∨ s.heap.size ≤ q) s.heap s.heap [] := va_S.rf
  have hB : ∀ q, (fun q : Nat => q = a ∨ s.heap.size ≤ q) q → kBase D ≤ q := fun q h => by (try dsimp only at h); (try simp only [kNW] at h); have hks := hK.size; omega
  have hl := lv_entry ([.ref a]) (n := 1) (Nat.le_of_ble_eq_true rfl)
  rw [lg_entry_eq]
  generalize (lg_sl ([.ref a]) ++ List.replicate (1 - (lg_sl ([.ref a])).length) Slot.unset).toArray = ls at hl ⊢
  have hl : lv_has ls 1 [(0, .ref a)] := hl
  have hlt0 := hO_a.lt
  refine lv_aload_n hx hb dX3_init_0 rfl (lv_at hl 0 rfl) ?_
  refine W.objInit hx hb hown (hts _ q2237) (hts _ q133) (hts _ q134) rfl (by rw [hml]; exact hl.1) rfl dX3_init_1 (Nat.le_of_ble_eq_true rfl) (Nat.le_of_ble_eq_true rfl) ?_
  refine W.eq (g2 := F0 m 4 ls []) rfl ?_
  refine lv_aload_n hx hb dX3_init_4 rfl (lv_at hl 0 rfl) ?_
  refine kx_sipush hx hb (by decide) dX3_init_5 ?_
  refine kx_newa (atype := .int) (ty := .int) (t := 0) (a0 := (514, .inl (fun j => kI ((fun _ => 0 : Nat → Int) j)))) (N' := 514) hx hb hts q332 rfl hK rfl (fun _ h => by cases h) hS (by first | rfl | omega) (by omega) (fun cA => rfl) (by first | decide | (simp only [componentBytes]; omega)) (by first | exact Nat.le_of_ble_eq_true rfl | omega | (show _ ≤ _; omega) | (dsimp only [headSpec]; omega)) (by first | exact Nat.le_of_ble_eq_true rfl | omega | (show _ ≤ _; omega) | (dsimp only [headSpec]; omega)) dX3_init_8 (fun na_1 H_2 hq_3 hz_4 hA_5 hE_6 hS_7 => ?_)
  have hge_na_1 : s.heap.size ≤ na_1 := by rw [hq_3]; exact hS.1
  refine W.widen (k := 1) (n := 514) (Nat.le_of_ble_eq_true rfl) (Nat.le_of_ble_eq_true rfl) ?_
  have h_8 := hO_a.ex hE_6
  refine kx_putF (v := .ref na_1) (C := RX3) (T := TX3) (N := 13) hx hb hts in_X3 hown hK h_8 rfl 0 (by decide) tyX3 tyX3_ok nmX3 hS_7 (by first | rfl | exact Or.inl rfl | exact Or.inr rfl | exact Or.inr (Or.inl rfl) | exact Or.inr (Or.inr rfl) | exact Or.inr (Or.inr (Or.inl rfl)) | exact Or.inr (Or.inr (Or.inr rfl)) | ((try dsimp only); (try simp only [kNW]); omega)) q2238 (fun _ h9 => h9) rfl hin rfl rfl rfl rfl (Nat.le_of_ble_eq_true rfl) dX3_init_10 (fun H_11 locs_12 hO_10 hU_9 hS_13 => ?_)
  have hO_10 : kO D H_11 a 2 [.ref na_1, .null, .int (kI (0)), .null, .int (kI (kb (false))), .null, .int (kI (0)), .int (kI (0)), .int (kI (0)), .int (kI (kb (false))), .int (kI (0)), .int (kI (0)), .int (kI (0))] := hO_10
  have hzu_14 := hU_9.1
  refine lv_aload_n hx hb dX3_init_13 rfl (lv_at hl 0 rfl) ?_
  refine kx_sipush hx hb (by decide) dX3_init_14 ?_
  refine kx_newa (atype := .int) (ty := .int) (t := 0) (a0 := (2570, .inl (fun j => kI ((fun _ => 0 : Nat → Int) j)))) (N' := 2570) hx hb hts q332 rfl hK rfl (fun _ h => by cases h) hS_13 (by first | rfl | omega) (by omega) (fun cA => rfl) (by first | decide | (simp only [componentBytes]; omega)) (by first | exact Nat.le_of_ble_eq_true rfl | omega | (show _ ≤ _; omega) | (dsimp only [headSpec]; omega)) (by first | exact Nat.le_of_ble_eq_true rfl | omega | (show _ ≤ _; omega) | (dsimp only [headSpec]; omega)) dX3_init_17 (fun na_15 H_16 hq_17 hz_18 hA_19 hE_20 hS_21 => ?_)
  have hge_na_15 : s.heap.size ≤ na_15 := by rw [hq_17]; exact hS_13.1
  refine W.widen (k := 2) (n := 3084) (Nat.le_of_ble_eq_true rfl) (Nat.le_of_ble_eq_true rfl) ?_
  have h_22 := hO_10.ex hE_20
  refine kx_putF (v := .ref na_15) (C := RX3) (T := TX3) (N := 13) hx hb hts in_X3 hown hK h_22 rfl 1 (by decide) tyX3 tyX3_ok nmX3 hS_21 (by first | rfl | exact Or.inl rfl | exact Or.inr rfl | exact Or.inr (Or.inl rfl) | exact Or.inr (Or.inr rfl) | exact Or.inr (Or.inr (Or.inl rfl)) | exact Or.inr (Or.inr (Or.inr rfl)) | ((try dsimp only); (try simp only [kNW]); omega)) q2239 (fun _ h9 => h9) rfl hin rfl rfl rfl rfl (Nat.le_of_ble_eq_true rfl) dX3_init_19 (fun H_25 locs_26 hO_24 hU_23 hS_27 => ?_)
  have hO_24 : kO D H_25 a 2 [.ref na_1, .ref na_15, .int (kI (0)), .null, .int (kI (kb (false))), .null, .int (kI (0)), .int (kI (0)), .int (kI (0)), .int (kI (kb (false))), .int (kI (0)), .int (kI (0)), .int (kI (0))] := hO_24
  have hzu_28 := hU_23.1
  refine lv_aload_n hx hb dX3_init_22 rfl (lv_at hl 0 rfl) ?_
  refine kx_sipush hx hb (by decide) dX3_init_23 ?_
  refine kx_newa (atype := .int) (ty := .int) (t := 0) (a0 := (514, .inl (fun j => kI ((fun _ => 0 : Nat → Int) j)))) (N' := 514) hx hb hts q332 rfl hK rfl (fun _ h => by cases h) hS_27 (by first | rfl | omega) (by omega) (fun cA => rfl) (by first | decide | (simp only [componentBytes]; omega)) (by first | exact Nat.le_of_ble_eq_true rfl | omega | (show _ ≤ _; omega) | (dsimp only [headSpec]; omega)) (by first | exact Nat.le_of_ble_eq_true rfl | omega | (show _ ≤ _; omega) | (dsimp only [headSpec]; omega)) dX3_init_26 (fun na_29 H_30 hq_31 hz_32 hA_33 hE_34 hS_35 => ?_)
  have hge_na_29 : s.heap.size ≤ na_29 := by rw [hq_31]; exact hS_27.1
  refine W.widen (k := 3) (n := 3598) (Nat.le_of_ble_eq_true rfl) (Nat.le_of_ble_eq_true rfl) ?_
  have h_36 := hO_24.ex hE_34
  refine kx_putF (v := .ref na_29) (C := RX3) (T := TX3) (N := 13) hx hb hts in_X3 hown hK h_36 rfl 3 (by decide) tyX3 tyX3_ok nmX3 hS_35 (by first | rfl | exact Or.inl rfl | exact Or.inr rfl | exact Or.inr (Or.inl rfl) | exact Or.inr (Or.inr rfl) | exact Or.inr (Or.inr (Or.inl rfl)) | exact Or.inr (Or.inr (Or.inr rfl)) | ((try dsimp only); (try simp only [kNW]); omega)) q2241 (fun _ h9 => h9) rfl hin rfl rfl rfl rfl (Nat.le_of_ble_eq_true rfl) dX3_init_28 (fun H_39 locs_40 hO_38 hU_37 hS_41 => ?_)
  have hO_38 : kO D H_39 a 2 [.ref na_1, .ref na_15, .int (kI (0)), .ref na_29, .int (kI (kb (false))), .null, .int (kI (0)), .int (kI (0)), .int (kI (0)), .int (kI (kb (false))), .int (kI (0)), .int (kI (0)), .int (kI (0))] := hO_38
  have hzu_42 := hU_37.1
  refine lv_aload_n hx hb dX3_init_31 rfl (lv_at hl 0 rfl) ?_
  refine kx_bipush hx hb (by decide) dX3_init_32 ?_
  refine kx_newa (atype := .int) (ty := .int) (t := 0) (a0 := (60, .inl (fun j => kI ((fun _ => 0 : Nat → Int) j)))) (N' := 60) hx hb hts q332 rfl hK rfl (fun _ h => by cases h) hS_41 (by first | rfl | omega) (by omega) (fun cA => rfl) (by first | decide | (simp only [componentBytes]; omega)) (by first | exact Nat.le_of_ble_eq_true rfl | omega | (show _ ≤ _; omega) | (dsimp only [headSpec]; omega)) (by first | exact Nat.le_of_ble_eq_true rfl | omega | (show _ ≤ _; omega) | (dsimp only [headSpec]; omega)) dX3_init_34 (fun na_43 H_44 hq_45 hz_46 hA_47 hE_48 hS_49 => ?_)
  have hge_na_43 : s.heap.size ≤ na_43 := by rw [hq_45]; exact hS_41.1
  refine W.widen (k := 4) (n := 3658) (Nat.le_of_ble_eq_true rfl) (Nat.le_of_ble_eq_true rfl) ?_
  have h_50 := hO_38.ex hE_48
  refine kx_putF (v := .ref na_43) (C := RX3) (T := TX3) (N := 13) hx hb hts in_X3 hown hK h_50 rfl 5 (by decide) tyX3 tyX3_ok nmX3 hS_49 (by first | rfl | exact Or.inl rfl | exact Or.inr rfl | exact Or.inr (Or.inl rfl) | exact Or.inr (Or.inr rfl) | exact Or.inr (Or.inr (Or.inl rfl)) | exact Or.inr (Or.inr (Or.inr rfl)) | ((try dsimp only); (try simp only [kNW]); omega)) q2243 (fun _ h9 => h9) rfl hin rfl rfl rfl rfl (Nat.le_of_ble_eq_true rfl) dX3_init_36 (fun H_53 locs_54 hO_52 hU_51 hS_55 => ?_)
  have hO_52 : kO D H_53 a 2 [.ref na_1, .ref na_15, .int (kI (0)), .ref na_29, .int (kI (kb (false))), .ref na_43, .int (kI (0)), .int (kI (0)), .int (kI (0)), .int (kI (kb (false))), .int (kI (0)), .int (kI (0)), .int (kI (0))] := hO_52
  have hzu_56 := hU_51.1
  refine lv_aload_n hx hb dX3_init_39 rfl (lv_at hl 0 rfl) ?_
  refine kx_get (v := .ref na_1) (C := RX3) (T := TX3) (N := 13) hx hb hts in_X3 hown hK hO_52 rfl 0 (by decide) q2238 (fun _ h9 => h9) rfl dX3_init_40 ?_
  refine kx_iconst hx hb dX3_init_43 ?_
  refine kx_iconst hx hb dX3_init_44 ?_
  have h_57 := hA_5.up hU_9 (by first | assumption | exact Ne.symm (by assumption) | omega | (have h9 := hA_5.lt; omega))
  have h_58 := h_57.ex hE_20
  have h_59 := h_58.up hU_23 (by first | assumption | exact Ne.symm (by assumption) | omega | (have h9 := h_58.lt; omega))
  have h_60 := h_59.ex hE_34
  have h_61 := h_60.up hU_37 (by first | assumption | exact Ne.symm (by assumption) | omega | (have h9 := h_60.lt; omega))
  have h_62 := h_61.ex hE_48
  have h_63 := h_62.up hU_51 (by first | assumption | exact Ne.symm (by assumption) | omega | (have h9 := h_62.lt; omega))
  refine kx_iast (i := 1) (x := 2) hx hb hK h_63 hS_55 (by have := hS.1; first | (show _ ≤ _; omega) | omega) 1 (rfl) (by omega) (by omega) dX3_init_45 (fun H_66 locs_67 hA_65 hU_64 hS_68 => ?_)
  have hzu_69 := hU_64.1
  have h_70 := hO_52.up hU_64 (by first | assumption | exact Ne.symm (by assumption) | omega | (have h9 := hO_52.lt; omega))
  have h_71 := hA_19.up hU_23 (by first | assumption | exact Ne.symm (by assumption) | omega | (have h9 := hA_19.lt; omega))
  have h_72 := h_71.ex hE_34
  have h_73 := h_72.up hU_37 (by first | assumption | exact Ne.symm (by assumption) | omega | (have h9 := h_72.lt; omega))
  have h_74 := h_73.ex hE_48
  have h_75 := h_74.up hU_51 (by first | assumption | exact Ne.symm (by assumption) | omega | (have h9 := h_74.lt; omega))
  have h_76 := h_75.up hU_64 (by first | assumption | exact Ne.symm (by assumption) | omega | (have h9 := h_75.lt; omega))
  have h_77 := hA_33.up hU_37 (by first | assumption | exact Ne.symm (by assumption) | omega | (have h9 := hA_33.lt; omega))
  have h_78 := h_77.ex hE_48
  have h_79 := h_78.up hU_51 (by first | assumption | exact Ne.symm (by assumption) | omega | (have h9 := h_78.lt; omega))
  have h_80 := h_79.up hU_64 (by first | assumption | exact Ne.symm (by assumption) | omega | (have h9 := h_79.lt; omega))
  have h_81 := hA_47.up hU_51 (by first | assumption | exact Ne.symm (by assumption) | omega | (have h9 := hA_47.lt; omega))
  have h_82 := h_81.up hU_64 (by first | assumption | exact Ne.symm (by assumption) | omega | (have h9 := h_81.lt; omega))
  exact kx_vret hx hb hr hlk (⟨na_1, na_15, na_29, na_43, ((fun _ => 0)), ((fun _ => 0)), ((fun _ => 0)), (kup ((fun _ => 0)) 1 2), h_70, hA_65, h_76, h_80, h_82, by exact ⟨rfl, rfl, fun k hk => absurd hk (Nat.not_lt_zero k)⟩, by first | assumption | rfl | omega | grind, by first | assumption | rfl | omega | grind⟩) hS_68 dX3_init_46

