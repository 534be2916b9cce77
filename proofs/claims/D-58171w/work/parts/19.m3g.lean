/-! MATH 8: what the looks answer -/
def ln_left (L : Ln) : Bool := decide (ln_lb L ≠ -1) && decide (ln_pos L ((ln_lb L).toNat + ln_size L - 1) % 24 < ln_pos L (ln_lb L).toNat % 24)
def st_placesTo (S : Ls) (gap : Int) (l : Nat) : Nat → Int
  | 0 => 0
  | k + 1 => st_placesTo S gap l k + (if st_whyL S gap l k = 0 then 1 else 0)
def st_places (S : Ls) (gap : Int) (l : Nat) : Int := st_placesTo S gap l (ln_n (st_ln S l) + 1)
def st_ptsTo (S : Ls) (l : Nat) : Nat → Int
  | 0 => 0
  | k + 1 => st_ptsTo S l k + (if st_cont S l (k : Int) = true then 1 else 0)
def st_steady (S : Ls) (l : Nat) : Bool := decide (st_round S l = -1) || decide (apart (ln_lv (st_ln S l)) (ln_lv (st_ln S (st_round S l).toNat)) = 5)
def st_nearIn (S : Ls) (gap : Int) (i : Nat) (acc : Int) : Nat → Int
  | 0 => acc
  | j + 1 => st_nearIn S gap i acc j + (if ln_lb (st_ln S i) ≠ -1 ∧ ln_lb (st_ln S j) ≠ -1 ∧ between (st_ln S i) (ln_lb (st_ln S i)).toNat (st_ln S j) (ln_lb (st_ln S j)).toNat < gap then 1 else 0)
def st_nearTo (S : Ls) (gap : Int) : Nat → Int
  | 0 => 0
  | i + 1 => st_nearIn S gap i (st_nearTo S gap i) i
def st_near (S : Ls) (gap : Int) : Int := st_nearTo S gap S.length
set_option maxHeartbeats 4000000 in
set_option maxRecDepth 100000 in
theorem m_X3_knows (l : Launch) (D : kG) (H : Heap) (a : Nat) (ra : Nat) (sa : Nat) (ka : Nat) (ta : Nat) (sn : Nat) (ik : Bool) (tn : Nat) (th : Int) (sp : Int) (iw : Bool) (le : Int) (fi : Int) (se : Int) (g : Nat → Int) (S : Ls) (gap : Int) (ln : Nat) (hO_a : kO D H a 2 [.ref ra, .ref sa, .int (kI ((sn : Nat) : Int)), .ref ka, .int (kI (kb (ik))), .ref ta, .int (kI ((tn : Nat) : Int)), .int (kI (th)), .int (kI (sp)), .int (kI (kb (iw))), .int (kI (le)), .int (kI (fi)), .int (kI (se))]) (hA_ra : kAi D H ra 514 g) (hM : MRow g S gap) (hok : LsOK S gap) (ne_a_ra : a ≠ ra) (bs_a : kBase D ≤ a) (hln : ln < S.length) : Met l yX3_knows (ws_ yX3_knows cX3_knows 2 (some .boolean)) ({ frames := 2, cells := 0, slots := 0, locals := 43 } : Room) (kPre D H [.ref a, .int (kI ((ln : Nat) : Int))]) (kQb (fun (r : Bool) H' => (r = true) ∧ (kO D H' a 2 [.ref ra, .ref sa, .int (kI ((sn : Nat) : Int)), .ref ka, .int (kI (kb (ik))), .ref ta, .int (kI ((tn : Nat) : Int)), .int (kI (0)), .int (kI (sp)), .int (kI (kb (iw))), .int (kI (le)), .int (kI (fi)), .int (kI (se))])) (fun q : Nat => q = a)) (0) (0) ((fun q : Nat => q = a)) := by
  refine Met.ofW (cc := cX3_knows) (maxL := 2) (ret := (some .boolean)) (by decide) rfl ?_
  intro p e s m args below meth c s₁ B hml hv
  obtain ⟨rfl, hH, hK⟩ := hv
  subst hH
  have hx := B.exec
  have hb := B.bytes
  have hr := B.returns
  have hts := atoms_spec (ws := ws_ yX3_knows cX3_knows 2 (some .boolean)) B.pre
  have hts : ∀ w ∈ lw_all, w.before _ s = true := fun w h => hts w (List.mem_cons_of_mem _ h)
  have hown : s.vm.findClass RX3 = some m.cls := findClass_of_methodNamed B.named
  have hlk := B.notSynchronized
  have hS : va_S (fun q : Nat => q = a) s.heap s.heap [] := va_S.rf
  have hB : ∀ q, (fun q : Nat => q = a) q → kBase D ≤ q := fun q h => by (try dsimp only at h); (try simp only [kNW] at h); have hks := hK.size; omega
  have hl := lv_entry ([.ref a, .int (kI ((ln : Nat) : Int))]) (n := 2) (Nat.le_of_ble_eq_true rfl)
  rw [lg_entry_eq]
  generalize (lg_sl ([.ref a, .int (kI ((ln : Nat) : Int))]) ++ List.replicate (2 - (lg_sl ([.ref a, .int (kI ((ln : Nat) : Int))])).length) Slot.unset).toArray = ls at hl ⊢
  have hl : lv_has ls 2 [(0, .ref a), (1, .int (kI ((ln : Nat) : Int)))] := hl
  have hL8 := hok.1
  have hlen := hM.len
  refine lv_aload_n hx hb dX3_knows_0 rfl (lv_at hl 0 rfl) ?_
  refine lv_aload_n hx hb dX3_knows_1 rfl (lv_at hl 0 rfl) ?_
  refine lv_iload_n hx hb dX3_knows_2 rfl (lv_at hl 1 rfl) ?_
  refine kx_cb0 (va_runV (As := [.int (kI ((ln : Nat) : Int))]) (rest := [.ref a]) ⟨hx, hb, hml, hown, hts⟩ (m_X3_isLine l D s.heap a ([.ref ra, .ref sa, .int (kI ((sn : Nat) : Int)), .ref ka, .int (kI (kb (ik))), .ref ta, .int (kI ((tn : Nat) : Int)), .int (kI (th)), .int (kI (sp)), .int (kI (kb (iw))), .int (kI (le)), .int (kI (fi)), .int (kI (se))]) ra g S gap ((ln : Int)) hO_a rfl hA_ra (by first | assumption | omega) (by first | assumption | omega) (by first | assumption | omega)) (cwV 1 hts (lw_V q2314 q2316 qs41 q89 q2317) rfl rfl rfl (by decide +kernel) ⟨Nat.le_of_ble_eq_true rfl, Nat.le_of_ble_eq_true rfl⟩) (kx_pv hK hS hB (kx_rc hK hO_a (C := RX3) (T := TX3) (N := 13) rfl)) rfl rfl hl.1 rfl (lv_room (Nat.le_of_ble_eq_true rfl)) dX3_knows_3 ⟨by first | exact Nat.le_of_ble_eq_true rfl | omega | (show _ ≤ _; omega) | (dsimp only [headSpec]; omega), by first | exact Nat.le_of_ble_eq_true rfl | omega | (show _ ≤ _; omega) | (dsimp only [headSpec]; omega)⟩) hS (fun z_4 locs_1 hz_3 hS_2 => ?_)
  subst z_4
  refine kx_ifz (tgt := 13) hx hb dX3_knows_6 (by decide) (fun c_6_5 => ?_) (fun c_6_5 => ?_)
  · -- taken at 6
    have c_6_5 := of_decide_eq_false c_6_5
    exfalso; omega
  · -- not taken at 6
    have c_6_5 := of_decide_eq_true c_6_5
    refine kx_iconst hx hb dX3_knows_9 ?_
    refine lv_goto (tgt := 14) hx hb dX3_knows_10 (by decide) ?_
    refine kx_put (v := .int (kI (0))) (C := RX3) (T := TX3) (N := 13) hx hb hts in_X3 hown hK hO_a rfl 7 (by decide) tyX3 tyX3_ok nmX3 hS_2 (by first | rfl | exact Or.inl rfl | exact Or.inr rfl | exact Or.inr (Or.inl rfl) | exact Or.inr (Or.inr rfl) | exact Or.inr (Or.inr (Or.inl rfl)) | exact Or.inr (Or.inr (Or.inr rfl)) | ((try dsimp only); (try simp only [kNW]); omega)) q2245 (fun _ h9 => h9) rfl rfl rfl rfl (Nat.le_of_ble_eq_true rfl) dX3_knows_14 (fun H_8 locs_9 hO_7 hU_6 hS_10 => ?_)
    have hO_7 : kO D H_8 a 2 [.ref ra, .ref sa, .int (kI ((sn : Nat) : Int)), .ref ka, .int (kI (kb (ik))), .ref ta, .int (kI ((tn : Nat) : Int)), .int (kI (0)), .int (kI (sp)), .int (kI (kb (iw))), .int (kI (le)), .int (kI (fi)), .int (kI (se))] := hO_7
    refine lv_aload_n hx hb dX3_knows_17 rfl (lv_at hl 0 rfl) ?_
    refine kx_get (v := .int (kI (0))) (C := RX3) (T := TX3) (N := 13) hx hb hts in_X3 hown hK hO_7 rfl 7 (by decide) q2245 (fun _ h9 => h9) rfl dX3_knows_18 ?_
    refine kx_if_ne (x := 0) (tgt := 28) hx hb dX3_knows_21 (by decide) (by omega) (by omega) (fun c_21_11 => ?_) (fun c_21_11 => ?_)
    · -- taken at 21
      exfalso; omega
    · -- not taken at 21
      refine kx_iconst hx hb dX3_knows_24 ?_
      refine lv_goto (tgt := 29) hx hb dX3_knows_25 (by decide) ?_
      exact kx_zret (z := true) hx hb hr hlk (⟨by rfl, hO_7⟩) hS_10 dX3_knows_29

set_option maxHeartbeats 4000000 in
set_option maxRecDepth 100000 in
theorem m_X3_knows_no (l : Launch) (D : kG) (H : Heap) (a : Nat) (ra : Nat) (sa : Nat) (ka : Nat) (ta : Nat) (sn : Nat) (ik : Bool) (tn : Nat) (th : Int) (sp : Int) (iw : Bool) (le : Int) (fi : Int) (se : Int) (g : Nat → Int) (S : Ls) (gap : Int) (x : Int) (hO_a : kO D H a 2 [.ref ra, .ref sa, .int (kI ((sn : Nat) : Int)), .ref ka, .int (kI (kb (ik))), .ref ta, .int (kI ((tn : Nat) : Int)), .int (kI (th)), .int (kI (sp)), .int (kI (kb (iw))), .int (kI (le)), .int (kI (fi)), .int (kI (se))]) (hA_ra : kAi D H ra 514 g) (hM : MRow g S gap) (hok : LsOK S gap) (ne_a_ra : a ≠ ra) (bs_a : kBase D ≤ a) (hr_x : -2147483648 ≤ x ∧ x ≤ 2147483647) (hno : ¬ (0 ≤ x ∧ x < S.length)) : Met l yX3_knows (ws_ yX3_knows cX3_knows 2 (some .boolean)) ({ frames := 2, cells := 0, slots := 0, locals := 43 } : Room) (kPre D H [.ref a, .int (kI (x))]) (kQb (fun (r : Bool) H' => (r = false) ∧ (kO D H' a 2 [.ref ra, .ref sa, .int (kI ((sn : Nat) : Int)), .ref ka, .int (kI (kb (ik))), .ref ta, .int (kI ((tn : Nat) : Int)), .int (kI (1)), .int (kI (sp)), .int (kI (kb (iw))), .int (kI (le)), .int (kI (fi)), .int (kI (se))])) (fun q : Nat => q = a)) (0) (0) ((fun q : Nat => q = a)) := by
  refine Met.ofW (cc := cX3_knows) (maxL := 2) (ret := (some .boolean)) (by decide) rfl ?_
  intro p e s m args below meth c s₁ B hml hv
  obtain ⟨rfl, hH, hK⟩ := hv
  subst hH
  have hx := B.exec
  have hb := B.bytes
  have hr := B.returns
  have hts := atoms_spec (ws := ws_ yX3_knows cX3_knows 2 (some .boolean)) B.pre
  have hts : ∀ w ∈ lw_all, w.before _ s = true := fun w h => hts w (List.mem_cons_of_mem _ h)
  have hown : s.vm.findClass RX3 = some m.cls := findClass_of_methodNamed B.named
  have hlk := B.notSynchronized
  have hS : va_S (fun q : Nat => q = a) s.heap s.heap [] := va_S.rf
  have hB : ∀ q, (fun q : Nat => q = a) q → kBase D ≤ q := fun q h => by (try dsimp only at h); (try simp only [kNW] at h); have hks := hK.size; omega
  have hl := lv_entry ([.ref a, .int (kI (x))]) (n := 2) (Nat.le_of_ble_eq_true rfl)
  rw [lg_entry_eq]
  generalize (lg_sl ([.ref a, .int (kI (x))]) ++ List.replicate (2 - (lg_sl ([.ref a, .int (kI (x))])).length) Slot.unset).toArray = ls at hl ⊢
  have hl : lv_has ls 2 [(0, .ref a), (1, .int (kI (x)))] := hl
  have hL8 := hok.1
  have hlen := hM.len
  refine lv_aload_n hx hb dX3_knows_0 rfl (lv_at hl 0 rfl) ?_
  refine lv_aload_n hx hb dX3_knows_1 rfl (lv_at hl 0 rfl) ?_
  refine lv_iload_n hx hb dX3_knows_2 rfl (lv_at hl 1 rfl) ?_
  refine kx_cb0 (va_runV (As := [.int (kI (x))]) (rest := [.ref a]) ⟨hx, hb, hml, hown, hts⟩ (m_X3_isLine l D s.heap a ([.ref ra, .ref sa, .int (kI ((sn : Nat) : Int)), .ref ka, .int (kI (kb (ik))), .ref ta, .int (kI ((tn : Nat) : Int)), .int (kI (th)), .int (kI (sp)), .int (kI (kb (iw))), .int (kI (le)), .int (kI (fi)), .int (kI (se))]) ra g S gap x hO_a rfl hA_ra (by first | assumption | omega) (by first | assumption | omega) (by first | assumption | omega)) (cwV 1 hts (lw_V q2314 q2316 qs41 q89 q2317) rfl rfl rfl (by decide +kernel) ⟨Nat.le_of_ble_eq_true rfl, Nat.le_of_ble_eq_true rfl⟩) (kx_pv hK hS hB (kx_rc hK hO_a (C := RX3) (T := TX3) (N := 13) rfl)) rfl rfl hl.1 rfl (lv_room (Nat.le_of_ble_eq_true rfl)) dX3_knows_3 ⟨by first | exact Nat.le_of_ble_eq_true rfl | omega | (show _ ≤ _; omega) | (dsimp only [headSpec]; omega), by first | exact Nat.le_of_ble_eq_true rfl | omega | (show _ ≤ _; omega) | (dsimp only [headSpec]; omega)⟩) hS (fun z_4 locs_1 hz_3 hS_2 => ?_)
  subst z_4
  refine kx_ifz (tgt := 13) hx hb dX3_knows_6 (by decide) (fun c_6_5 => ?_) (fun c_6_5 => ?_)
  · -- taken at 6
    have c_6_5 := of_decide_eq_false c_6_5
    refine kx_iconst hx hb dX3_knows_13 ?_
    refine kx_put (v := .int (kI (1))) (C := RX3) (T := TX3) (N := 13) hx hb hts in_X3 hown hK hO_a rfl 7 (by decide) tyX3 tyX3_ok nmX3 hS_2 (by first | rfl | exact Or.inl rfl | exact Or.inr rfl | exact Or.inr (Or.inl rfl) | exact Or.inr (Or.inr rfl) | exact Or.inr (Or.inr (Or.inl rfl)) | exact Or.inr (Or.inr (Or.inr rfl)) | ((try dsimp only); (try simp only [kNW]); omega)) q2245 (fun _ h9 => h9) rfl rfl rfl rfl (Nat.le_of_ble_eq_true rfl) dX3_knows_14 (fun H_8 locs_9 hO_7 hU_6 hS_10 => ?_)
    have hO_7 : kO D H_8 a 2 [.ref ra, .ref sa, .int (kI ((sn : Nat) : Int)), .ref ka, .int (kI (kb (ik))), .ref ta, .int (kI ((tn : Nat) : Int)), .int (kI (1)), .int (kI (sp)), .int (kI (kb (iw))), .int (kI (le)), .int (kI (fi)), .int (kI (se))] := hO_7
    refine lv_aload_n hx hb dX3_knows_17 rfl (lv_at hl 0 rfl) ?_
    refine kx_get (v := .int (kI (1))) (C := RX3) (T := TX3) (N := 13) hx hb hts in_X3 hown hK hO_7 rfl 7 (by decide) q2245 (fun _ h9 => h9) rfl dX3_knows_18 ?_
    refine kx_if_ne (x := 1) (tgt := 28) hx hb dX3_knows_21 (by decide) (by omega) (by omega) (fun c_21_11 => ?_) (fun c_21_11 => ?_)
    · -- taken at 21
      refine kx_iconst hx hb dX3_knows_28 ?_
      exact kx_zret (z := false) hx hb hr hlk (⟨by rfl, hO_7⟩) hS_10 dX3_knows_29
    · -- not taken at 21
      exfalso; omega
  · -- not taken at 6
    have c_6_5 := of_decide_eq_true c_6_5
    exfalso; omega

set_option maxHeartbeats 4000000 in
set_option maxRecDepth 100000 in
theorem m_X3_has (l : Launch) (D : kG) (H : Heap) (a : Nat) (ra : Nat) (sa : Nat) (ka : Nat) (ta : Nat) (sn : Nat) (ik : Bool) (tn : Nat) (th : Int) (sp : Int) (iw : Bool) (le : Int) (fi : Int) (se : Int) (g : Nat → Int) (S : Ls) (gap : Int) (ln : Nat) (k : Nat) (hO_a : kO D H a 2 [.ref ra, .ref sa, .int (kI ((sn : Nat) : Int)), .ref ka, .int (kI (kb (ik))), .ref ta, .int (kI ((tn : Nat) : Int)), .int (kI (th)), .int (kI (sp)), .int (kI (kb (iw))), .int (kI (le)), .int (kI (fi)), .int (kI (se))]) (hA_ra : kAi D H ra 514 g) (hM : MRow g S gap) (hok : LsOK S gap) (ne_a_ra : a ≠ ra) (bs_a : kBase D ≤ a) (hln : ln < S.length) (hk : k ≤ ln_n (st_ln S ln)) : Met l yX3_has (ws_ yX3_has cX3_has 3 (some .boolean)) ({ frames := 2, cells := 0, slots := 0, locals := 43 } : Room) (kPre D H [.ref a, .int (kI ((ln : Nat) : Int)), .int (kI ((k : Nat) : Int))]) (kQb (fun (r : Bool) H' => (r = true) ∧ (kO D H' a 2 [.ref ra, .ref sa, .int (kI ((sn : Nat) : Int)), .ref ka, .int (kI (kb (ik))), .ref ta, .int (kI ((tn : Nat) : Int)), .int (kI (0)), .int (kI (sp)), .int (kI (kb (iw))), .int (kI (le)), .int (kI (fi)), .int (kI (se))])) (fun q : Nat => q = a)) (0) (0) ((fun q : Nat => q = a)) := by
  refine Met.ofW (cc := cX3_has) (maxL := 3) (ret := (some .boolean)) (by decide) rfl ?_
  intro p e s m args below meth c s₁ B hml hv
  obtain ⟨rfl, hH, hK⟩ := hv
  subst hH
  have hx := B.exec
  have hb := B.bytes
  have hr := B.returns
  have hts := atoms_spec (ws := ws_ yX3_has cX3_has 3 (some .boolean)) B.pre
  have hts : ∀ w ∈ lw_all, w.before _ s = true := fun w h => hts w (List.mem_cons_of_mem _ h)
  have hown : s.vm.findClass RX3 = some m.cls := findClass_of_methodNamed B.named
  have hlk := B.notSynchronized
  have hS : va_S (fun q : Nat => q = a) s.heap s.heap [] := va_S.rf
  have hB : ∀ q, (fun q : Nat => q = a) q → kBase D ≤ q := fun q h => by (try dsimp only at h); (try simp only [kNW] at h); have hks := hK.size; omega
  have hl := lv_entry ([.ref a, .int (kI ((ln : Nat) : Int)), .int (kI ((k : Nat) : Int))]) (n := 3) (Nat.le_of_ble_eq_true rfl)
  rw [lg_entry_eq]
  generalize (lg_sl ([.ref a, .int (kI ((ln : Nat) : Int)), .int (kI ((k : Nat) : Int))]) ++ List.replicate (3 - (lg_sl ([.ref a, .int (kI ((ln : Nat) : Int)), .int (kI ((k : Nat) : Int))])).length) Slot.unset).toArray = ls at hl ⊢
  have hl : lv_has ls 3 [(0, .ref a), (1, .int (kI ((ln : Nat) : Int))), (2, .int (kI ((k : Nat) : Int)))] := hl
  have hL := hok.ln hln
  have hL60 := hL.n
  have hL8 := hok.1
  have hlen := hM.len
  refine lv_aload_n hx hb dX3_has_0 rfl (lv_at hl 0 rfl) ?_
  refine lv_aload_n hx hb dX3_has_1 rfl (lv_at hl 0 rfl) ?_
  refine lv_iload_n hx hb dX3_has_2 rfl (lv_at hl 1 rfl) ?_
  refine kx_cb0 (va_runV (As := [.int (kI ((ln : Nat) : Int))]) (rest := [.ref a]) ⟨hx, hb, hml, hown, hts⟩ (m_X3_isLine l D s.heap a ([.ref ra, .ref sa, .int (kI ((sn : Nat) : Int)), .ref ka, .int (kI (kb (ik))), .ref ta, .int (kI ((tn : Nat) : Int)), .int (kI (th)), .int (kI (sp)), .int (kI (kb (iw))), .int (kI (le)), .int (kI (fi)), .int (kI (se))]) ra g S gap ((ln : Int)) hO_a rfl hA_ra (by first | assumption | omega) (by first | assumption | omega) (by first | assumption | omega)) (cwV 1 hts (lw_V q2314 q2316 qs41 q89 q2317) rfl rfl rfl (by decide +kernel) ⟨Nat.le_of_ble_eq_true rfl, Nat.le_of_ble_eq_true rfl⟩) (kx_pv hK hS hB (kx_rc hK hO_a (C := RX3) (T := TX3) (N := 13) rfl)) rfl rfl hl.1 rfl (lv_room (Nat.le_of_ble_eq_true rfl)) dX3_has_3 ⟨by first | exact Nat.le_of_ble_eq_true rfl | omega | (show _ ≤ _; omega) | (dsimp only [headSpec]; omega), by first | exact Nat.le_of_ble_eq_true rfl | omega | (show _ ≤ _; omega) | (dsimp only [headSpec]; omega)⟩) hS (fun z_4 locs_1 hz_3 hS_2 => ?_)
  subst z_4
  refine kx_ifz (tgt := 27) hx hb dX3_has_6 (by decide) (fun c_6_5 => ?_) (fun c_6_5 => ?_)
  · -- taken at 6
    have c_6_5 := of_decide_eq_false c_6_5
    exfalso; omega
  · -- not taken at 6
    have c_6_5 := of_decide_eq_true c_6_5
    refine lv_iload_n hx hb dX3_has_9 rfl (lv_at hl 2 rfl) ?_
    refine kx_iconst hx hb dX3_has_10 ?_
    refine lv_aload_n hx hb dX3_has_11 rfl (lv_at hl 0 rfl) ?_
    refine lv_iload_n hx hb dX3_has_12 rfl (lv_at hl 1 rfl) ?_
    refine kx_iconst hx hb dX3_has_13 ?_
    refine kx_ci0 (va_runV (As := [.int (kI ((ln : Nat) : Int)), .int (kI (2))]) (rest := [.int (kI (0)), .int (kI ((k : Nat) : Int)), .ref a]) ⟨hx, hb, hml, hown, hts⟩ (of_n l D s.heap a ([.ref ra, .ref sa, .int (kI ((sn : Nat) : Int)), .ref ka, .int (kI (kb (ik))), .ref ta, .int (kI ((tn : Nat) : Int)), .int (kI (th)), .int (kI (sp)), .int (kI (kb (iw))), .int (kI (le)), .int (kI (fi)), .int (kI (se))]) ra g S gap ln hO_a rfl hA_ra (by first | assumption | omega) (by first | assumption | omega) (by first | assumption | omega)) (cwV 2 hts (lw_V q2304 q2306 qs40 q89 q2307) rfl rfl rfl (by decide +kernel) ⟨Nat.le_of_ble_eq_true rfl, Nat.le_of_ble_eq_true rfl⟩) (kx_pv hK hS_2 hB (kx_rc hK hO_a (C := RX3) (T := TX3) (N := 13) rfl)) rfl rfl hl.1 rfl (lv_room (Nat.le_of_ble_eq_true rfl)) dX3_has_14 ⟨by first | exact Nat.le_of_ble_eq_true rfl | omega | (show _ ≤ _; omega) | (dsimp only [headSpec]; omega), by first | exact Nat.le_of_ble_eq_true rfl | omega | (show _ ≤ _; omega) | (dsimp only [headSpec]; omega)⟩) hS_2 (fun z_9 locs_6 hz_8 hS_7 => ?_)
    subst z_9
    refine kx_cb0 (va_runS (As := [.int (kI ((k : Nat) : Int)), .int (kI (0)), .int (kI ((ln_n (st_ln S ln) : Nat) : Int))]) (rest := [.ref a]) ⟨hx, hb, hml, hown, hts⟩ (m_X3_in l D s.heap (((k : Nat) : Int)) 0 (((ln_n (st_ln S ln) : Nat) : Int))  (by first | assumption | omega) (by first | assumption | omega) (by first | assumption | omega)) (va_cwS 3 hts (lw_S q2297 q2298 q89 q2299) rfl rfl rfl (by decide +kernel) ⟨Nat.le_of_ble_eq_true rfl, Nat.le_of_ble_eq_true rfl⟩) (kx_ps hK hS_7 hB) rfl rfl hl.1 rfl (lv_room (Nat.le_of_ble_eq_true rfl)) dX3_has_17 ⟨by first | exact Nat.le_of_ble_eq_true rfl | omega | (show _ ≤ _; omega) | (dsimp only [headSpec]; omega), by first | exact Nat.le_of_ble_eq_true rfl | omega | (show _ ≤ _; omega) | (dsimp only [headSpec]; omega)⟩) hS_7 (fun z_13 locs_10 hz_12 hS_11 => ?_)
    subst z_13
    refine kx_ifz (tgt := 27) hx hb dX3_has_20 (by decide) (fun c_20_14 => ?_) (fun c_20_14 => ?_)
    · -- taken at 20
      have c_20_14 := of_decide_eq_false c_20_14
      exfalso; omega
    · -- not taken at 20
      have c_20_14 := of_decide_eq_true c_20_14
      refine kx_iconst hx hb dX3_has_23 ?_
      refine lv_goto (tgt := 28) hx hb dX3_has_24 (by decide) ?_
      refine kx_put (v := .int (kI (0))) (C := RX3) (T := TX3) (N := 13) hx hb hts in_X3 hown hK hO_a rfl 7 (by decide) tyX3 tyX3_ok nmX3 hS_11 (by first | rfl | exact Or.inl rfl | exact Or.inr rfl | exact Or.inr (Or.inl rfl) | exact Or.inr (Or.inr rfl) | exact Or.inr (Or.inr (Or.inl rfl)) | exact Or.inr (Or.inr (Or.inr rfl)) | ((try dsimp only); (try simp only [kNW]); omega)) q2245 (fun _ h9 => h9) rfl rfl rfl rfl (Nat.le_of_ble_eq_true rfl) dX3_has_28 (fun H_17 locs_18 hO_16 hU_15 hS_19 => ?_)
      have hO_16 : kO D H_17 a 2 [.ref ra, .ref sa, .int (kI ((sn : Nat) : Int)), .ref ka, .int (kI (kb (ik))), .ref ta, .int (kI ((tn : Nat) : Int)), .int (kI (0)), .int (kI (sp)), .int (kI (kb (iw))), .int (kI (le)), .int (kI (fi)), .int (kI (se))] := hO_16
      refine lv_aload_n hx hb dX3_has_31 rfl (lv_at hl 0 rfl) ?_
      refine kx_get (v := .int (kI (0))) (C := RX3) (T := TX3) (N := 13) hx hb hts in_X3 hown hK hO_16 rfl 7 (by decide) q2245 (fun _ h9 => h9) rfl dX3_has_32 ?_
      refine kx_if_ne (x := 0) (tgt := 42) hx hb dX3_has_35 (by decide) (by omega) (by omega) (fun c_35_20 => ?_) (fun c_35_20 => ?_)
      · -- taken at 35
        exfalso; omega
      · -- not taken at 35
        refine kx_iconst hx hb dX3_has_38 ?_
        refine lv_goto (tgt := 43) hx hb dX3_has_39 (by decide) ?_
        exact kx_zret (z := true) hx hb hr hlk (⟨by rfl, hO_16⟩) hS_19 dX3_has_43

set_option maxHeartbeats 4000000 in
set_option maxRecDepth 100000 in
theorem m_X3_has_no (l : Launch) (D : kG) (H : Heap) (a : Nat) (ra : Nat) (sa : Nat) (ka : Nat) (ta : Nat) (sn : Nat) (ik : Bool) (tn : Nat) (th : Int) (sp : Int) (iw : Bool) (le : Int) (fi : Int) (se : Int) (g : Nat → Int) (S : Ls) (gap : Int) (x : Int) (y : Int) (hO_a : kO D H a 2 [.ref ra, .ref sa, .int (kI ((sn : Nat) : Int)), .ref ka, .int (kI (kb (ik))), .ref ta, .int (kI ((tn : Nat) : Int)), .int (kI (th)), .int (kI (sp)), .int (kI (kb (iw))), .int (kI (le)), .int (kI (fi)), .int (kI (se))]) (hA_ra : kAi D H ra 514 g) (hM : MRow g S gap) (hok : LsOK S gap) (ne_a_ra : a ≠ ra) (bs_a : kBase D ≤ a) (hr_x : -2147483648 ≤ x ∧ x ≤ 2147483647) (hr_y : -2147483648 ≤ y ∧ y ≤ 2147483647) (hno : ¬ ((0 ≤ x ∧ x < S.length) ∧ 0 ≤ y ∧ y ≤ ln_n (st_ln S x.toNat))) : Met l yX3_has (ws_ yX3_has cX3_has 3 (some .boolean)) ({ frames := 2, cells := 0, slots := 0, locals := 43 } : Room) (kPre D H [.ref a, .int (kI (x)), .int (kI (y))]) (kQb (fun (r : Bool) H' => (r = false) ∧ (kO D H' a 2 [.ref ra, .ref sa, .int (kI ((sn : Nat) : Int)), .ref ka, .int (kI (kb (ik))), .ref ta, .int (kI ((tn : Nat) : Int)), .int (kI (1)), .int (kI (sp)), .int (kI (kb (iw))), .int (kI (le)), .int (kI (fi)), .int (kI (se))])) (fun q : Nat => q = a)) (0) (0) ((fun q : Nat => q = a)) := by
  refine Met.ofW (cc := cX3_has) (maxL := 3) (ret := (some .boolean)) (by decide) rfl ?_
  intro p e s m args below meth c s₁ B hml hv
  obtain ⟨rfl, hH, hK⟩ := hv
  subst hH
  have hx := B.exec
  have hb := B.bytes
  have hr := B.returns
  have hts := atoms_spec (ws := ws_ yX3_has cX3_has 3 (some .boolean)) B.pre
  have hts : ∀ w ∈ lw_all, w.before _ s = true := fun w h => hts w (List.mem_cons_of_mem _ h)
  have hown : s.vm.findClass RX3 = some m.cls := findClass_of_methodNamed B.named
  have hlk := B.notSynchronized
  have hS : va_S (fun q : Nat => q = a) s.heap s.heap [] := va_S.rf
  have hB : ∀ q, (fun q : Nat => q = a) q → kBase D ≤ q := fun q h => by (try dsimp only at h); (try simp only [kNW] at h); have hks := hK.size; omega
  have hl := lv_entry ([.ref a, .int (kI (x)), .int (kI (y))]) (n := 3) (Nat.le_of_ble_eq_true rfl)
  rw [lg_entry_eq]
  generalize (lg_sl ([.ref a, .int (kI (x)), .int (kI (y))]) ++ List.replicate (3 - (lg_sl ([.ref a, .int (kI (x)), .int (kI (y))])).length) Slot.unset).toArray = ls at hl ⊢
  have hl : lv_has ls 3 [(0, .ref a), (1, .int (kI (x))), (2, .int (kI (y)))] := hl
  have hL8 := hok.1
  have hlen := hM.len
  refine lv_aload_n hx hb dX3_has_0 rfl (lv_at hl 0 rfl) ?_
  refine lv_aload_n hx hb dX3_has_1 rfl (lv_at hl 0 rfl) ?_
  refine lv_iload_n hx hb dX3_has_2 rfl (lv_at hl 1 rfl) ?_
  refine kx_cb0 (va_runV (As := [.int (kI (x))]) (rest := [.ref a]) ⟨hx, hb, hml, hown, hts⟩ (m_X3_isLine l D s.heap a ([.ref ra, .ref sa, .int (kI ((sn : Nat) : Int)), .ref ka, .int (kI (kb (ik))), .ref ta, .int (kI ((tn : Nat) : Int)), .int (kI (th)), .int (kI (sp)), .int (kI (kb (iw))), .int (kI (le)), .int (kI (fi)), .int (kI (se))]) ra g S gap x hO_a rfl hA_ra (by first | assumption | omega) (by first | assumption | omega) (by first | assumption | omega)) (cwV 1 hts (lw_V q2314 q2316 qs41 q89 q2317) rfl rfl rfl (by decide +kernel) ⟨Nat.le_of_ble_eq_true rfl, Nat.le_of_ble_eq_true rfl⟩) (kx_pv hK hS hB (kx_rc hK hO_a (C := RX3) (T := TX3) (N := 13) rfl)) rfl rfl hl.1 rfl (lv_room (Nat.le_of_ble_eq_true rfl)) dX3_has_3 ⟨by first | exact Nat.le_of_ble_eq_true rfl | omega | (show _ ≤ _; omega) | (dsimp only [headSpec]; omega), by first | exact Nat.le_of_ble_eq_true rfl | omega | (show _ ≤ _; omega) | (dsimp only [headSpec]; omega)⟩) hS (fun z_4 locs_1 hz_3 hS_2 => ?_)
  subst z_4
  refine kx_ifz (tgt := 27) hx hb dX3_has_6 (by decide) (fun c_6_5 => ?_) (fun c_6_5 => ?_)
  · -- taken at 6
    have c_6_5 := of_decide_eq_false c_6_5
    refine kx_iconst hx hb dX3_has_27 ?_
    refine kx_put (v := .int (kI (1))) (C := RX3) (T := TX3) (N := 13) hx hb hts in_X3 hown hK hO_a rfl 7 (by decide) tyX3 tyX3_ok nmX3 hS_2 (by first | rfl | exact Or.inl rfl | exact Or.inr rfl | exact Or.inr (Or.inl rfl) | exact Or.inr (Or.inr rfl) | exact Or.inr (Or.inr (Or.inl rfl)) | exact Or.inr (Or.inr (Or.inr rfl)) | ((try dsimp only); (try simp only [kNW]); omega)) q2245 (fun _ h9 => h9) rfl rfl rfl rfl (Nat.le_of_ble_eq_true rfl) dX3_has_28 (fun H_8 locs_9 hO_7 hU_6 hS_10 => ?_)
    have hO_7 : kO D H_8 a 2 [.ref ra, .ref sa, .int (kI ((sn : Nat) : Int)), .ref ka, .int (kI (kb (ik))), .ref ta, .int (kI ((tn : Nat) : Int)), .int (kI (1)), .int (kI (sp)), .int (kI (kb (iw))), .int (kI (le)), .int (kI (fi)), .int (kI (se))] := hO_7
    refine lv_aload_n hx hb dX3_has_31 rfl (lv_at hl 0 rfl) ?_
    refine kx_get (v := .int (kI (1))) (C := RX3) (T := TX3) (N := 13) hx hb hts in_X3 hown hK hO_7 rfl 7 (by decide) q2245 (fun _ h9 => h9) rfl dX3_has_32 ?_
    refine kx_if_ne (x := 1) (tgt := 42) hx hb dX3_has_35 (by decide) (by omega) (by omega) (fun c_35_11 => ?_) (fun c_35_11 => ?_)
    · -- taken at 35
      refine kx_iconst hx hb dX3_has_42 ?_
      exact kx_zret (z := false) hx hb hr hlk (⟨by rfl, hO_7⟩) hS_10 dX3_has_43
    · -- not taken at 35
      exfalso; omega
  · -- not taken at 6
    have c_6_5 := of_decide_eq_true c_6_5
    have hln : x.toNat < S.length := by omega
    have hL60 := (hok.ln hln).n
    refine lv_iload_n hx hb dX3_has_9 rfl (lv_at hl 2 rfl) ?_
    refine kx_iconst hx hb dX3_has_10 ?_
    refine lv_aload_n hx hb dX3_has_11 rfl (lv_at hl 0 rfl) ?_
    refine lv_iload_n hx hb dX3_has_12 rfl (lv_at hl 1 rfl) ?_
    refine kx_eqi (((x.toNat : Nat) : Int)) (by omega) ?_
    refine kx_iconst hx hb dX3_has_13 ?_
    refine kx_ci0 (va_runV (As := [.int (kI ((x.toNat : Nat) : Int)), .int (kI (2))]) (rest := [.int (kI (0)), .int (kI (y)), .ref a]) ⟨hx, hb, hml, hown, hts⟩ (of_n l D s.heap a ([.ref ra, .ref sa, .int (kI ((sn : Nat) : Int)), .ref ka, .int (kI (kb (ik))), .ref ta, .int (kI ((tn : Nat) : Int)), .int (kI (th)), .int (kI (sp)), .int (kI (kb (iw))), .int (kI (le)), .int (kI (fi)), .int (kI (se))]) ra g S gap x.toNat hO_a rfl hA_ra (by first | assumption | omega) (by first | assumption | omega) (by first | assumption | omega)) (cwV 2 hts (lw_V q2304 q2306 qs40 q89 q2307) rfl rfl rfl (by decide +kernel) ⟨Nat.le_of_ble_eq_true rfl, Nat.le_of_ble_eq_true rfl⟩) (kx_pv hK hS_2 hB (kx_rc hK hO_a (C := RX3) (T := TX3) (N := 13) rfl)) rfl rfl hl.1 rfl (lv_room (Nat.le_of_ble_eq_true rfl)) dX3_has_14 ⟨by first | exact Nat.le_of_ble_eq_true rfl | omega | (show _ ≤ _; omega) | (dsimp only [headSpec]; omega), by first | exact Nat.le_of_ble_eq_true rfl | omega | (show _ ≤ _; omega) | (dsimp only [headSpec]; omega)⟩) hS_2 (fun z_15 locs_12 hz_14 hS_13 => ?_)
    subst z_15
    refine kx_cb0 (va_runS (As := [.int (kI (y)), .int (kI (0)), .int (kI ((ln_n (st_ln S x.toNat) : Nat) : Int))]) (rest := [.ref a]) ⟨hx, hb, hml, hown, hts⟩ (m_X3_in l D s.heap y 0 (((ln_n (st_ln S x.toNat) : Nat) : Int))  (by first | assumption | omega) (by first | assumption | omega) (by first | assumption | omega)) (va_cwS 3 hts (lw_S q2297 q2298 q89 q2299) rfl rfl rfl (by decide +kernel) ⟨Nat.le_of_ble_eq_true rfl, Nat.le_of_ble_eq_true rfl⟩) (kx_ps hK hS_13 hB) rfl rfl hl.1 rfl (lv_room (Nat.le_of_ble_eq_true rfl)) dX3_has_17 ⟨by first | exact Nat.le_of_ble_eq_true rfl | omega | (show _ ≤ _; omega) | (dsimp only [headSpec]; omega), by first | exact Nat.le_of_ble_eq_true rfl | omega | (show _ ≤ _; omega) | (dsimp only [headSpec]; omega)⟩) hS_13 (fun z_19 locs_16 hz_18 hS_17 => ?_)
    subst z_19
    refine kx_ifz (tgt := 27) hx hb dX3_has_20 (by decide) (fun c_20_20 => ?_) (fun c_20_20 => ?_)
    · -- taken at 20
      have c_20_20 := of_decide_eq_false c_20_20
      refine kx_iconst hx hb dX3_has_27 ?_
      refine kx_put (v := .int (kI (1))) (C := RX3) (T := TX3) (N := 13) hx hb hts in_X3 hown hK hO_a rfl 7 (by decide) tyX3 tyX3_ok nmX3 hS_17 (by first | rfl | exact Or.inl rfl | exact Or.inr rfl | exact Or.inr (Or.inl rfl) | exact Or.inr (Or.inr rfl) | exact Or.inr (Or.inr (Or.inl rfl)) | exact Or.inr (Or.inr (Or.inr rfl)) | ((try dsimp only); (try simp only [kNW]); omega)) q2245 (fun _ h9 => h9) rfl rfl rfl rfl (Nat.le_of_ble_eq_true rfl) dX3_has_28 (fun H_23 locs_24 hO_22 hU_21 hS_25 => ?_)
      have hO_22 : kO D H_23 a 2 [.ref ra, .ref sa, .int (kI ((sn : Nat) : Int)), .ref ka, .int (kI (kb (ik))), .ref ta, .int (kI ((tn : Nat) : Int)), .int (kI (1)), .int (kI (sp)), .int (kI (kb (iw))), .int (kI (le)), .int (kI (fi)), .int (kI (se))] := hO_22
      refine lv_aload_n hx hb dX3_has_31 rfl (lv_at hl 0 rfl) ?_
      refine kx_get (v := .int (kI (1))) (C := RX3) (T := TX3) (N := 13) hx hb hts in_X3 hown hK hO_22 rfl 7 (by decide) q2245 (fun _ h9 => h9) rfl dX3_has_32 ?_
      refine kx_if_ne (x := 1) (tgt := 42) hx hb dX3_has_35 (by decide) (by omega) (by omega) (fun c_35_26 => ?_) (fun c_35_26 => ?_)
      · -- taken at 35
        refine kx_iconst hx hb dX3_has_42 ?_
        exact kx_zret (z := false) hx hb hr hlk (⟨by rfl, hO_22⟩) hS_25 dX3_has_43
      · -- not taken at 35
        exfalso; omega
    · -- not taken at 20
      have c_20_20 := of_decide_eq_true c_20_20
      exfalso; exact hno ⟨by assumption, by omega, by omega⟩

set_option maxHeartbeats 4000000 in
set_option maxRecDepth 100000 in
theorem m_look_lv (l : Launch) (D : kG) (H : Heap) (a : Nat) (ra : Nat) (sa : Nat) (ka : Nat) (ta : Nat) (sn : Nat) (ik : Bool) (tn : Nat) (th : Int) (sp : Int) (iw : Bool) (le : Int) (fi : Int) (se : Int) (g : Nat → Int) (S : Ls) (gap : Int) (ln : Nat) (hO_a : kO D H a 2 [.ref ra, .ref sa, .int (kI ((sn : Nat) : Int)), .ref ka, .int (kI (kb (ik))), .ref ta, .int (kI ((tn : Nat) : Int)), .int (kI (th)), .int (kI (sp)), .int (kI (kb (iw))), .int (kI (le)), .int (kI (fi)), .int (kI (se))]) (hA_ra : kAi D H ra 514 g) (hM : MRow g S gap) (hok : LsOK S gap) (ne_a_ra : a ≠ ra) (bs_a : kBase D ≤ a) (hln : ln < S.length) : Met l yX3_look (ws_ yX3_look cX3_look 3 (some .int)) ({ frames := 2, cells := 0, slots := 0, locals := 43 } : Room) (kPre D H [.ref a, .int (kI ((ln : Nat) : Int)), .int (kI (0))]) (kQi (fun (r : Int) H' => (r = ln_lv (st_ln S ln)) ∧ (kO D H' a 2 [.ref ra, .ref sa, .int (kI ((sn : Nat) : Int)), .ref ka, .int (kI (kb (ik))), .ref ta, .int (kI ((tn : Nat) : Int)), .int (kI (0)), .int (kI (sp)), .int (kI (kb (iw))), .int (kI (le)), .int (kI (fi)), .int (kI (se))])) (fun q : Nat => q = a)) (0) (0) ((fun q : Nat => q = a)) := by
  refine Met.ofW (cc := cX3_look) (maxL := 3) (ret := (some .int)) (by decide) rfl ?_
  intro p e s m args below meth c s₁ B hml hv
  obtain ⟨rfl, hH, hK⟩ := hv
  subst hH
  have hx := B.exec
  have hb := B.bytes
  have hr := B.returns
  have hts := atoms_spec (ws := ws_ yX3_look cX3_look 3 (some .int)) B.pre
  have hts : ∀ w ∈ lw_all, w.before _ s = true := fun w h => hts w (List.mem_cons_of_mem _ h)
  have hown : s.vm.findClass RX3 = some m.cls := findClass_of_methodNamed B.named
  have hlk := B.notSynchronized
  have hS : va_S (fun q : Nat => q = a) s.heap s.heap [] := va_S.rf
  have hB : ∀ q, (fun q : Nat => q = a) q → kBase D ≤ q := fun q h => by (try dsimp only at h); (try simp only [kNW] at h); have hks := hK.size; omega
  have hl := lv_entry ([.ref a, .int (kI ((ln : Nat) : Int)), .int (kI (0))]) (n := 3) (Nat.le_of_ble_eq_true rfl)
  rw [lg_entry_eq]
  generalize (lg_sl ([.ref a, .int (kI ((ln : Nat) : Int)), .int (kI (0))]) ++ List.replicate (3 - (lg_sl ([.ref a, .int (kI ((ln : Nat) : Int)), .int (kI (0))])).length) Slot.unset).toArray = ls at hl ⊢
  have hl : lv_has ls 3 [(0, .ref a), (1, .int (kI ((ln : Nat) : Int))), (2, .int (kI (0)))] := hl
  have hL := hok.ln hln
  have hL60 := hL.n
  have hL8 := hok.1
  have hlen := hM.len
  refine lv_aload_n hx hb dX3_look_0 rfl (lv_at hl 0 rfl) ?_
  refine kx_iconst hx hb dX3_look_1 ?_
  refine kx_put (v := .int (kI (0))) (C := RX3) (T := TX3) (N := 13) hx hb hts in_X3 hown hK hO_a rfl 7 (by decide) tyX3 tyX3_ok nmX3 hS (by first | rfl | exact Or.inl rfl | exact Or.inr rfl | exact Or.inr (Or.inl rfl) | exact Or.inr (Or.inr rfl) | exact Or.inr (Or.inr (Or.inl rfl)) | exact Or.inr (Or.inr (Or.inr rfl)) | ((try dsimp only); (try simp only [kNW]); omega)) q2245 (fun _ h9 => h9) rfl rfl rfl rfl (Nat.le_of_ble_eq_true rfl) dX3_look_2 (fun H_3 locs_4 hO_2 hU_1 hS_5 => ?_)
  have hO_2 : kO D H_3 a 2 [.ref ra, .ref sa, .int (kI ((sn : Nat) : Int)), .ref ka, .int (kI (kb (ik))), .ref ta, .int (kI ((tn : Nat) : Int)), .int (kI (0)), .int (kI (sp)), .int (kI (kb (iw))), .int (kI (le)), .int (kI (fi)), .int (kI (se))] := hO_2
  refine lv_aload_n hx hb dX3_look_5 rfl (lv_at hl 0 rfl) ?_
  refine lv_iload_n hx hb dX3_look_6 rfl (lv_at hl 1 rfl) ?_
  have h_6 := hA_ra.up hU_1 (by first | assumption | exact Ne.symm (by assumption) | omega)
  refine kx_cb0 (va_runV (As := [.int (kI ((ln : Nat) : Int))]) (rest := []) ⟨hx, hb, hml, hown, hts⟩ (m_X3_isLine l D H_3 a ([.ref ra, .ref sa, .int (kI ((sn : Nat) : Int)), .ref ka, .int (kI (kb (ik))), .ref ta, .int (kI ((tn : Nat) : Int)), .int (kI (0)), .int (kI (sp)), .int (kI (kb (iw))), .int (kI (le)), .int (kI (fi)), .int (kI (se))]) ra g S gap ((ln : Int)) hO_2 rfl h_6 (by first | assumption | omega) (by first | assumption | omega) (by first | assumption | omega)) (cwV 1 hts (lw_V q2314 q2316 qs41 q89 q2317) rfl rfl rfl (by decide +kernel) ⟨Nat.le_of_ble_eq_true rfl, Nat.le_of_ble_eq_true rfl⟩) (kx_pv hK hS_5 hB (kx_rc hK hO_2 (C := RX3) (T := TX3) (N := 13) rfl)) rfl rfl hl.1 rfl (lv_room (Nat.le_of_ble_eq_true rfl)) dX3_look_7 ⟨by first | exact Nat.le_of_ble_eq_true rfl | omega | (show _ ≤ _; omega) | (dsimp only [headSpec]; omega), by first | exact Nat.le_of_ble_eq_true rfl | omega | (show _ ≤ _; omega) | (dsimp only [headSpec]; omega)⟩) hS_5 (fun z_10 locs_7 hz_9 hS_8 => ?_)
  subst z_10
  refine kx_ifz (tgt := 22) hx hb dX3_look_10 (by decide) (fun c_10_11 => ?_) (fun c_10_11 => ?_)
  · -- taken at 10
    have c_10_11 := of_decide_eq_false c_10_11
    exfalso; omega
  · -- not taken at 10
    have c_10_11 := of_decide_eq_true c_10_11
    refine lv_aload_n hx hb dX3_look_13 rfl (lv_at hl 0 rfl) ?_
    refine lv_iload_n hx hb dX3_look_14 rfl (lv_at hl 1 rfl) ?_
    refine lv_iload_n hx hb dX3_look_15 rfl (lv_at hl 2 rfl) ?_
    refine kx_ci0 (va_runV (As := [.int (kI ((ln : Nat) : Int)), .int (kI (0))]) (rest := []) ⟨hx, hb, hml, hown, hts⟩ (of_lv l D H_3 a ([.ref ra, .ref sa, .int (kI ((sn : Nat) : Int)), .ref ka, .int (kI (kb (ik))), .ref ta, .int (kI ((tn : Nat) : Int)), .int (kI (0)), .int (kI (sp)), .int (kI (kb (iw))), .int (kI (le)), .int (kI (fi)), .int (kI (se))]) ra g S gap ln hO_2 rfl h_6 (by first | assumption | omega) (by first | assumption | omega) (by first | assumption | omega)) (cwV 2 hts (lw_V q2304 q2306 qs40 q89 q2307) rfl rfl rfl (by decide +kernel) ⟨Nat.le_of_ble_eq_true rfl, Nat.le_of_ble_eq_true rfl⟩) (kx_pv hK hS_8 hB (kx_rc hK hO_2 (C := RX3) (T := TX3) (N := 13) rfl)) rfl rfl hl.1 rfl (lv_room (Nat.le_of_ble_eq_true rfl)) dX3_look_16 ⟨by first | exact Nat.le_of_ble_eq_true rfl | omega | (show _ ≤ _; omega) | (dsimp only [headSpec]; omega), by first | exact Nat.le_of_ble_eq_true rfl | omega | (show _ ≤ _; omega) | (dsimp only [headSpec]; omega)⟩) hS_8 (fun z_15 locs_12 hz_14 hS_13 => ?_)
    subst z_15
    refine lv_goto (tgt := 27) hx hb dX3_look_19 (by decide) ?_
    exact kx_iret (z := ln_lv (st_ln S ln)) hx hb hr hlk (⟨by rfl, hO_2⟩) hS_13 dX3_look_27

set_option maxHeartbeats 4000000 in
set_option maxRecDepth 100000 in
theorem m_look_n (l : Launch) (D : kG) (H : Heap) (a : Nat) (ra : Nat) (sa : Nat) (ka : Nat) (ta : Nat) (sn : Nat) (ik : Bool) (tn : Nat) (th : Int) (sp : Int) (iw : Bool) (le : Int) (fi : Int) (se : Int) (g : Nat → Int) (S : Ls) (gap : Int) (ln : Nat) (hO_a : kO D H a 2 [.ref ra, .ref sa, .int (kI ((sn : Nat) : Int)), .ref ka, .int (kI (kb (ik))), .ref ta, .int (kI ((tn : Nat) : Int)), .int (kI (th)), .int (kI (sp)), .int (kI (kb (iw))), .int (kI (le)), .int (kI (fi)), .int (kI (se))]) (hA_ra : kAi D H ra 514 g) (hM : MRow g S gap) (hok : LsOK S gap) (ne_a_ra : a ≠ ra) (bs_a : kBase D ≤ a) (hln : ln < S.length) : Met l yX3_look (ws_ yX3_look cX3_look 3 (some .int)) ({ frames := 2, cells := 0, slots := 0, locals := 43 } : Room) (kPre D H [.ref a, .int (kI ((ln : Nat) : Int)), .int (kI (2))]) (kQi (fun (r : Int) H' => (r = ((ln_n (st_ln S ln) : Nat) : Int)) ∧ (kO D H' a 2 [.ref ra, .ref sa, .int (kI ((sn : Nat) : Int)), .ref ka, .int (kI (kb (ik))), .ref ta, .int (kI ((tn : Nat) : Int)), .int (kI (0)), .int (kI (sp)), .int (kI (kb (iw))), .int (kI (le)), .int (kI (fi)), .int (kI (se))])) (fun q : Nat => q = a)) (0) (0) ((fun q : Nat => q = a)) := by
  refine Met.ofW (cc := cX3_look) (maxL := 3) (ret := (some .int)) (by decide) rfl ?_
  intro p e s m args below meth c s₁ B hml hv
  obtain ⟨rfl, hH, hK⟩ := hv
  subst hH
  have hx := B.exec
  have hb := B.bytes
  have hr := B.returns
  have hts := atoms_spec (ws := ws_ yX3_look cX3_look 3 (some .int)) B.pre
  have hts : ∀ w ∈ lw_all, w.before _ s = true := fun w h => hts w (List.mem_cons_of_mem _ h)
  have hown : s.vm.findClass RX3 = some m.cls := findClass_of_methodNamed B.named
  have hlk := B.notSynchronized
  have hS : va_S (fun q : Nat => q = a) s.heap s.heap [] := va_S.rf
  have hB : ∀ q, (fun q : Nat => q = a) q → kBase D ≤ q := fun q h => by (try dsimp only at h); (try simp only [kNW] at h); have hks := hK.size; omega
  have hl := lv_entry ([.ref a, .int (kI ((ln : Nat) : Int)), .int (kI (2))]) (n := 3) (Nat.le_of_ble_eq_true rfl)
  rw [lg_entry_eq]
  generalize (lg_sl ([.ref a, .int (kI ((ln : Nat) : Int)), .int (kI (2))]) ++ List.replicate (3 - (lg_sl ([.ref a, .int (kI ((ln : Nat) : Int)), .int (kI (2))])).length) Slot.unset).toArray = ls at hl ⊢
  have hl : lv_has ls 3 [(0, .ref a), (1, .int (kI ((ln : Nat) : Int))), (2, .int (kI (2)))] := hl
  have hL := hok.ln hln
  have hL60 := hL.n
  have hL8 := hok.1
  have hlen := hM.len
  refine lv_aload_n hx hb dX3_look_0 rfl (lv_at hl 0 rfl) ?_
  refine kx_iconst hx hb dX3_look_1 ?_
  refine kx_put (v := .int (kI (0))) (C := RX3) (T := TX3) (N := 13) hx hb hts in_X3 hown hK hO_a rfl 7 (by decide) tyX3 tyX3_ok nmX3 hS (by first | rfl | exact Or.inl rfl | exact Or.inr rfl | exact Or.inr (Or.inl rfl) | exact Or.inr (Or.inr rfl) | exact Or.inr (Or.inr (Or.inl rfl)) | exact Or.inr (Or.inr (Or.inr rfl)) | ((try dsimp only); (try simp only [kNW]); omega)) q2245 (fun _ h9 => h9) rfl rfl rfl rfl (Nat.le_of_ble_eq_true rfl) dX3_look_2 (fun H_3 locs_4 hO_2 hU_1 hS_5 => ?_)
  have hO_2 : kO D H_3 a 2 [.ref ra, .ref sa, .int (kI ((sn : Nat) : Int)), .ref ka, .int (kI (kb (ik))), .ref ta, .int (kI ((tn : Nat) : Int)), .int (kI (0)), .int (kI (sp)), .int (kI (kb (iw))), .int (kI (le)), .int (kI (fi)), .int (kI (se))] := hO_2
  refine lv_aload_n hx hb dX3_look_5 rfl (lv_at hl 0 rfl) ?_
  refine lv_iload_n hx hb dX3_look_6 rfl (lv_at hl 1 rfl) ?_
  have h_6 := hA_ra.up hU_1 (by first | assumption | exact Ne.symm (by assumption) | omega)
  refine kx_cb0 (va_runV (As := [.int (kI ((ln : Nat) : Int))]) (rest := []) ⟨hx, hb, hml, hown, hts⟩ (m_X3_isLine l D H_3 a ([.ref ra, .ref sa, .int (kI ((sn : Nat) : Int)), .ref ka, .int (kI (kb (ik))), .ref ta, .int (kI ((tn : Nat) : Int)), .int (kI (0)), .int (kI (sp)), .int (kI (kb (iw))), .int (kI (le)), .int (kI (fi)), .int (kI (se))]) ra g S gap ((ln : Int)) hO_2 rfl h_6 (by first | assumption | omega) (by first | assumption | omega) (by first | assumption | omega)) (cwV 1 hts (lw_V q2314 q2316 qs41 q89 q2317) rfl rfl rfl (by decide +kernel) ⟨Nat.le_of_ble_eq_true rfl, Nat.le_of_ble_eq_true rfl⟩) (kx_pv hK hS_5 hB (kx_rc hK hO_2 (C := RX3) (T := TX3) (N := 13) rfl)) rfl rfl hl.1 rfl (lv_room (Nat.le_of_ble_eq_true rfl)) dX3_look_7 ⟨by first | exact Nat.le_of_ble_eq_true rfl | omega | (show _ ≤ _; omega) | (dsimp only [headSpec]; omega), by first | exact Nat.le_of_ble_eq_true rfl | omega | (show _ ≤ _; omega) | (dsimp only [headSpec]; omega)⟩) hS_5 (fun z_10 locs_7 hz_9 hS_8 => ?_)
  subst z_10
  refine kx_ifz (tgt := 22) hx hb dX3_look_10 (by decide) (fun c_10_11 => ?_) (fun c_10_11 => ?_)
  · -- taken at 10
    have c_10_11 := of_decide_eq_false c_10_11
    exfalso; omega
  · -- not taken at 10
    have c_10_11 := of_decide_eq_true c_10_11
    refine lv_aload_n hx hb dX3_look_13 rfl (lv_at hl 0 rfl) ?_
    refine lv_iload_n hx hb dX3_look_14 rfl (lv_at hl 1 rfl) ?_
    refine lv_iload_n hx hb dX3_look_15 rfl (lv_at hl 2 rfl) ?_
    refine kx_ci0 (va_runV (As := [.int (kI ((ln : Nat) : Int)), .int (kI (2))]) (rest := []) ⟨hx, hb, hml, hown, hts⟩ (of_n l D H_3 a ([.ref ra, .ref sa, .int (kI ((sn : Nat) : Int)), .ref ka, .int (kI (kb (ik))), .ref ta, .int (kI ((tn : Nat) : Int)), .int (kI (0)), .int (kI (sp)), .int (kI (kb (iw))), .int (kI (le)), .int (kI (fi)), .int (kI (se))]) ra g S gap ln hO_2 rfl h_6 (by first | assumption | omega) (by first | assumption | omega) (by first | assumption | omega)) (cwV 2 hts (lw_V q2304 q2306 qs40 q89 q2307) rfl rfl rfl (by decide +kernel) ⟨Nat.le_of_ble_eq_true rfl, Nat.le_of_ble_eq_true rfl⟩) (kx_pv hK hS_8 hB (kx_rc hK hO_2 (C := RX3) (T := TX3) (N := 13) rfl)) rfl rfl hl.1 rfl (lv_room (Nat.le_of_ble_eq_true rfl)) dX3_look_16 ⟨by first | exact Nat.le_of_ble_eq_true rfl | omega | (show _ ≤ _; omega) | (dsimp only [headSpec]; omega), by first | exact Nat.le_of_ble_eq_true rfl | omega | (show _ ≤ _; omega) | (dsimp only [headSpec]; omega)⟩) hS_8 (fun z_15 locs_12 hz_14 hS_13 => ?_)
    subst z_15
    refine lv_goto (tgt := 27) hx hb dX3_look_19 (by decide) ?_
    exact kx_iret (z := ((ln_n (st_ln S ln) : Nat) : Int)) hx hb hr hlk (⟨by rfl, hO_2⟩) hS_13 dX3_look_27

set_option maxHeartbeats 4000000 in
set_option maxRecDepth 100000 in
theorem m_look_lb (l : Launch) (D : kG) (H : Heap) (a : Nat) (ra : Nat) (sa : Nat) (ka : Nat) (ta : Nat) (sn : Nat) (ik : Bool) (tn : Nat) (th : Int) (sp : Int) (iw : Bool) (le : Int) (fi : Int) (se : Int) (g : Nat → Int) (S : Ls) (gap : Int) (ln : Nat) (hO_a : kO D H a 2 [.ref ra, .ref sa, .int (kI ((sn : Nat) : Int)), .ref ka, .int (kI (kb (ik))), .ref ta, .int (kI ((tn : Nat) : Int)), .int (kI (th)), .int (kI (sp)), .int (kI (kb (iw))), .int (kI (le)), .int (kI (fi)), .int (kI (se))]) (hA_ra : kAi D H ra 514 g) (hM : MRow g S gap) (hok : LsOK S gap) (ne_a_ra : a ≠ ra) (bs_a : kBase D ≤ a) (hln : ln < S.length) : Met l yX3_look (ws_ yX3_look cX3_look 3 (some .int)) ({ frames := 2, cells := 0, slots := 0, locals := 43 } : Room) (kPre D H [.ref a, .int (kI ((ln : Nat) : Int)), .int (kI (3))]) (kQi (fun (r : Int) H' => (r = ln_lb (st_ln S ln)) ∧ (kO D H' a 2 [.ref ra, .ref sa, .int (kI ((sn : Nat) : Int)), .ref ka, .int (kI (kb (ik))), .ref ta, .int (kI ((tn : Nat) : Int)), .int (kI (0)), .int (kI (sp)), .int (kI (kb (iw))), .int (kI (le)), .int (kI (fi)), .int (kI (se))])) (fun q : Nat => q = a)) (0) (0) ((fun q : Nat => q = a)) := by
  refine Met.ofW (cc := cX3_look) (maxL := 3) (ret := (some .int)) (by decide) rfl ?_
  intro p e s m args below meth c s₁ B hml hv
  obtain ⟨rfl, hH, hK⟩ := hv
  subst hH
  have hx := B.exec
  have hb := B.bytes
  have hr := B.returns
  have hts := atoms_spec (ws := ws_ yX3_look cX3_look 3 (some .int)) B.pre
  have hts : ∀ w ∈ lw_all, w.before _ s = true := fun w h => hts w (List.mem_cons_of_mem _ h)
  have hown : s.vm.findClass RX3 = some m.cls := findClass_of_methodNamed B.named
  have hlk := B.notSynchronized
  have hS : va_S (fun q : Nat => q = a) s.heap s.heap [] := va_S.rf
  have hB : ∀ q, (fun q : Nat => q = a) q → kBase D ≤ q := fun q h => by (try dsimp only at h); (try simp only [kNW] at h); have hks := hK.size; omega
  have hl := lv_entry ([.ref a, .int (kI ((ln : Nat) : Int)), .int (kI (3))]) (n := 3) (Nat.le_of_ble_eq_true rfl)
  rw [lg_entry_eq]
  generalize (lg_sl ([.ref a, .int (kI ((ln : Nat) : Int)), .int (kI (3))]) ++ List.replicate (3 - (lg_sl ([.ref a, .int (kI ((ln : Nat) : Int)), .int (kI (3))])).length) Slot.unset).toArray = ls at hl ⊢
  have hl : lv_has ls 3 [(0, .ref a), (1, .int (kI ((ln : Nat) : Int))), (2, .int (kI (3)))] := hl
  have hL := hok.ln hln
  have hL60 := hL.n
  have hL8 := hok.1
  have hlen := hM.len
  refine lv_aload_n hx hb dX3_look_0 rfl (lv_at hl 0 rfl) ?_
  refine kx_iconst hx hb dX3_look_1 ?_
  refine kx_put (v := .int (kI (0))) (C := RX3) (T := TX3) (N := 13) hx hb hts in_X3 hown hK hO_a rfl 7 (by decide) tyX3 tyX3_ok nmX3 hS (by first | rfl | exact Or.inl rfl | exact Or.inr rfl | exact Or.inr (Or.inl rfl) | exact Or.inr (Or.inr rfl) | exact Or.inr (Or.inr (Or.inl rfl)) | exact Or.inr (Or.inr (Or.inr rfl)) | ((try dsimp only); (try simp only [kNW]); omega)) q2245 (fun _ h9 => h9) rfl rfl rfl rfl (Nat.le_of_ble_eq_true rfl) dX3_look_2 (fun H_3 locs_4 hO_2 hU_1 hS_5 => ?_)
  have hO_2 : kO D H_3 a 2 [.ref ra, .ref sa, .int (kI ((sn : Nat) : Int)), .ref ka, .int (kI (kb (ik))), .ref ta, .int (kI ((tn : Nat) : Int)), .int (kI (0)), .int (kI (sp)), .int (kI (kb (iw))), .int (kI (le)), .int (kI (fi)), .int (kI (se))] := hO_2
  refine lv_aload_n hx hb dX3_look_5 rfl (lv_at hl 0 rfl) ?_
  refine lv_iload_n hx hb dX3_look_6 rfl (lv_at hl 1 rfl) ?_
  have h_6 := hA_ra.up hU_1 (by first | assumption | exact Ne.symm (by assumption) | omega)
  refine kx_cb0 (va_runV (As := [.int (kI ((ln : Nat) : Int))]) (rest := []) ⟨hx, hb, hml, hown, hts⟩ (m_X3_isLine l D H_3 a ([.ref ra, .ref sa, .int (kI ((sn : Nat) : Int)), .ref ka, .int (kI (kb (ik))), .ref ta, .int (kI ((tn : Nat) : Int)), .int (kI (0)), .int (kI (sp)), .int (kI (kb (iw))), .int (kI (le)), .int (kI (fi)), .int (kI (se))]) ra g S gap ((ln : Int)) hO_2 rfl h_6 (by first | assumption | omega) (by first | assumption | omega) (by first | assumption | omega)) (cwV 1 hts (lw_V q2314 q2316 qs41 q89 q2317) rfl rfl rfl (by decide +kernel) ⟨Nat.le_of_ble_eq_true rfl, Nat.le_of_ble_eq_true rfl⟩) (kx_pv hK hS_5 hB (kx_rc hK hO_2 (C := RX3) (T := TX3) (N := 13) rfl)) rfl rfl hl.1 rfl (lv_room (Nat.le_of_ble_eq_true rfl)) dX3_look_7 ⟨by first | exact Nat.le_of_ble_eq_true rfl | omega | (show _ ≤ _; omega) | (dsimp only [headSpec]; omega), by first | exact Nat.le_of_ble_eq_true rfl | omega | (show _ ≤ _; omega) | (dsimp only [headSpec]; omega)⟩) hS_5 (fun z_10 locs_7 hz_9 hS_8 => ?_)
  subst z_10
  refine kx_ifz (tgt := 22) hx hb dX3_look_10 (by decide) (fun c_10_11 => ?_) (fun c_10_11 => ?_)
  · -- taken at 10
    have c_10_11 := of_decide_eq_false c_10_11
    exfalso; omega
  · -- not taken at 10
    have c_10_11 := of_decide_eq_true c_10_11
    refine lv_aload_n hx hb dX3_look_13 rfl (lv_at hl 0 rfl) ?_
    refine lv_iload_n hx hb dX3_look_14 rfl (lv_at hl 1 rfl) ?_
    refine lv_iload_n hx hb dX3_look_15 rfl (lv_at hl 2 rfl) ?_
    refine kx_ci0 (va_runV (As := [.int (kI ((ln : Nat) : Int)), .int (kI (3))]) (rest := []) ⟨hx, hb, hml, hown, hts⟩ (of_lb l D H_3 a ([.ref ra, .ref sa, .int (kI ((sn : Nat) : Int)), .ref ka, .int (kI (kb (ik))), .ref ta, .int (kI ((tn : Nat) : Int)), .int (kI (0)), .int (kI (sp)), .int (kI (kb (iw))), .int (kI (le)), .int (kI (fi)), .int (kI (se))]) ra g S gap ln hO_2 rfl h_6 (by first | assumption | omega) (by first | assumption | omega) (by first | assumption | omega)) (cwV 2 hts (lw_V q2304 q2306 qs40 q89 q2307) rfl rfl rfl (by decide +kernel) ⟨Nat.le_of_ble_eq_true rfl, Nat.le_of_ble_eq_true rfl⟩) (kx_pv hK hS_8 hB (kx_rc hK hO_2 (C := RX3) (T := TX3) (N := 13) rfl)) rfl rfl hl.1 rfl (lv_room (Nat.le_of_ble_eq_true rfl)) dX3_look_16 ⟨by first | exact Nat.le_of_ble_eq_true rfl | omega | (show _ ≤ _; omega) | (dsimp only [headSpec]; omega), by first | exact Nat.le_of_ble_eq_true rfl | omega | (show _ ≤ _; omega) | (dsimp only [headSpec]; omega)⟩) hS_8 (fun z_15 locs_12 hz_14 hS_13 => ?_)
    subst z_15
    refine lv_goto (tgt := 27) hx hb dX3_look_19 (by decide) ?_
    exact kx_iret (z := ln_lb (st_ln S ln)) hx hb hr hlk (⟨by rfl, hO_2⟩) hS_13 dX3_look_27

set_option maxHeartbeats 4000000 in
set_option maxRecDepth 100000 in
theorem m_look_no (l : Launch) (D : kG) (H : Heap) (a : Nat) (ra : Nat) (sa : Nat) (ka : Nat) (ta : Nat) (sn : Nat) (ik : Bool) (tn : Nat) (th : Int) (sp : Int) (iw : Bool) (le : Int) (fi : Int) (se : Int) (g : Nat → Int) (S : Ls) (gap : Int) (x : Int) (w : Int) (hO_a : kO D H a 2 [.ref ra, .ref sa, .int (kI ((sn : Nat) : Int)), .ref ka, .int (kI (kb (ik))), .ref ta, .int (kI ((tn : Nat) : Int)), .int (kI (th)), .int (kI (sp)), .int (kI (kb (iw))), .int (kI (le)), .int (kI (fi)), .int (kI (se))]) (hA_ra : kAi D H ra 514 g) (hM : MRow g S gap) (hok : LsOK S gap) (ne_a_ra : a ≠ ra) (bs_a : kBase D ≤ a) (hr_x : -2147483648 ≤ x ∧ x ≤ 2147483647) (hno : ¬ (0 ≤ x ∧ x < S.length)) : Met l yX3_look (ws_ yX3_look cX3_look 3 (some .int)) ({ frames := 2, cells := 0, slots := 0, locals := 43 } : Room) (kPre D H [.ref a, .int (kI (x)), .int (kI (w))]) (kQi (fun (r : Int) H' => (r = 0) ∧ (kO D H' a 2 [.ref ra, .ref sa, .int (kI ((sn : Nat) : Int)), .ref ka, .int (kI (kb (ik))), .ref ta, .int (kI ((tn : Nat) : Int)), .int (kI (1)), .int (kI (sp)), .int (kI (kb (iw))), .int (kI (le)), .int (kI (fi)), .int (kI (se))])) (fun q : Nat => q = a)) (0) (0) ((fun q : Nat => q = a)) := by
  refine Met.ofW (cc := cX3_look) (maxL := 3) (ret := (some .int)) (by decide) rfl ?_
  intro p e s m args below meth c s₁ B hml hv
  obtain ⟨rfl, hH, hK⟩ := hv
  subst hH
  have hx := B.exec
  have hb := B.bytes
  have hr := B.returns
  have hts := atoms_spec (ws := ws_ yX3_look cX3_look 3 (some .int)) B.pre
  have hts : ∀ w ∈ lw_all, w.before _ s = true := fun w h => hts w (List.mem_cons_of_mem _ h)
  have hown : s.vm.findClass RX3 = some m.cls := findClass_of_methodNamed B.named
  have hlk := B.notSynchronized
  have hS : va_S (fun q : Nat => q = a) s.heap s.heap [] := va_S.rf
  have hB : ∀ q, (fun q : Nat => q = a) q → kBase D ≤ q := fun q h => by (try dsimp only at h); (try simp only [kNW] at h); have hks := hK.size; omega
  have hl := lv_entry ([.ref a, .int (kI (x)), .int (kI (w))]) (n := 3) (Nat.le_of_ble_eq_true rfl)
  rw [lg_entry_eq]
  generalize (lg_sl ([.ref a, .int (kI (x)), .int (kI (w))]) ++ List.replicate (3 - (lg_sl ([.ref a, .int (kI (x)), .int (kI (w))])).length) Slot.unset).toArray = ls at hl ⊢
  have hl : lv_has ls 3 [(0, .ref a), (1, .int (kI (x))), (2, .int (kI (w)))] := hl
  have hL8 := hok.1
  have hlen := hM.len
  refine lv_aload_n hx hb dX3_look_0 rfl (lv_at hl 0 rfl) ?_
  refine kx_iconst hx hb dX3_look_1 ?_
  refine kx_put (v := .int (kI (0))) (C := RX3) (T := TX3) (N := 13) hx hb hts in_X3 hown hK hO_a rfl 7 (by decide) tyX3 tyX3_ok nmX3 hS (by first | rfl | exact Or.inl rfl | exact Or.inr rfl | exact Or.inr (Or.inl rfl) | exact Or.inr (Or.inr rfl) | exact Or.inr (Or.inr (Or.inl rfl)) | exact Or.inr (Or.inr (Or.inr rfl)) | ((try dsimp only); (try simp only [kNW]); omega)) q2245 (fun _ h9 => h9) rfl rfl rfl rfl (Nat.le_of_ble_eq_true rfl) dX3_look_2 (fun H_3 locs_4 hO_2 hU_1 hS_5 => ?_)
  have hO_2 : kO D H_3 a 2 [.ref ra, .ref sa, .int (kI ((sn : Nat) : Int)), .ref ka, .int (kI (kb (ik))), .ref ta, .int (kI ((tn : Nat) : Int)), .int (kI (0)), .int (kI (sp)), .int (kI (kb (iw))), .int (kI (le)), .int (kI (fi)), .int (kI (se))] := hO_2
  refine lv_aload_n hx hb dX3_look_5 rfl (lv_at hl 0 rfl) ?_
  refine lv_iload_n hx hb dX3_look_6 rfl (lv_at hl 1 rfl) ?_
  have h_6 := hA_ra.up hU_1 (by first | assumption | exact Ne.symm (by assumption) | omega)
  refine kx_cb0 (va_runV (As := [.int (kI (x))]) (rest := []) ⟨hx, hb, hml, hown, hts⟩ (m_X3_isLine l D H_3 a ([.ref ra, .ref sa, .int (kI ((sn : Nat) : Int)), .ref ka, .int (kI (kb (ik))), .ref ta, .int (kI ((tn : Nat) : Int)), .int (kI (0)), .int (kI (sp)), .int (kI (kb (iw))), .int (kI (le)), .int (kI (fi)), .int (kI (se))]) ra g S gap x hO_2 rfl h_6 (by first | assumption | omega) (by first | assumption | omega) (by first | assumption | omega)) (cwV 1 hts (lw_V q2314 q2316 qs41 q89 q2317) rfl rfl rfl (by decide +kernel) ⟨Nat.le_of_ble_eq_true rfl, Nat.le_of_ble_eq_true rfl⟩) (kx_pv hK hS_5 hB (kx_rc hK hO_2 (C := RX3) (T := TX3) (N := 13) rfl)) rfl rfl hl.1 rfl (lv_room (Nat.le_of_ble_eq_true rfl)) dX3_look_7 ⟨by first | exact Nat.le_of_ble_eq_true rfl | omega | (show _ ≤ _; omega) | (dsimp only [headSpec]; omega), by first | exact Nat.le_of_ble_eq_true rfl | omega | (show _ ≤ _; omega) | (dsimp only [headSpec]; omega)⟩) hS_5 (fun z_10 locs_7 hz_9 hS_8 => ?_)
  subst z_10
  refine kx_ifz (tgt := 22) hx hb dX3_look_10 (by decide) (fun c_10_11 => ?_) (fun c_10_11 => ?_)
  · -- taken at 10
    have c_10_11 := of_decide_eq_false c_10_11
    refine lv_aload_n hx hb dX3_look_22 rfl (lv_at hl 0 rfl) ?_
    refine kx_iconst hx hb dX3_look_23 ?_
    refine kx_ci (va_runV (As := [.int (kI (1))]) (rest := []) ⟨hx, hb, hml, hown, hts⟩ (m_X3_fails l D H_3 a ra sa ka ta sn ik tn 0 sp iw le fi se 1 hO_2 (by first | assumption | omega)) (cwV 1 hts (lw_V q2455 q2457 qs64 q89 q2458) rfl rfl rfl (by decide +kernel) ⟨Nat.le_of_ble_eq_true rfl, Nat.le_of_ble_eq_true rfl⟩) (kx_pv hK hS_8 hB (kx_rc hK hO_2 (C := RX3) (T := TX3) (N := 13) rfl)) rfl rfl hl.1 rfl (lv_room (Nat.le_of_ble_eq_true rfl)) dX3_look_24 ⟨by first | exact Nat.le_of_ble_eq_true rfl | omega | (show _ ≤ _; omega) | (dsimp only [headSpec]; omega), by first | exact Nat.le_of_ble_eq_true rfl | omega | (show _ ≤ _; omega) | (dsimp only [headSpec]; omega)⟩) hS_8 (fun q _ h => by (try dsimp only at h); (try dsimp only); (try simp only [kNW] at h); (try simp only [kNW]); omega) (fun q h => by (try dsimp only at h); (try dsimp only); (try simp only [kNW] at h); (try simp only [kNW]); omega) (fun z_17 H_15 locs_12 hz_14 hF_16 hS_13 => ?_)
    refine W.widen (k := 0) (n := 0) (Nat.le_of_ble_eq_true rfl) (Nat.le_of_ble_eq_true rfl) ?_
    obtain ⟨hv_18, ho_19⟩ := hz_14
    subst z_17
    exact kx_iret (z := 0) hx hb hr hlk (⟨by rfl, ho_19⟩) hS_13 dX3_look_27
  · -- not taken at 10
    have c_10_11 := of_decide_eq_true c_10_11
    exfalso; omega

set_option maxHeartbeats 4000000 in
set_option maxRecDepth 100000 in
theorem m_X3_levelOf (l : Launch) (D : kG) (H : Heap) (a : Nat) (ra : Nat) (sa : Nat) (ka : Nat) (ta : Nat) (sn : Nat) (ik : Bool) (tn : Nat) (th : Int) (sp : Int) (iw : Bool) (le : Int) (fi : Int) (se : Int) (g : Nat → Int) (S : Ls) (gap : Int) (ln : Nat) (hO_a : kO D H a 2 [.ref ra, .ref sa, .int (kI ((sn : Nat) : Int)), .ref ka, .int (kI (kb (ik))), .ref ta, .int (kI ((tn : Nat) : Int)), .int (kI (th)), .int (kI (sp)), .int (kI (kb (iw))), .int (kI (le)), .int (kI (fi)), .int (kI (se))]) (hA_ra : kAi D H ra 514 g) (hM : MRow g S gap) (hok : LsOK S gap) (ne_a_ra : a ≠ ra) (bs_a : kBase D ≤ a) (hln : ln < S.length) : Met l yX3_levelOf (ws_ yX3_levelOf cX3_levelOf 2 (some .int)) ({ frames := 3, cells := 0, slots := 0, locals := 65 } : Room) (kPre D H [.ref a, .int (kI ((ln : Nat) : Int))]) (kQi (fun (r : Int) H' => (r = ln_lv (st_ln S ln)) ∧ (kO D H' a 2 [.ref ra, .ref sa, .int (kI ((sn : Nat) : Int)), .ref ka, .int (kI (kb (ik))), .ref ta, .int (kI ((tn : Nat) : Int)), .int (kI (0)), .int (kI (sp)), .int (kI (kb (iw))), .int (kI (le)), .int (kI (fi)), .int (kI (se))])) (fun q : Nat => q = a)) (0) (0) ((fun q : Nat => q = a)) := by
  refine Met.ofW (cc := cX3_levelOf) (maxL := 2) (ret := (some .int)) (by decide) rfl ?_
  intro p e s m args below meth c s₁ B hml hv
  obtain ⟨rfl, hH, hK⟩ := hv
  subst hH
  have hx := B.exec
  have hb := B.bytes
  have hr := B.returns
  have hts := atoms_spec (ws := ws_ yX3_levelOf cX3_levelOf 2 (some .int)) B.pre
  have hts : ∀ w ∈ lw_all, w.before _ s = true := fun w h => hts w (List.mem_cons_of_mem _ h)
  have hown : s.vm.findClass RX3 = some m.cls := findClass_of_methodNamed B.named
  have hlk := B.notSynchronized
  have hS : va_S (fun q : Nat => q = a) s.heap s.heap [] := va_S.rf
  have hB : ∀ q, (fun q : Nat => q = a) q → kBase D ≤ q := fun q h => by (try dsimp only at h); (try simp only [kNW] at h); have hks := hK.size; omega
  have hl := lv_entry ([.ref a, .int (kI ((ln : Nat) : Int))]) (n := 2) (Nat.le_of_ble_eq_true rfl)
  rw [lg_entry_eq]
  generalize (lg_sl ([.ref a, .int (kI ((ln : Nat) : Int))]) ++ List.replicate (2 - (lg_sl ([.ref a, .int (kI ((ln : Nat) : Int))])).length) Slot.unset).toArray = ls at hl ⊢
  have hl : lv_has ls 2 [(0, .ref a), (1, .int (kI ((ln : Nat) : Int)))] := hl
  have hL8 := hok.1
  have hlen := hM.len
  refine lv_aload_n hx hb dX3_levelOf_0 rfl (lv_at hl 0 rfl) ?_
  refine lv_iload_n hx hb dX3_levelOf_1 rfl (lv_at hl 1 rfl) ?_
  refine kx_iconst hx hb dX3_levelOf_2 ?_
  refine kx_ci (va_runV (As := [.int (kI ((ln : Nat) : Int)), .int (kI (0))]) (rest := []) ⟨hx, hb, hml, hown, hts⟩ (m_look_lv l D s.heap a ra sa ka ta sn ik tn th sp iw le fi se g S gap ln hO_a hA_ra (by first | assumption | omega) (by first | assumption | omega) (by first | assumption | omega) (by first | assumption | omega) (by first | assumption | omega)) (cwV 2 hts (lw_V q2451 q2453 qs63 q89 q2454) rfl rfl rfl (by decide +kernel) ⟨Nat.le_of_ble_eq_true rfl, Nat.le_of_ble_eq_true rfl⟩) (kx_pv hK hS hB (kx_rc hK hO_a (C := RX3) (T := TX3) (N := 13) rfl)) rfl rfl hl.1 rfl (lv_room (Nat.le_of_ble_eq_true rfl)) dX3_levelOf_3 ⟨by first | exact Nat.le_of_ble_eq_true rfl | omega | (show _ ≤ _; omega) | (dsimp only [headSpec]; omega), by first | exact Nat.le_of_ble_eq_true rfl | omega | (show _ ≤ _; omega) | (dsimp only [headSpec]; omega)⟩) hS (fun q _ h => by (try dsimp only at h); (try dsimp only); (try simp only [kNW] at h); (try simp only [kNW]); omega) (fun q h => by (try dsimp only at h); (try dsimp only); (try simp only [kNW] at h); (try simp only [kNW]); omega) (fun z_6 H_4 locs_1 hz_3 hF_5 hS_2 => ?_)
  refine W.widen (k := 0) (n := 0) (Nat.le_of_ble_eq_true rfl) (Nat.le_of_ble_eq_true rfl) ?_
  obtain ⟨hv_7, ho_8⟩ := hz_3
  subst z_6
  exact kx_iret (z := ln_lv (st_ln S ln)) hx hb hr hlk (⟨by rfl, ho_8⟩) hS_2 dX3_levelOf_6

set_option maxHeartbeats 4000000 in
set_option maxRecDepth 100000 in
theorem m_X3_levelOf_no (l : Launch) (D : kG) (H : Heap) (a : Nat) (ra : Nat) (sa : Nat) (ka : Nat) (ta : Nat) (sn : Nat) (ik : Bool) (tn : Nat) (th : Int) (sp : Int) (iw : Bool) (le : Int) (fi : Int) (se : Int) (g : Nat → Int) (S : Ls) (gap : Int) (x : Int) (hO_a : kO D H a 2 [.ref ra, .ref sa, .int (kI ((sn : Nat) : Int)), .ref ka, .int (kI (kb (ik))), .ref ta, .int (kI ((tn : Nat) : Int)), .int (kI (th)), .int (kI (sp)), .int (kI (kb (iw))), .int (kI (le)), .int (kI (fi)), .int (kI (se))]) (hA_ra : kAi D H ra 514 g) (hM : MRow g S gap) (hok : LsOK S gap) (ne_a_ra : a ≠ ra) (bs_a : kBase D ≤ a) (hr_x : -2147483648 ≤ x ∧ x ≤ 2147483647) (hno : ¬ (0 ≤ x ∧ x < S.length)) : Met l yX3_levelOf (ws_ yX3_levelOf cX3_levelOf 2 (some .int)) ({ frames := 3, cells := 0, slots := 0, locals := 65 } : Room) (kPre D H [.ref a, .int (kI (x))]) (kQi (fun (r : Int) H' => (r = 0) ∧ (kO D H' a 2 [.ref ra, .ref sa, .int (kI ((sn : Nat) : Int)), .ref ka, .int (kI (kb (ik))), .ref ta, .int (kI ((tn : Nat) : Int)), .int (kI (1)), .int (kI (sp)), .int (kI (kb (iw))), .int (kI (le)), .int (kI (fi)), .int (kI (se))])) (fun q : Nat => q = a)) (0) (0) ((fun q : Nat => q = a)) := by
  refine Met.ofW (cc := cX3_levelOf) (maxL := 2) (ret := (some .int)) (by decide) rfl ?_
  intro p e s m args below meth c s₁ B hml hv
  obtain ⟨rfl, hH, hK⟩ := hv
  subst hH
  have hx := B.exec
  have hb := B.bytes
  have hr := B.returns
  have hts := atoms_spec (ws := ws_ yX3_levelOf cX3_levelOf 2 (some .int)) B.pre
  have hts : ∀ w ∈ lw_all, w.before _ s = true := fun w h => hts w (List.mem_cons_of_mem _ h)
  have hown : s.vm.findClass RX3 = some m.cls := findClass_of_methodNamed B.named
  have hlk := B.notSynchronized
  have hS : va_S (fun q : Nat => q = a) s.heap s.heap [] := va_S.rf
  have hB : ∀ q, (fun q : Nat => q = a) q → kBase D ≤ q := fun q h => by (try dsimp only at h); (try simp only [kNW] at h); have hks := hK.size; omega
  have hl := lv_entry ([.ref a, .int (kI (x))]) (n := 2) (Nat.le_of_ble_eq_true rfl)
  rw [lg_entry_eq]
  generalize (lg_sl ([.ref a, .int (kI (x))]) ++ List.replicate (2 - (lg_sl ([.ref a, .int (kI (x))])).length) Slot.unset).toArray = ls at hl ⊢
  have hl : lv_has ls 2 [(0, .ref a), (1, .int (kI (x)))] := hl
  have hL8 := hok.1
  have hlen := hM.len
  refine lv_aload_n hx hb dX3_levelOf_0 rfl (lv_at hl 0 rfl) ?_
  refine lv_iload_n hx hb dX3_levelOf_1 rfl (lv_at hl 1 rfl) ?_
  refine kx_iconst hx hb dX3_levelOf_2 ?_
  refine kx_ci (va_runV (As := [.int (kI (x)), .int (kI (0))]) (rest := []) ⟨hx, hb, hml, hown, hts⟩ (m_look_no l D s.heap a ra sa ka ta sn ik tn th sp iw le fi se g S gap x 0 hO_a hA_ra (by first | assumption | omega) (by first | assumption | omega) (by first | assumption | omega) (by first | assumption | omega) (by first | assumption | omega) (by first | assumption | omega)) (cwV 2 hts (lw_V q2451 q2453 qs63 q89 q2454) rfl rfl rfl (by decide +kernel) ⟨Nat.le_of_ble_eq_true rfl, Nat.le_of_ble_eq_true rfl⟩) (kx_pv hK hS hB (kx_rc hK hO_a (C := RX3) (T := TX3) (N := 13) rfl)) rfl rfl hl.1 rfl (lv_room (Nat.le_of_ble_eq_true rfl)) dX3_levelOf_3 ⟨by first | exact Nat.le_of_ble_eq_true rfl | omega | (show _ ≤ _; omega) | (dsimp only [headSpec]; omega), by first | exact Nat.le_of_ble_eq_true rfl | omega | (show _ ≤ _; omega) | (dsimp only [headSpec]; omega)⟩) hS (fun q _ h => by (try dsimp only at h); (try dsimp only); (try simp only [kNW] at h); (try simp only [kNW]); omega) (fun q h => by (try dsimp only at h); (try dsimp only); (try simp only [kNW] at h); (try simp only [kNW]); omega) (fun z_6 H_4 locs_1 hz_3 hF_5 hS_2 => ?_)
  refine W.widen (k := 0) (n := 0) (Nat.le_of_ble_eq_true rfl) (Nat.le_of_ble_eq_true rfl) ?_
  obtain ⟨hv_7, ho_8⟩ := hz_3
  subst z_6
  exact kx_iret (z := 0) hx hb hr hlk (⟨by rfl, ho_8⟩) hS_2 dX3_levelOf_6

set_option maxHeartbeats 4000000 in
set_option maxRecDepth 100000 in
theorem m_X3_stepsOf (l : Launch) (D : kG) (H : Heap) (a : Nat) (ra : Nat) (sa : Nat) (ka : Nat) (ta : Nat) (sn : Nat) (ik : Bool) (tn : Nat) (th : Int) (sp : Int) (iw : Bool) (le : Int) (fi : Int) (se : Int) (g : Nat → Int) (S : Ls) (gap : Int) (ln : Nat) (hO_a : kO D H a 2 [.ref ra, .ref sa, .int (kI ((sn : Nat) : Int)), .ref ka, .int (kI (kb (ik))), .ref ta, .int (kI ((tn : Nat) : Int)), .int (kI (th)), .int (kI (sp)), .int (kI (kb (iw))), .int (kI (le)), .int (kI (fi)), .int (kI (se))]) (hA_ra : kAi D H ra 514 g) (hM : MRow g S gap) (hok : LsOK S gap) (ne_a_ra : a ≠ ra) (bs_a : kBase D ≤ a) (hln : ln < S.length) : Met l yX3_stepsOf (ws_ yX3_stepsOf cX3_stepsOf 2 (some .int)) ({ frames := 3, cells := 0, slots := 0, locals := 65 } : Room) (kPre D H [.ref a, .int (kI ((ln : Nat) : Int))]) (kQi (fun (r : Int) H' => (r = ((ln_n (st_ln S ln) : Nat) : Int)) ∧ (kO D H' a 2 [.ref ra, .ref sa, .int (kI ((sn : Nat) : Int)), .ref ka, .int (kI (kb (ik))), .ref ta, .int (kI ((tn : Nat) : Int)), .int (kI (0)), .int (kI (sp)), .int (kI (kb (iw))), .int (kI (le)), .int (kI (fi)), .int (kI (se))])) (fun q : Nat => q = a)) (0) (0) ((fun q : Nat => q = a)) := by
  refine Met.ofW (cc := cX3_stepsOf) (maxL := 2) (ret := (some .int)) (by decide) rfl ?_
  intro p e s m args below meth c s₁ B hml hv
  obtain ⟨rfl, hH, hK⟩ := hv
  subst hH
  have hx := B.exec
  have hb := B.bytes
  have hr := B.returns
  have hts := atoms_spec (ws := ws_ yX3_stepsOf cX3_stepsOf 2 (some .int)) B.pre
  have hts : ∀ w ∈ lw_all, w.before _ s = true := fun w h => hts w (List.mem_cons_of_mem _ h)
  have hown : s.vm.findClass RX3 = some m.cls := findClass_of_methodNamed B.named
  have hlk := B.notSynchronized
  have hS : va_S (fun q : Nat => q = a) s.heap s.heap [] := va_S.rf
  have hB : ∀ q, (fun q : Nat => q = a) q → kBase D ≤ q := fun q h => by (try dsimp only at h); (try simp only [kNW] at h); have hks := hK.size; omega
  have hl := lv_entry ([.ref a, .int (kI ((ln : Nat) : Int))]) (n := 2) (Nat.le_of_ble_eq_true rfl)
  rw [lg_entry_eq]
  generalize (lg_sl ([.ref a, .int (kI ((ln : Nat) : Int))]) ++ List.replicate (2 - (lg_sl ([.ref a, .int (kI ((ln : Nat) : Int))])).length) Slot.unset).toArray = ls at hl ⊢
  have hl : lv_has ls 2 [(0, .ref a), (1, .int (kI ((ln : Nat) : Int)))] := hl
  have hL8 := hok.1
  have hlen := hM.len
  refine lv_aload_n hx hb dX3_stepsOf_0 rfl (lv_at hl 0 rfl) ?_
  refine lv_iload_n hx hb dX3_stepsOf_1 rfl (lv_at hl 1 rfl) ?_
  refine kx_iconst hx hb dX3_stepsOf_2 ?_
  refine kx_ci (va_runV (As := [.int (kI ((ln : Nat) : Int)), .int (kI (2))]) (rest := []) ⟨hx, hb, hml, hown, hts⟩ (m_look_n l D s.heap a ra sa ka ta sn ik tn th sp iw le fi se g S gap ln hO_a hA_ra (by first | assumption | omega) (by first | assumption | omega) (by first | assumption | omega) (by first | assumption | omega) (by first | assumption | omega)) (cwV 2 hts (lw_V q2451 q2453 qs63 q89 q2454) rfl rfl rfl (by decide +kernel) ⟨Nat.le_of_ble_eq_true rfl, Nat.le_of_ble_eq_true rfl⟩) (kx_pv hK hS hB (kx_rc hK hO_a (C := RX3) (T := TX3) (N := 13) rfl)) rfl rfl hl.1 rfl (lv_room (Nat.le_of_ble_eq_true rfl)) dX3_stepsOf_3 ⟨by first | exact Nat.le_of_ble_eq_true rfl | omega | (show _ ≤ _; omega) | (dsimp only [headSpec]; omega), by first | exact Nat.le_of_ble_eq_true rfl | omega | (show _ ≤ _; omega) | (dsimp only [headSpec]; omega)⟩) hS (fun q _ h => by (try dsimp only at h); (try dsimp only); (try simp only [kNW] at h); (try simp only [kNW]); omega) (fun q h => by (try dsimp only at h); (try dsimp only); (try simp only [kNW] at h); (try simp only [kNW]); omega) (fun z_6 H_4 locs_1 hz_3 hF_5 hS_2 => ?_)
  refine W.widen (k := 0) (n := 0) (Nat.le_of_ble_eq_true rfl) (Nat.le_of_ble_eq_true rfl) ?_
  obtain ⟨hv_7, ho_8⟩ := hz_3
  subst z_6
  exact kx_iret (z := ((ln_n (st_ln S ln) : Nat) : Int)) hx hb hr hlk (⟨by rfl, ho_8⟩) hS_2 dX3_stepsOf_6

set_option maxHeartbeats 4000000 in
set_option maxRecDepth 100000 in
theorem m_X3_stepsOf_no (l : Launch) (D : kG) (H : Heap) (a : Nat) (ra : Nat) (sa : Nat) (ka : Nat) (ta : Nat) (sn : Nat) (ik : Bool) (tn : Nat) (th : Int) (sp : Int) (iw : Bool) (le : Int) (fi : Int) (se : Int) (g : Nat → Int) (S : Ls) (gap : Int) (x : Int) (hO_a : kO D H a 2 [.ref ra, .ref sa, .int (kI ((sn : Nat) : Int)), .ref ka, .int (kI (kb (ik))), .ref ta, .int (kI ((tn : Nat) : Int)), .int (kI (th)), .int (kI (sp)), .int (kI (kb (iw))), .int (kI (le)), .int (kI (fi)), .int (kI (se))]) (hA_ra : kAi D H ra 514 g) (hM : MRow g S gap) (hok : LsOK S gap) (ne_a_ra : a ≠ ra) (bs_a : kBase D ≤ a) (hr_x : -2147483648 ≤ x ∧ x ≤ 2147483647) (hno : ¬ (0 ≤ x ∧ x < S.length)) : Met l yX3_stepsOf (ws_ yX3_stepsOf cX3_stepsOf 2 (some .int)) ({ frames := 3, cells := 0, slots := 0, locals := 65 } : Room) (kPre D H [.ref a, .int (kI (x))]) (kQi (fun (r : Int) H' => (r = 0) ∧ (kO D H' a 2 [.ref ra, .ref sa, .int (kI ((sn : Nat) : Int)), .ref ka, .int (kI (kb (ik))), .ref ta, .int (kI ((tn : Nat) : Int)), .int (kI (1)), .int (kI (sp)), .int (kI (kb (iw))), .int (kI (le)), .int (kI (fi)), .int (kI (se))])) (fun q : Nat => q = a)) (0) (0) ((fun q : Nat => q = a)) := by
  refine Met.ofW (cc := cX3_stepsOf) (maxL := 2) (ret := (some .int)) (by decide) rfl ?_
  intro p e s m args below meth c s₁ B hml hv
  obtain ⟨rfl, hH, hK⟩ := hv
  subst hH
  have hx := B.exec
  have hb := B.bytes
  have hr := B.returns
  have hts := atoms_spec (ws := ws_ yX3_stepsOf cX3_stepsOf 2 (some .int)) B.pre
  have hts : ∀ w ∈ lw_all, w.before _ s = true := fun w h => hts w (List.mem_cons_of_mem _ h)
  have hown : s.vm.findClass RX3 = some m.cls := findClass_of_methodNamed B.named
  have hlk := B.notSynchronized
  have hS : va_S (fun q : Nat => q = a) s.heap s.heap [] := va_S.rf
  have hB : ∀ q, (fun q : Nat => q = a) q → kBase D ≤ q := fun q h => by (try dsimp only at h); (try simp only [kNW] at h); have hks := hK.size; omega
  have hl := lv_entry ([.ref a, .int (kI (x))]) (n := 2) (Nat.le_of_ble_eq_true rfl)
  rw [lg_entry_eq]
  generalize (lg_sl ([.ref a, .int (kI (x))]) ++ List.replicate (2 - (lg_sl ([.ref a, .int (kI (x))])).length) Slot.unset).toArray = ls at hl ⊢
  have hl : lv_has ls 2 [(0, .ref a), (1, .int (kI (x)))] := hl
  have hL8 := hok.1
  have hlen := hM.len
  refine lv_aload_n hx hb dX3_stepsOf_0 rfl (lv_at hl 0 rfl) ?_
  refine lv_iload_n hx hb dX3_stepsOf_1 rfl (lv_at hl 1 rfl) ?_
  refine kx_iconst hx hb dX3_stepsOf_2 ?_
  refine kx_ci (va_runV (As := [.int (kI (x)), .int (kI (2))]) (rest := []) ⟨hx, hb, hml, hown, hts⟩ (m_look_no l D s.heap a ra sa ka ta sn ik tn th sp iw le fi se g S gap x 2 hO_a hA_ra (by first | assumption | omega) (by first | assumption | omega) (by first | assumption | omega) (by first | assumption | omega) (by first | assumption | omega) (by first | assumption | omega)) (cwV 2 hts (lw_V q2451 q2453 qs63 q89 q2454) rfl rfl rfl (by decide +kernel) ⟨Nat.le_of_ble_eq_true rfl, Nat.le_of_ble_eq_true rfl⟩) (kx_pv hK hS hB (kx_rc hK hO_a (C := RX3) (T := TX3) (N := 13) rfl)) rfl rfl hl.1 rfl (lv_room (Nat.le_of_ble_eq_true rfl)) dX3_stepsOf_3 ⟨by first | exact Nat.le_of_ble_eq_true rfl | omega | (show _ ≤ _; omega) | (dsimp only [headSpec]; omega), by first | exact Nat.le_of_ble_eq_true rfl | omega | (show _ ≤ _; omega) | (dsimp only [headSpec]; omega)⟩) hS (fun q _ h => by (try dsimp only at h); (try dsimp only); (try simp only [kNW] at h); (try simp only [kNW]); omega) (fun q h => by (try dsimp only at h); (try dsimp only); (try simp only [kNW] at h); (try simp only [kNW]); omega) (fun z_6 H_4 locs_1 hz_3 hF_5 hS_2 => ?_)
  refine W.widen (k := 0) (n := 0) (Nat.le_of_ble_eq_true rfl) (Nat.le_of_ble_eq_true rfl) ?_
  obtain ⟨hv_7, ho_8⟩ := hz_3
  subst z_6
  exact kx_iret (z := 0) hx hb hr hlk (⟨by rfl, ho_8⟩) hS_2 dX3_stepsOf_6

set_option maxHeartbeats 4000000 in
set_option maxRecDepth 100000 in
theorem m_X3_labelOf (l : Launch) (D : kG) (H : Heap) (a : Nat) (ra : Nat) (sa : Nat) (ka : Nat) (ta : Nat) (sn : Nat) (ik : Bool) (tn : Nat) (th : Int) (sp : Int) (iw : Bool) (le : Int) (fi : Int) (se : Int) (g : Nat → Int) (S : Ls) (gap : Int) (ln : Nat) (hO_a : kO D H a 2 [.ref ra, .ref sa, .int (kI ((sn : Nat) : Int)), .ref ka, .int (kI (kb (ik))), .ref ta, .int (kI ((tn : Nat) : Int)), .int (kI (th)), .int (kI (sp)), .int (kI (kb (iw))), .int (kI (le)), .int (kI (fi)), .int (kI (se))]) (hA_ra : kAi D H ra 514 g) (hM : MRow g S gap) (hok : LsOK S gap) (ne_a_ra : a ≠ ra) (bs_a : kBase D ≤ a) (hln : ln < S.length) : Met l yX3_labelOf (ws_ yX3_labelOf cX3_labelOf 2 (some .int)) ({ frames := 3, cells := 0, slots := 0, locals := 65 } : Room) (kPre D H [.ref a, .int (kI ((ln : Nat) : Int))]) (kQi (fun (r : Int) H' => (r = ln_lb (st_ln S ln)) ∧ (kO D H' a 2 [.ref ra, .ref sa, .int (kI ((sn : Nat) : Int)), .ref ka, .int (kI (kb (ik))), .ref ta, .int (kI ((tn : Nat) : Int)), .int (kI (0)), .int (kI (sp)), .int (kI (kb (iw))), .int (kI (le)), .int (kI (fi)), .int (kI (se))])) (fun q : Nat => q = a)) (0) (0) ((fun q : Nat => q = a)) := by
  refine Met.ofW (cc := cX3_labelOf) (maxL := 2) (ret := (some .int)) (by decide) rfl ?_
  intro p e s m args below meth c s₁ B hml hv
  obtain ⟨rfl, hH, hK⟩ := hv
  subst hH
  have hx := B.exec
  have hb := B.bytes
  have hr := B.returns
  have hts := atoms_spec (ws := ws_ yX3_labelOf cX3_labelOf 2 (some .int)) B.pre
  have hts : ∀ w ∈ lw_all, w.before _ s = true := fun w h => hts w (List.mem_cons_of_mem _ h)
  have hown : s.vm.findClass RX3 = some m.cls := findClass_of_methodNamed B.named
  have hlk := B.notSynchronized
  have hS : va_S (fun q : Nat => q = a) s.heap s.heap [] := va_S.rf
  have hB : ∀ q, (fun q : Nat => q = a) q → kBase D ≤ q := fun q h => by (try dsimp only at h); (try simp only [kNW] at h); have hks := hK.size; omega
  have hl := lv_entry ([.ref a, .int (kI ((ln : Nat) : Int))]) (n := 2) (Nat.le_of_ble_eq_true rfl)
  rw [lg_entry_eq]
  generalize (lg_sl ([.ref a, .int (kI ((ln : Nat) : Int))]) ++ List.replicate (2 - (lg_sl ([.ref a, .int (kI ((ln : Nat) : Int))])).length) Slot.unset).toArray = ls at hl ⊢
  have hl : lv_has ls 2 [(0, .ref a), (1, .int (kI ((ln : Nat) : Int)))] := hl
  have hL8 := hok.1
  have hlen := hM.len
  refine lv_aload_n hx hb dX3_labelOf_0 rfl (lv_at hl 0 rfl) ?_
  refine lv_iload_n hx hb dX3_labelOf_1 rfl (lv_at hl 1 rfl) ?_
  refine kx_iconst hx hb dX3_labelOf_2 ?_
  refine kx_ci (va_runV (As := [.int (kI ((ln : Nat) : Int)), .int (kI (3))]) (rest := []) ⟨hx, hb, hml, hown, hts⟩ (m_look_lb l D s.heap a ra sa ka ta sn ik tn th sp iw le fi se g S gap ln hO_a hA_ra (by first | assumption | omega) (by first | assumption | omega) (by first | assumption | omega) (by first | assumption | omega) (by first | assumption | omega)) (cwV 2 hts (lw_V q2451 q2453 qs63 q89 q2454) rfl rfl rfl (by decide +kernel) ⟨Nat.le_of_ble_eq_true rfl, Nat.le_of_ble_eq_true rfl⟩) (kx_pv hK hS hB (kx_rc hK hO_a (C := RX3) (T := TX3) (N := 13) rfl)) rfl rfl hl.1 rfl (lv_room (Nat.le_of_ble_eq_true rfl)) dX3_labelOf_3 ⟨by first | exact Nat.le_of_ble_eq_true rfl | omega | (show _ ≤ _; omega) | (dsimp only [headSpec]; omega), by first | exact Nat.le_of_ble_eq_true rfl | omega | (show _ ≤ _; omega) | (dsimp only [headSpec]; omega)⟩) hS (fun q _ h => by (try dsimp only at h); (try dsimp only); (try simp only [kNW] at h); (try simp only [kNW]); omega) (fun q h => by (try dsimp only at h); (try dsimp only); (try simp only [kNW] at h); (try simp only [kNW]); omega) (fun z_6 H_4 locs_1 hz_3 hF_5 hS_2 => ?_)
  refine W.widen (k := 0) (n := 0) (Nat.le_of_ble_eq_true rfl) (Nat.le_of_ble_eq_true rfl) ?_
  obtain ⟨hv_7, ho_8⟩ := hz_3
  subst z_6
  exact kx_iret (z := ln_lb (st_ln S ln)) hx hb hr hlk (⟨by rfl, ho_8⟩) hS_2 dX3_labelOf_6

set_option maxHeartbeats 4000000 in
set_option maxRecDepth 100000 in
theorem m_X3_labelOf_no (l : Launch) (D : kG) (H : Heap) (a : Nat) (ra : Nat) (sa : Nat) (ka : Nat) (ta : Nat) (sn : Nat) (ik : Bool) (tn : Nat) (th : Int) (sp : Int) (iw : Bool) (le : Int) (fi : Int) (se : Int) (g : Nat → Int) (S : Ls) (gap : Int) (x : Int) (hO_a : kO D H a 2 [.ref ra, .ref sa, .int (kI ((sn : Nat) : Int)), .ref ka, .int (kI (kb (ik))), .ref ta, .int (kI ((tn : Nat) : Int)), .int (kI (th)), .int (kI (sp)), .int (kI (kb (iw))), .int (kI (le)), .int (kI (fi)), .int (kI (se))]) (hA_ra : kAi D H ra 514 g) (hM : MRow g S gap) (hok : LsOK S gap) (ne_a_ra : a ≠ ra) (bs_a : kBase D ≤ a) (hr_x : -2147483648 ≤ x ∧ x ≤ 2147483647) (hno : ¬ (0 ≤ x ∧ x < S.length)) : Met l yX3_labelOf (ws_ yX3_labelOf cX3_labelOf 2 (some .int)) ({ frames := 3, cells := 0, slots := 0, locals := 65 } : Room) (kPre D H [.ref a, .int (kI (x))]) (kQi (fun (r : Int) H' => (r = 0) ∧ (kO D H' a 2 [.ref ra, .ref sa, .int (kI ((sn : Nat) : Int)), .ref ka, .int (kI (kb (ik))), .ref ta, .int (kI ((tn : Nat) : Int)), .int (kI (1)), .int (kI (sp)), .int (kI (kb (iw))), .int (kI (le)), .int (kI (fi)), .int (kI (se))])) (fun q : Nat => q = a)) (0) (0) ((fun q : Nat => q = a)) := by
  refine Met.ofW (cc := cX3_labelOf) (maxL := 2) (ret := (some .int)) (by decide) rfl ?_
  intro p e s m args below meth c s₁ B hml hv
  obtain ⟨rfl, hH, hK⟩ := hv
  subst hH
  have hx := B.exec
  have hb := B.bytes
  have hr := B.returns
  have hts := atoms_spec (ws := ws_ yX3_labelOf cX3_labelOf 2 (some .int)) B.pre
  have hts : ∀ w ∈ lw_all, w.before _ s = true := fun w h => hts w (List.mem_cons_of_mem _ h)
  have hown : s.vm.findClass RX3 = some m.cls := findClass_of_methodNamed B.named
  have hlk := B.notSynchronized
  have hS : va_S (fun q : Nat => q = a) s.heap s.heap [] := va_S.rf
  have hB : ∀ q, (fun q : Nat => q = a) q → kBase D ≤ q := fun q h => by (try dsimp only at h); (try simp only [kNW] at h); have hks := hK.size; omega
  have hl := lv_entry ([.ref a, .int (kI (x))]) (n := 2) (Nat.le_of_ble_eq_true rfl)
  rw [lg_entry_eq]
  generalize (lg_sl ([.ref a, .int (kI (x))]) ++ List.replicate (2 - (lg_sl ([.ref a, .int (kI (x))])).length) Slot.unset).toArray = ls at hl ⊢
  have hl : lv_has ls 2 [(0, .ref a), (1, .int (kI (x)))] := hl
  have hL8 := hok.1
  have hlen := hM.len
  refine lv_aload_n hx hb dX3_labelOf_0 rfl (lv_at hl 0 rfl) ?_
  refine lv_iload_n hx hb dX3_labelOf_1 rfl (lv_at hl 1 rfl) ?_
  refine kx_iconst hx hb dX3_labelOf_2 ?_
  refine kx_ci (va_runV (As := [.int (kI (x)), .int (kI (3))]) (rest := []) ⟨hx, hb, hml, hown, hts⟩ (m_look_no l D s.heap a ra sa ka ta sn ik tn th sp iw le fi se g S gap x 3 hO_a hA_ra (by first | assumption | omega) (by first | assumption | omega) (by first | assumption | omega) (by first | assumption | omega) (by first | assumption | omega) (by first | assumption | omega)) (cwV 2 hts (lw_V q2451 q2453 qs63 q89 q2454) rfl rfl rfl (by decide +kernel) ⟨Nat.le_of_ble_eq_true rfl, Nat.le_of_ble_eq_true rfl⟩) (kx_pv hK hS hB (kx_rc hK hO_a (C := RX3) (T := TX3) (N := 13) rfl)) rfl rfl hl.1 rfl (lv_room (Nat.le_of_ble_eq_true rfl)) dX3_labelOf_3 ⟨by first | exact Nat.le_of_ble_eq_true rfl | omega | (show _ ≤ _; omega) | (dsimp only [headSpec]; omega), by first | exact Nat.le_of_ble_eq_true rfl | omega | (show _ ≤ _; omega) | (dsimp only [headSpec]; omega)⟩) hS (fun q _ h => by (try dsimp only at h); (try dsimp only); (try simp only [kNW] at h); (try simp only [kNW]); omega) (fun q h => by (try dsimp only at h); (try dsimp only); (try simp only [kNW] at h); (try simp only [kNW]); omega) (fun z_6 H_4 locs_1 hz_3 hF_5 hS_2 => ?_)
  refine W.widen (k := 0) (n := 0) (Nat.le_of_ble_eq_true rfl) (Nat.le_of_ble_eq_true rfl) ?_
  obtain ⟨hv_7, ho_8⟩ := hz_3
  subst z_6
  exact kx_iret (z := 0) hx hb hr hlk (⟨by rfl, ho_8⟩) hS_2 dX3_labelOf_6

set_option maxHeartbeats 4000000 in
set_option maxRecDepth 100000 in
theorem m_X3_pointOf (l : Launch) (D : kG) (H : Heap) (a : Nat) (ra : Nat) (sa : Nat) (ka : Nat) (ta : Nat) (sn : Nat) (ik : Bool) (tn : Nat) (th : Int) (sp : Int) (iw : Bool) (le : Int) (fi : Int) (se : Int) (g : Nat → Int) (S : Ls) (gap : Int) (ln : Nat) (k : Nat) (hO_a : kO D H a 2 [.ref ra, .ref sa, .int (kI ((sn : Nat) : Int)), .ref ka, .int (kI (kb (ik))), .ref ta, .int (kI ((tn : Nat) : Int)), .int (kI (th)), .int (kI (sp)), .int (kI (kb (iw))), .int (kI (le)), .int (kI (fi)), .int (kI (se))]) (hA_ra : kAi D H ra 514 g) (hM : MRow g S gap) (hok : LsOK S gap) (ne_a_ra : a ≠ ra) (bs_a : kBase D ≤ a) (hln : ln < S.length) (hk : k ≤ ln_n (st_ln S ln)) : Met l yX3_pointOf (ws_ yX3_pointOf cX3_pointOf 3 (some .int)) ({ frames := 3, cells := 0, slots := 0, locals := 66 } : Room) (kPre D H [.ref a, .int (kI ((ln : Nat) : Int)), .int (kI ((k : Nat) : Int))]) (kQi (fun (r : Int) H' => (r = ln_pos (st_ln S ln) k) ∧ (kO D H' a 2 [.ref ra, .ref sa, .int (kI ((sn : Nat) : Int)), .ref ka, .int (kI (kb (ik))), .ref ta, .int (kI ((tn : Nat) : Int)), .int (kI (0)), .int (kI (sp)), .int (kI (kb (iw))), .int (kI (le)), .int (kI (fi)), .int (kI (se))])) (fun q : Nat => q = a)) (0) (0) ((fun q : Nat => q = a)) := by
  refine Met.ofW (cc := cX3_pointOf) (maxL := 3) (ret := (some .int)) (by decide) rfl ?_
  intro p e s m args below meth c s₁ B hml hv
  obtain ⟨rfl, hH, hK⟩ := hv
  subst hH
  have hx := B.exec
  have hb := B.bytes
  have hr := B.returns
  have hts := atoms_spec (ws := ws_ yX3_pointOf cX3_pointOf 3 (some .int)) B.pre
  have hts : ∀ w ∈ lw_all, w.before _ s = true := fun w h => hts w (List.mem_cons_of_mem _ h)
  have hown : s.vm.findClass RX3 = some m.cls := findClass_of_methodNamed B.named
  have hlk := B.notSynchronized
  have hS : va_S (fun q : Nat => q = a) s.heap s.heap [] := va_S.rf
  have hB : ∀ q, (fun q : Nat => q = a) q → kBase D ≤ q := fun q h => by (try dsimp only at h); (try simp only [kNW] at h); have hks := hK.size; omega
  have hl := lv_entry ([.ref a, .int (kI ((ln : Nat) : Int)), .int (kI ((k : Nat) : Int))]) (n := 3) (Nat.le_of_ble_eq_true rfl)
  rw [lg_entry_eq]
  generalize (lg_sl ([.ref a, .int (kI ((ln : Nat) : Int)), .int (kI ((k : Nat) : Int))]) ++ List.replicate (3 - (lg_sl ([.ref a, .int (kI ((ln : Nat) : Int)), .int (kI ((k : Nat) : Int))])).length) Slot.unset).toArray = ls at hl ⊢
  have hl : lv_has ls 3 [(0, .ref a), (1, .int (kI ((ln : Nat) : Int))), (2, .int (kI ((k : Nat) : Int)))] := hl
  have hL := hok.ln hln
  have hL60 := hL.n
  have hL8 := hok.1
  refine lv_aload_n hx hb dX3_pointOf_0 rfl (lv_at hl 0 rfl) ?_
  refine lv_iload_n hx hb dX3_pointOf_1 rfl (lv_at hl 1 rfl) ?_
  refine lv_iload_n hx hb dX3_pointOf_2 rfl (lv_at hl 2 rfl) ?_
  refine kx_cb (va_runV (As := [.int (kI ((ln : Nat) : Int)), .int (kI ((k : Nat) : Int))]) (rest := []) ⟨hx, hb, hml, hown, hts⟩ (m_X3_has l D s.heap a ra sa ka ta sn ik tn th sp iw le fi se g S gap ln k hO_a hA_ra (by first | assumption | omega) (by first | assumption | omega) (by first | assumption | omega) (by first | assumption | omega) (by first | assumption | omega) (by first | assumption | omega)) (cwV 2 hts (lw_V q2467 q2469 qs65 q89 q2470) rfl rfl rfl (by decide +kernel) ⟨Nat.le_of_ble_eq_true rfl, Nat.le_of_ble_eq_true rfl⟩) (kx_pv hK hS hB (kx_rc hK hO_a (C := RX3) (T := TX3) (N := 13) rfl)) rfl rfl hl.1 rfl (lv_room (Nat.le_of_ble_eq_true rfl)) dX3_pointOf_3 ⟨by first | exact Nat.le_of_ble_eq_true rfl | omega | (show _ ≤ _; omega) | (dsimp only [headSpec]; omega), by first | exact Nat.le_of_ble_eq_true rfl | omega | (show _ ≤ _; omega) | (dsimp only [headSpec]; omega)⟩) hS (fun q _ h => by (try dsimp only at h); (try dsimp only); (try simp only [kNW] at h); (try simp only [kNW]); omega) (fun q h => by (try dsimp only at h); (try dsimp only); (try simp only [kNW] at h); (try simp only [kNW]); omega) (fun z_6 H_4 locs_1 hz_3 hF_5 hS_2 => ?_)
  refine W.widen (k := 0) (n := 0) (Nat.le_of_ble_eq_true rfl) (Nat.le_of_ble_eq_true rfl) ?_
  obtain ⟨hv_7, ho_8⟩ := hz_3
  subst z_6
  refine kx_ifz (tgt := 18) hx hb dX3_pointOf_6 (by decide) (fun c_6_9 => ?_) (fun c_6_9 => ?_)
  · -- taken at 6
    exact absurd c_6_9 (by decide)
  · -- not taken at 6
    refine lv_aload_n hx hb dX3_pointOf_9 rfl (lv_at hl 0 rfl) ?_
    refine lv_iload_n hx hb dX3_pointOf_10 rfl (lv_at hl 1 rfl) ?_
    refine lv_iload_n hx hb dX3_pointOf_11 rfl (lv_at hl 2 rfl) ?_
    have h_10 := hA_ra.fr hF_5 (fun h => by (try dsimp only at h); (try simp only [kNW] at h); omega)
    refine kx_ci0 (va_runV (As := [.int (kI ((ln : Nat) : Int)), .int (kI ((k : Nat) : Int))]) (rest := []) ⟨hx, hb, hml, hown, hts⟩ (m_X3_at l D H_4 a ([.ref ra, .ref sa, .int (kI ((sn : Nat) : Int)), .ref ka, .int (kI (kb (ik))), .ref ta, .int (kI ((tn : Nat) : Int)), .int (kI (0)), .int (kI (sp)), .int (kI (kb (iw))), .int (kI (le)), .int (kI (fi)), .int (kI (se))]) ra g S gap ln k ho_8 rfl h_10 (by first | assumption | omega) (by first | assumption | omega) (by first | assumption | omega) (by first | assumption | omega)) (cwV 2 hts (lw_V q2330 q2332 qs45 q89 q2333) rfl rfl rfl (by decide +kernel) ⟨Nat.le_of_ble_eq_true rfl, Nat.le_of_ble_eq_true rfl⟩) (kx_pv hK hS_2 hB (kx_rc hK ho_8 (C := RX3) (T := TX3) (N := 13) rfl)) rfl rfl hl.1 rfl (lv_room (Nat.le_of_ble_eq_true rfl)) dX3_pointOf_12 ⟨by first | exact Nat.le_of_ble_eq_true rfl | omega | (show _ ≤ _; omega) | (dsimp only [headSpec]; omega), by first | exact Nat.le_of_ble_eq_true rfl | omega | (show _ ≤ _; omega) | (dsimp only [headSpec]; omega)⟩) hS_2 (fun z_14 locs_11 hz_13 hS_12 => ?_)
    subst z_14
    refine lv_goto (tgt := 19) hx hb dX3_pointOf_15 (by decide) ?_
    exact kx_iret (z := ln_pos (st_ln S ln) k) hx hb hr hlk (⟨by rfl, ho_8⟩) hS_12 dX3_pointOf_19

set_option maxHeartbeats 4000000 in
set_option maxRecDepth 100000 in
theorem m_X3_pointOf_no (l : Launch) (D : kG) (H : Heap) (a : Nat) (ra : Nat) (sa : Nat) (ka : Nat) (ta : Nat) (sn : Nat) (ik : Bool) (tn : Nat) (th : Int) (sp : Int) (iw : Bool) (le : Int) (fi : Int) (se : Int) (g : Nat → Int) (S : Ls) (gap : Int) (x : Int) (y : Int) (hO_a : kO D H a 2 [.ref ra, .ref sa, .int (kI ((sn : Nat) : Int)), .ref ka, .int (kI (kb (ik))), .ref ta, .int (kI ((tn : Nat) : Int)), .int (kI (th)), .int (kI (sp)), .int (kI (kb (iw))), .int (kI (le)), .int (kI (fi)), .int (kI (se))]) (hA_ra : kAi D H ra 514 g) (hM : MRow g S gap) (hok : LsOK S gap) (ne_a_ra : a ≠ ra) (bs_a : kBase D ≤ a) (hr_x : -2147483648 ≤ x ∧ x ≤ 2147483647) (hr_y : -2147483648 ≤ y ∧ y ≤ 2147483647) (hno : ¬ ((0 ≤ x ∧ x < S.length) ∧ 0 ≤ y ∧ y ≤ ln_n (st_ln S x.toNat))) : Met l yX3_pointOf (ws_ yX3_pointOf cX3_pointOf 3 (some .int)) ({ frames := 3, cells := 0, slots := 0, locals := 65 } : Room) (kPre D H [.ref a, .int (kI (x)), .int (kI (y))]) (kQi (fun (r : Int) H' => (r = 0) ∧ (kO D H' a 2 [.ref ra, .ref sa, .int (kI ((sn : Nat) : Int)), .ref ka, .int (kI (kb (ik))), .ref ta, .int (kI ((tn : Nat) : Int)), .int (kI (1)), .int (kI (sp)), .int (kI (kb (iw))), .int (kI (le)), .int (kI (fi)), .int (kI (se))])) (fun q : Nat => q = a)) (0) (0) ((fun q : Nat => q = a)) := by
  refine Met.ofW (cc := cX3_pointOf) (maxL := 3) (ret := (some .int)) (by decide) rfl ?_
  intro p e s m args below meth c s₁ B hml hv
  obtain ⟨rfl, hH, hK⟩ := hv
  subst hH
  have hx := B.exec
  have hb := B.bytes
  have hr := B.returns
  have hts := atoms_spec (ws := ws_ yX3_pointOf cX3_pointOf 3 (some .int)) B.pre
  have hts : ∀ w ∈ lw_all, w.before _ s = true := fun w h => hts w (List.mem_cons_of_mem _ h)
  have hown : s.vm.findClass RX3 = some m.cls := findClass_of_methodNamed B.named
  have hlk := B.notSynchronized
  have hS : va_S (fun q : Nat => q = a) s.heap s.heap [] := va_S.rf
  have hB : ∀ q, (fun q : Nat => q = a) q → kBase D ≤ q := fun q h => by (try dsimp only at h); (try simp only [kNW] at h); have hks := hK.size; omega
  have hl := lv_entry ([.ref a, .int (kI (x)), .int (kI (y))]) (n := 3) (Nat.le_of_ble_eq_true rfl)
  rw [lg_entry_eq]
  generalize (lg_sl ([.ref a, .int (kI (x)), .int (kI (y))]) ++ List.replicate (3 - (lg_sl ([.ref a, .int (kI (x)), .int (kI (y))])).length) Slot.unset).toArray = ls at hl ⊢
  have hl : lv_has ls 3 [(0, .ref a), (1, .int (kI (x))), (2, .int (kI (y)))] := hl
  have hL8 := hok.1
  have hlen := hM.len
  refine lv_aload_n hx hb dX3_pointOf_0 rfl (lv_at hl 0 rfl) ?_
  refine lv_iload_n hx hb dX3_pointOf_1 rfl (lv_at hl 1 rfl) ?_
  refine lv_iload_n hx hb dX3_pointOf_2 rfl (lv_at hl 2 rfl) ?_
  refine kx_cb (va_runV (As := [.int (kI (x)), .int (kI (y))]) (rest := []) ⟨hx, hb, hml, hown, hts⟩ (m_X3_has_no l D s.heap a ra sa ka ta sn ik tn th sp iw le fi se g S gap x y hO_a hA_ra (by first | assumption | omega) (by first | assumption | omega) (by first | assumption | omega) (by first | assumption | omega) (by first | assumption | omega) (by first | assumption | omega) (by first | assumption | omega)) (cwV 2 hts (lw_V q2467 q2469 qs65 q89 q2470) rfl rfl rfl (by decide +kernel) ⟨Nat.le_of_ble_eq_true rfl, Nat.le_of_ble_eq_true rfl⟩) (kx_pv hK hS hB (kx_rc hK hO_a (C := RX3) (T := TX3) (N := 13) rfl)) rfl rfl hl.1 rfl (lv_room (Nat.le_of_ble_eq_true rfl)) dX3_pointOf_3 ⟨by first | exact Nat.le_of_ble_eq_true rfl | omega | (show _ ≤ _; omega) | (dsimp only [headSpec]; omega), by first | exact Nat.le_of_ble_eq_true rfl | omega | (show _ ≤ _; omega) | (dsimp only [headSpec]; omega)⟩) hS (fun q _ h => by (try dsimp only at h); (try dsimp only); (try simp only [kNW] at h); (try simp only [kNW]); omega) (fun q h => by (try dsimp only at h); (try dsimp only); (try simp only [kNW] at h); (try simp only [kNW]); omega) (fun z_6 H_4 locs_1 hz_3 hF_5 hS_2 => ?_)
  refine W.widen (k := 0) (n := 0) (Nat.le_of_ble_eq_true rfl) (Nat.le_of_ble_eq_true rfl) ?_
  obtain ⟨hv_7, ho_8⟩ := hz_3
  subst z_6
  refine kx_ifz (tgt := 18) hx hb dX3_pointOf_6 (by decide) (fun c_6_9 => ?_) (fun c_6_9 => ?_)
  · -- taken at 6
    refine kx_iconst hx hb dX3_pointOf_18 ?_
    exact kx_iret (z := 0) hx hb hr hlk (⟨by rfl, ho_8⟩) hS_2 dX3_pointOf_19
  · -- not taken at 6
    exact absurd c_6_9 (by decide)

set_option maxHeartbeats 4000000 in
set_option maxRecDepth 100000 in
theorem m_X3_bendAt (l : Launch) (D : kG) (H : Heap) (a : Nat) (ra : Nat) (sa : Nat) (ka : Nat) (ta : Nat) (sn : Nat) (ik : Bool) (tn : Nat) (th : Int) (sp : Int) (iw : Bool) (le : Int) (fi : Int) (se : Int) (g : Nat → Int) (S : Ls) (gap : Int) (ln : Nat) (k : Nat) (hO_a : kO D H a 2 [.ref ra, .ref sa, .int (kI ((sn : Nat) : Int)), .ref ka, .int (kI (kb (ik))), .ref ta, .int (kI ((tn : Nat) : Int)), .int (kI (th)), .int (kI (sp)), .int (kI (kb (iw))), .int (kI (le)), .int (kI (fi)), .int (kI (se))]) (hA_ra : kAi D H ra 514 g) (hM : MRow g S gap) (hok : LsOK S gap) (ne_a_ra : a ≠ ra) (bs_a : kBase D ≤ a) (hln : ln < S.length) (hk : k ≤ ln_n (st_ln S ln)) : Met l yX3_bendAt (ws_ yX3_bendAt cX3_bendAt 3 (some .int)) ({ frames := 6, cells := 0, slots := 0, locals := 131 } : Room) (kPre D H [.ref a, .int (kI ((ln : Nat) : Int)), .int (kI ((k : Nat) : Int))]) (kQi (fun (r : Int) H' => (r = ln_bend (st_ln S ln) k) ∧ (kO D H' a 2 [.ref ra, .ref sa, .int (kI ((sn : Nat) : Int)), .ref ka, .int (kI (kb (ik))), .ref ta, .int (kI ((tn : Nat) : Int)), .int (kI (0)), .int (kI (sp)), .int (kI (kb (iw))), .int (kI (le)), .int (kI (fi)), .int (kI (se))])) (fun q : Nat => q = a)) (0) (0) ((fun q : Nat => q = a)) := by
  refine Met.ofW (cc := cX3_bendAt) (maxL := 3) (ret := (some .int)) (by decide) rfl ?_
  intro p e s m args below meth c s₁ B hml hv
  obtain ⟨rfl, hH, hK⟩ := hv
  subst hH
  have hx := B.exec
  have hb := B.bytes
  have hr := B.returns
  have hts := atoms_spec (ws := ws_ yX3_bendAt cX3_bendAt 3 (some .int)) B.pre
  have hts : ∀ w ∈ lw_all, w.before _ s = true := fun w h => hts w (List.mem_cons_of_mem _ h)
  have hown : s.vm.findClass RX3 = some m.cls := findClass_of_methodNamed B.named
  have hlk := B.notSynchronized
  have hS : va_S (fun q : Nat => q = a) s.heap s.heap [] := va_S.rf
  have hB : ∀ q, (fun q : Nat => q = a) q → kBase D ≤ q := fun q h => by (try dsimp only at h); (try simp only [kNW] at h); have hks := hK.size; omega
  have hl := lv_entry ([.ref a, .int (kI ((ln : Nat) : Int)), .int (kI ((k : Nat) : Int))]) (n := 3) (Nat.le_of_ble_eq_true rfl)
  rw [lg_entry_eq]
  generalize (lg_sl ([.ref a, .int (kI ((ln : Nat) : Int)), .int (kI ((k : Nat) : Int))]) ++ List.replicate (3 - (lg_sl ([.ref a, .int (kI ((ln : Nat) : Int)), .int (kI ((k : Nat) : Int))])).length) Slot.unset).toArray = ls at hl ⊢
  have hl : lv_has ls 3 [(0, .ref a), (1, .int (kI ((ln : Nat) : Int))), (2, .int (kI ((k : Nat) : Int)))] := hl
  have hL := hok.ln hln
  have hL60 := hL.n
  have hL8 := hok.1
  refine lv_aload_n hx hb dX3_bendAt_0 rfl (lv_at hl 0 rfl) ?_
  refine lv_iload_n hx hb dX3_bendAt_1 rfl (lv_at hl 1 rfl) ?_
  refine lv_iload_n hx hb dX3_bendAt_2 rfl (lv_at hl 2 rfl) ?_
  refine kx_cb (va_runV (As := [.int (kI ((ln : Nat) : Int)), .int (kI ((k : Nat) : Int))]) (rest := []) ⟨hx, hb, hml, hown, hts⟩ (m_X3_has l D s.heap a ra sa ka ta sn ik tn th sp iw le fi se g S gap ln k hO_a hA_ra (by first | assumption | omega) (by first | assumption | omega) (by first | assumption | omega) (by first | assumption | omega) (by first | assumption | omega) (by first | assumption | omega)) (cwV 2 hts (lw_V q2467 q2469 qs65 q89 q2470) rfl rfl rfl (by decide +kernel) ⟨Nat.le_of_ble_eq_true rfl, Nat.le_of_ble_eq_true rfl⟩) (kx_pv hK hS hB (kx_rc hK hO_a (C := RX3) (T := TX3) (N := 13) rfl)) rfl rfl hl.1 rfl (lv_room (Nat.le_of_ble_eq_true rfl)) dX3_bendAt_3 ⟨by first | exact Nat.le_of_ble_eq_true rfl | omega | (show _ ≤ _; omega) | (dsimp only [headSpec]; omega), by first | exact Nat.le_of_ble_eq_true rfl | omega | (show _ ≤ _; omega) | (dsimp only [headSpec]; omega)⟩) hS (fun q _ h => by (try dsimp only at h); (try dsimp only); (try simp only [kNW] at h); (try simp only [kNW]); omega) (fun q h => by (try dsimp only at h); (try dsimp only); (try simp only [kNW] at h); (try simp only [kNW]); omega) (fun z_6 H_4 locs_1 hz_3 hF_5 hS_2 => ?_)
  refine W.widen (k := 0) (n := 0) (Nat.le_of_ble_eq_true rfl) (Nat.le_of_ble_eq_true rfl) ?_
  obtain ⟨hv_7, ho_8⟩ := hz_3
  subst z_6
  refine kx_ifz (tgt := 18) hx hb dX3_bendAt_6 (by decide) (fun c_6_9 => ?_) (fun c_6_9 => ?_)
  · -- taken at 6
    exact absurd c_6_9 (by decide)
  · -- not taken at 6
    refine lv_aload_n hx hb dX3_bendAt_9 rfl (lv_at hl 0 rfl) ?_
    refine lv_iload_n hx hb dX3_bendAt_10 rfl (lv_at hl 1 rfl) ?_
    refine lv_iload_n hx hb dX3_bendAt_11 rfl (lv_at hl 2 rfl) ?_
    have h_10 := hA_ra.fr hF_5 (fun h => by (try dsimp only at h); (try simp only [kNW] at h); omega)
    refine kx_ci0 (va_runV (As := [.int (kI ((ln : Nat) : Int)), .int (kI ((k : Nat) : Int))]) (rest := []) ⟨hx, hb, hml, hown, hts⟩ (m_X3_bend l D H_4 a ([.ref ra, .ref sa, .int (kI ((sn : Nat) : Int)), .ref ka, .int (kI (kb (ik))), .ref ta, .int (kI ((tn : Nat) : Int)), .int (kI (0)), .int (kI (sp)), .int (kI (kb (iw))), .int (kI (le)), .int (kI (fi)), .int (kI (se))]) ra g S gap ln k ho_8 rfl h_10 (by first | assumption | omega) (by first | assumption | omega) (by first | assumption | omega) (by first | assumption | omega)) (cwV 2 hts (lw_V q2357 q2359 qs51 q89 q2360) rfl rfl rfl (by decide +kernel) ⟨Nat.le_of_ble_eq_true rfl, Nat.le_of_ble_eq_true rfl⟩) (kx_pv hK hS_2 hB (kx_rc hK ho_8 (C := RX3) (T := TX3) (N := 13) rfl)) rfl rfl hl.1 rfl (lv_room (Nat.le_of_ble_eq_true rfl)) dX3_bendAt_12 ⟨by first | exact Nat.le_of_ble_eq_true rfl | omega | (show _ ≤ _; omega) | (dsimp only [headSpec]; omega), by first | exact Nat.le_of_ble_eq_true rfl | omega | (show _ ≤ _; omega) | (dsimp only [headSpec]; omega)⟩) hS_2 (fun z_14 locs_11 hz_13 hS_12 => ?_)
    subst z_14
    refine lv_goto (tgt := 19) hx hb dX3_bendAt_15 (by decide) ?_
    exact kx_iret (z := ln_bend (st_ln S ln) k) hx hb hr hlk (⟨by rfl, ho_8⟩) hS_12 dX3_bendAt_19

set_option maxHeartbeats 4000000 in
set_option maxRecDepth 100000 in
theorem m_X3_bendAt_no (l : Launch) (D : kG) (H : Heap) (a : Nat) (ra : Nat) (sa : Nat) (ka : Nat) (ta : Nat) (sn : Nat) (ik : Bool) (tn : Nat) (th : Int) (sp : Int) (iw : Bool) (le : Int) (fi : Int) (se : Int) (g : Nat → Int) (S : Ls) (gap : Int) (x : Int) (y : Int) (hO_a : kO D H a 2 [.ref ra, .ref sa, .int (kI ((sn : Nat) : Int)), .ref ka, .int (kI (kb (ik))), .ref ta, .int (kI ((tn : Nat) : Int)), .int (kI (th)), .int (kI (sp)), .int (kI (kb (iw))), .int (kI (le)), .int (kI (fi)), .int (kI (se))]) (hA_ra : kAi D H ra 514 g) (hM : MRow g S gap) (hok : LsOK S gap) (ne_a_ra : a ≠ ra) (bs_a : kBase D ≤ a) (hr_x : -2147483648 ≤ x ∧ x ≤ 2147483647) (hr_y : -2147483648 ≤ y ∧ y ≤ 2147483647) (hno : ¬ ((0 ≤ x ∧ x < S.length) ∧ 0 ≤ y ∧ y ≤ ln_n (st_ln S x.toNat))) : Met l yX3_bendAt (ws_ yX3_bendAt cX3_bendAt 3 (some .int)) ({ frames := 3, cells := 0, slots := 0, locals := 65 } : Room) (kPre D H [.ref a, .int (kI (x)), .int (kI (y))]) (kQi (fun (r : Int) H' => (r = 0) ∧ (kO D H' a 2 [.ref ra, .ref sa, .int (kI ((sn : Nat) : Int)), .ref ka, .int (kI (kb (ik))), .ref ta, .int (kI ((tn : Nat) : Int)), .int (kI (1)), .int (kI (sp)), .int (kI (kb (iw))), .int (kI (le)), .int (kI (fi)), .int (kI (se))])) (fun q : Nat => q = a)) (0) (0) ((fun q : Nat => q = a)) := by
  refine Met.ofW (cc := cX3_bendAt) (maxL := 3) (ret := (some .int)) (by decide) rfl ?_
  intro p e s m args below meth c s₁ B hml hv
  obtain ⟨rfl, hH, hK⟩ := hv
  subst hH
  have hx := B.exec
  have hb := B.bytes
  have hr := B.returns
  have hts := atoms_spec (ws := ws_ yX3_bendAt cX3_bendAt 3 (some .int)) B.pre
  have hts : ∀ w ∈ lw_all, w.before _ s = true := fun w h => hts w (List.mem_cons_of_mem _ h)
  have hown : s.vm.findClass RX3 = some m.cls := findClass_of_methodNamed B.named
  have hlk := B.notSynchronized
  have hS : va_S (fun q : Nat => q = a) s.heap s.heap [] := va_S.rf
  have hB : ∀ q, (fun q : Nat => q = a) q → kBase D ≤ q := fun q h => by (try dsimp only at h); (try simp only [kNW] at h); have hks := hK.size; omega
  have hl := lv_entry ([.ref a, .int (kI (x)), .int (kI (y))]) (n := 3) (Nat.le_of_ble_eq_true rfl)
  rw [lg_entry_eq]
  generalize (lg_sl ([.ref a, .int (kI (x)), .int (kI (y))]) ++ List.replicate (3 - (lg_sl ([.ref a, .int (kI (x)), .int (kI (y))])).length) Slot.unset).toArray = ls at hl ⊢
  have hl : lv_has ls 3 [(0, .ref a), (1, .int (kI (x))), (2, .int (kI (y)))] := hl
  have hL8 := hok.1
  have hlen := hM.len
  refine lv_aload_n hx hb dX3_bendAt_0 rfl (lv_at hl 0 rfl) ?_
  refine lv_iload_n hx hb dX3_bendAt_1 rfl (lv_at hl 1 rfl) ?_
  refine lv_iload_n hx hb dX3_bendAt_2 rfl (lv_at hl 2 rfl) ?_
  refine kx_cb (va_runV (As := [.int (kI (x)), .int (kI (y))]) (rest := []) ⟨hx, hb, hml, hown, hts⟩ (m_X3_has_no l D s.heap a ra sa ka ta sn ik tn th sp iw le fi se g S gap x y hO_a hA_ra (by first | assumption | omega) (by first | assumption | omega) (by first | assumption | omega) (by first | assumption | omega) (by first | assumption | omega) (by first | assumption | omega) (by first | assumption | omega)) (cwV 2 hts (lw_V q2467 q2469 qs65 q89 q2470) rfl rfl rfl (by decide +kernel) ⟨Nat.le_of_ble_eq_true rfl, Nat.le_of_ble_eq_true rfl⟩) (kx_pv hK hS hB (kx_rc hK hO_a (C := RX3) (T := TX3) (N := 13) rfl)) rfl rfl hl.1 rfl (lv_room (Nat.le_of_ble_eq_true rfl)) dX3_bendAt_3 ⟨by first | exact Nat.le_of_ble_eq_true rfl | omega | (show _ ≤ _; omega) | (dsimp only [headSpec]; omega), by first | exact Nat.le_of_ble_eq_true rfl | omega | (show _ ≤ _; omega) | (dsimp only [headSpec]; omega)⟩) hS (fun q _ h => by (try dsimp only at h); (try dsimp only); (try simp only [kNW] at h); (try simp only [kNW]); omega) (fun q h => by (try dsimp only at h); (try dsimp only); (try simp only [kNW] at h); (try simp only [kNW]); omega) (fun z_6 H_4 locs_1 hz_3 hF_5 hS_2 => ?_)
  refine W.widen (k := 0) (n := 0) (Nat.le_of_ble_eq_true rfl) (Nat.le_of_ble_eq_true rfl) ?_
  obtain ⟨hv_7, ho_8⟩ := hz_3
  subst z_6
  refine kx_ifz (tgt := 18) hx hb dX3_bendAt_6 (by decide) (fun c_6_9 => ?_) (fun c_6_9 => ?_)
  · -- taken at 6
    refine kx_iconst hx hb dX3_bendAt_18 ?_
    exact kx_iret (z := 0) hx hb hr hlk (⟨by rfl, ho_8⟩) hS_2 dX3_bendAt_19
  · -- not taken at 6
    exact absurd c_6_9 (by decide)

set_option maxHeartbeats 4000000 in
set_option maxRecDepth 100000 in
theorem m_X3_whyNotLabelled (l : Launch) (D : kG) (H : Heap) (a : Nat) (ra : Nat) (sa : Nat) (ka : Nat) (ta : Nat) (sn : Nat) (ik : Bool) (tn : Nat) (th : Int) (sp : Int) (iw : Bool) (le : Int) (fi : Int) (se : Int) (g : Nat → Int) (S : Ls) (gap : Int) (ln : Nat) (k : Nat) (hO_a : kO D H a 2 [.ref ra, .ref sa, .int (kI ((sn : Nat) : Int)), .ref ka, .int (kI (kb (ik))), .ref ta, .int (kI ((tn : Nat) : Int)), .int (kI (th)), .int (kI (sp)), .int (kI (kb (iw))), .int (kI (le)), .int (kI (fi)), .int (kI (se))]) (hA_ra : kAi D H ra 514 g) (hM : MRow g S gap) (hok : LsOK S gap) (ne_a_ra : a ≠ ra) (bs_a : kBase D ≤ a) (hln : ln < S.length) (hk : k ≤ ln_n (st_ln S ln)) : Met l yX3_whyNotLabelled (ws_ yX3_whyNotLabelled cX3_whyNotLabelled 3 (some .int)) ({ frames := 8, cells := 0, slots := 0, locals := 179 } : Room) (kPre D H [.ref a, .int (kI ((ln : Nat) : Int)), .int (kI ((k : Nat) : Int))]) (kQi (fun (r : Int) H' => (r = st_whyL S gap ln k) ∧ (kO D H' a 2 [.ref ra, .ref sa, .int (kI ((sn : Nat) : Int)), .ref ka, .int (kI (kb (ik))), .ref ta, .int (kI ((tn : Nat) : Int)), .int (kI (0)), .int (kI (sp)), .int (kI (kb (iw))), .int (kI (le)), .int (kI (fi)), .int (kI (se))])) (fun q : Nat => q = a)) (0) (0) ((fun q : Nat => q = a)) := by
  refine Met.ofW (cc := cX3_whyNotLabelled) (maxL := 3) (ret := (some .int)) (by decide) rfl ?_
  intro p e s m args below meth c s₁ B hml hv
  obtain ⟨rfl, hH, hK⟩ := hv
  subst hH
  have hx := B.exec
  have hb := B.bytes
  have hr := B.returns
  have hts := atoms_spec (ws := ws_ yX3_whyNotLabelled cX3_whyNotLabelled 3 (some .int)) B.pre
  have hts : ∀ w ∈ lw_all, w.before _ s = true := fun w h => hts w (List.mem_cons_of_mem _ h)
  have hown : s.vm.findClass RX3 = some m.cls := findClass_of_methodNamed B.named
  have hlk := B.notSynchronized
  have hS : va_S (fun q : Nat => q = a) s.heap s.heap [] := va_S.rf
  have hB : ∀ q, (fun q : Nat => q = a) q → kBase D ≤ q := fun q h => by (try dsimp only at h); (try simp only [kNW] at h); have hks := hK.size; omega
  have hl := lv_entry ([.ref a, .int (kI ((ln : Nat) : Int)), .int (kI ((k : Nat) : Int))]) (n := 3) (Nat.le_of_ble_eq_true rfl)
  rw [lg_entry_eq]
  generalize (lg_sl ([.ref a, .int (kI ((ln : Nat) : Int)), .int (kI ((k : Nat) : Int))]) ++ List.replicate (3 - (lg_sl ([.ref a, .int (kI ((ln : Nat) : Int)), .int (kI ((k : Nat) : Int))])).length) Slot.unset).toArray = ls at hl ⊢
  have hl : lv_has ls 3 [(0, .ref a), (1, .int (kI ((ln : Nat) : Int))), (2, .int (kI ((k : Nat) : Int)))] := hl
  have hL := hok.ln hln
  have hL60 := hL.n
  have hL8 := hok.1
  refine lv_aload_n hx hb dX3_whyNotLabelled_0 rfl (lv_at hl 0 rfl) ?_
  refine lv_iload_n hx hb dX3_whyNotLabelled_1 rfl (lv_at hl 1 rfl) ?_
  refine lv_iload_n hx hb dX3_whyNotLabelled_2 rfl (lv_at hl 2 rfl) ?_
  refine kx_cb (va_runV (As := [.int (kI ((ln : Nat) : Int)), .int (kI ((k : Nat) : Int))]) (rest := []) ⟨hx, hb, hml, hown, hts⟩ (m_X3_has l D s.heap a ra sa ka ta sn ik tn th sp iw le fi se g S gap ln k hO_a hA_ra (by first | assumption | omega) (by first | assumption | omega) (by first | assumption | omega) (by first | assumption | omega) (by first | assumption | omega) (by first | assumption | omega)) (cwV 2 hts (lw_V q2467 q2469 qs65 q89 q2470) rfl rfl rfl (by decide +kernel) ⟨Nat.le_of_ble_eq_true rfl, Nat.le_of_ble_eq_true rfl⟩) (kx_pv hK hS hB (kx_rc hK hO_a (C := RX3) (T := TX3) (N := 13) rfl)) rfl rfl hl.1 rfl (lv_room (Nat.le_of_ble_eq_true rfl)) dX3_whyNotLabelled_3 ⟨by first | exact Nat.le_of_ble_eq_true rfl | omega | (show _ ≤ _; omega) | (dsimp only [headSpec]; omega), by first | exact Nat.le_of_ble_eq_true rfl | omega | (show _ ≤ _; omega) | (dsimp only [headSpec]; omega)⟩) hS (fun q _ h => by (try dsimp only at h); (try dsimp only); (try simp only [kNW] at h); (try simp only [kNW]); omega) (fun q h => by (try dsimp only at h); (try dsimp only); (try simp only [kNW] at h); (try simp only [kNW]); omega) (fun z_6 H_4 locs_1 hz_3 hF_5 hS_2 => ?_)
  refine W.widen (k := 0) (n := 0) (Nat.le_of_ble_eq_true rfl) (Nat.le_of_ble_eq_true rfl) ?_
  obtain ⟨hv_7, ho_8⟩ := hz_3
  subst z_6
  refine kx_ifz (tgt := 18) hx hb dX3_whyNotLabelled_6 (by decide) (fun c_6_9 => ?_) (fun c_6_9 => ?_)
  · -- taken at 6
    exact absurd c_6_9 (by decide)
  · -- not taken at 6
    refine lv_aload_n hx hb dX3_whyNotLabelled_9 rfl (lv_at hl 0 rfl) ?_
    refine lv_iload_n hx hb dX3_whyNotLabelled_10 rfl (lv_at hl 1 rfl) ?_
    refine lv_iload_n hx hb dX3_whyNotLabelled_11 rfl (lv_at hl 2 rfl) ?_
    have h_10 := hA_ra.fr hF_5 (fun h => by (try dsimp only at h); (try simp only [kNW] at h); omega)
    refine kx_ci0 (va_runV (As := [.int (kI ((ln : Nat) : Int)), .int (kI ((k : Nat) : Int))]) (rest := []) ⟨hx, hb, hml, hown, hts⟩ (m_X3_whyNoLabel l D H_4 a ([.ref ra, .ref sa, .int (kI ((sn : Nat) : Int)), .ref ka, .int (kI (kb (ik))), .ref ta, .int (kI ((tn : Nat) : Int)), .int (kI (0)), .int (kI (sp)), .int (kI (kb (iw))), .int (kI (le)), .int (kI (fi)), .int (kI (se))]) ra g S gap ln k ho_8 rfl h_10 (by first | assumption | omega) (by first | assumption | omega) (by first | assumption | omega) (by first | assumption | omega)) (cwV 2 hts (lw_V q2341 q2343 qs47 q89 q2344) rfl rfl rfl (by decide +kernel) ⟨Nat.le_of_ble_eq_true rfl, Nat.le_of_ble_eq_true rfl⟩) (kx_pv hK hS_2 hB (kx_rc hK ho_8 (C := RX3) (T := TX3) (N := 13) rfl)) rfl rfl hl.1 rfl (lv_room (Nat.le_of_ble_eq_true rfl)) dX3_whyNotLabelled_12 ⟨by first | exact Nat.le_of_ble_eq_true rfl | omega | (show _ ≤ _; omega) | (dsimp only [headSpec]; omega), by first | exact Nat.le_of_ble_eq_true rfl | omega | (show _ ≤ _; omega) | (dsimp only [headSpec]; omega)⟩) hS_2 (fun z_14 locs_11 hz_13 hS_12 => ?_)
    subst z_14
    refine lv_goto (tgt := 19) hx hb dX3_whyNotLabelled_15 (by decide) ?_
    exact kx_iret (z := st_whyL S gap ln k) hx hb hr hlk (⟨by rfl, ho_8⟩) hS_12 dX3_whyNotLabelled_19

set_option maxHeartbeats 4000000 in
set_option maxRecDepth 100000 in
theorem m_X3_whyNotLabelled_no (l : Launch) (D : kG) (H : Heap) (a : Nat) (ra : Nat) (sa : Nat) (ka : Nat) (ta : Nat) (sn : Nat) (ik : Bool) (tn : Nat) (th : Int) (sp : Int) (iw : Bool) (le : Int) (fi : Int) (se : Int) (g : Nat → Int) (S : Ls) (gap : Int) (x : Int) (y : Int) (hO_a : kO D H a 2 [.ref ra, .ref sa, .int (kI ((sn : Nat) : Int)), .ref ka, .int (kI (kb (ik))), .ref ta, .int (kI ((tn : Nat) : Int)), .int (kI (th)), .int (kI (sp)), .int (kI (kb (iw))), .int (kI (le)), .int (kI (fi)), .int (kI (se))]) (hA_ra : kAi D H ra 514 g) (hM : MRow g S gap) (hok : LsOK S gap) (ne_a_ra : a ≠ ra) (bs_a : kBase D ≤ a) (hr_x : -2147483648 ≤ x ∧ x ≤ 2147483647) (hr_y : -2147483648 ≤ y ∧ y ≤ 2147483647) (hno : ¬ ((0 ≤ x ∧ x < S.length) ∧ 0 ≤ y ∧ y ≤ ln_n (st_ln S x.toNat))) : Met l yX3_whyNotLabelled (ws_ yX3_whyNotLabelled cX3_whyNotLabelled 3 (some .int)) ({ frames := 3, cells := 0, slots := 0, locals := 65 } : Room) (kPre D H [.ref a, .int (kI (x)), .int (kI (y))]) (kQi (fun (r : Int) H' => (r = 0) ∧ (kO D H' a 2 [.ref ra, .ref sa, .int (kI ((sn : Nat) : Int)), .ref ka, .int (kI (kb (ik))), .ref ta, .int (kI ((tn : Nat) : Int)), .int (kI (1)), .int (kI (sp)), .int (kI (kb (iw))), .int (kI (le)), .int (kI (fi)), .int (kI (se))])) (fun q : Nat => q = a)) (0) (0) ((fun q : Nat => q = a)) := by
  refine Met.ofW (cc := cX3_whyNotLabelled) (maxL := 3) (ret := (some .int)) (by decide) rfl ?_
  intro p e s m args below meth c s₁ B hml hv
  obtain ⟨rfl, hH, hK⟩ := hv
  subst hH
  have hx := B.exec
  have hb := B.bytes
  have hr := B.returns
  have hts := atoms_spec (ws := ws_ yX3_whyNotLabelled cX3_whyNotLabelled 3 (some .int)) B.pre
  have hts : ∀ w ∈ lw_all, w.before _ s = true := fun w h => hts w (List.mem_cons_of_mem _ h)
  have hown : s.vm.findClass RX3 = some m.cls := findClass_of_methodNamed B.named
  have hlk := B.notSynchronized
  have hS : va_S (fun q : Nat => q = a) s.heap s.heap [] := va_S.rf
  have hB : ∀ q, (fun q : Nat => q = a) q → kBase D ≤ q := fun q h => by (try dsimp only at h); (try simp only [kNW] at h); have hks := hK.size; omega
  have hl := lv_entry ([.ref a, .int (kI (x)), .int (kI (y))]) (n := 3) (Nat.le_of_ble_eq_true rfl)
  rw [lg_entry_eq]
  generalize (lg_sl ([.ref a, .int (kI (x)), .int (kI (y))]) ++ List.replicate (3 - (lg_sl ([.ref a, .int (kI (x)), .int (kI (y))])).length) Slot.unset).toArray = ls at hl ⊢
  have hl : lv_has ls 3 [(0, .ref a), (1, .int (kI (x))), (2, .int (kI (y)))] := hl
  have hL8 := hok.1
  have hlen := hM.len
  refine lv_aload_n hx hb dX3_whyNotLabelled_0 rfl (lv_at hl 0 rfl) ?_
  refine lv_iload_n hx hb dX3_whyNotLabelled_1 rfl (lv_at hl 1 rfl) ?_
  refine lv_iload_n hx hb dX3_whyNotLabelled_2 rfl (lv_at hl 2 rfl) ?_
  refine kx_cb (va_runV (As := [.int (kI (x)), .int (kI (y))]) (rest := []) ⟨hx, hb, hml, hown, hts⟩ (m_X3_has_no l D s.heap a ra sa ka ta sn ik tn th sp iw le fi se g S gap x y hO_a hA_ra (by first | assumption | omega) (by first | assumption | omega) (by first | assumption | omega) (by first | assumption | omega) (by first | assumption | omega) (by first | assumption | omega) (by first | assumption | omega)) (cwV 2 hts (lw_V q2467 q2469 qs65 q89 q2470) rfl rfl rfl (by decide +kernel) ⟨Nat.le_of_ble_eq_true rfl, Nat.le_of_ble_eq_true rfl⟩) (kx_pv hK hS hB (kx_rc hK hO_a (C := RX3) (T := TX3) (N := 13) rfl)) rfl rfl hl.1 rfl (lv_room (Nat.le_of_ble_eq_true rfl)) dX3_whyNotLabelled_3 ⟨by first | exact Nat.le_of_ble_eq_true rfl | omega | (show _ ≤ _; omega) | (dsimp only [headSpec]; omega), by first | exact Nat.le_of_ble_eq_true rfl | omega | (show _ ≤ _; omega) | (dsimp only [headSpec]; omega)⟩) hS (fun q _ h => by (try dsimp only at h); (try dsimp only); (try simp only [kNW] at h); (try simp only [kNW]); omega) (fun q h => by (try dsimp only at h); (try dsimp only); (try simp only [kNW] at h); (try simp only [kNW]); omega) (fun z_6 H_4 locs_1 hz_3 hF_5 hS_2 => ?_)
  refine W.widen (k := 0) (n := 0) (Nat.le_of_ble_eq_true rfl) (Nat.le_of_ble_eq_true rfl) ?_
  obtain ⟨hv_7, ho_8⟩ := hz_3
  subst z_6
  refine kx_ifz (tgt := 18) hx hb dX3_whyNotLabelled_6 (by decide) (fun c_6_9 => ?_) (fun c_6_9 => ?_)
  · -- taken at 6
    refine kx_iconst hx hb dX3_whyNotLabelled_18 ?_
    exact kx_iret (z := 0) hx hb hr hlk (⟨by rfl, ho_8⟩) hS_2 dX3_whyNotLabelled_19
  · -- not taken at 6
    exact absurd c_6_9 (by decide)

set_option maxHeartbeats 4000000 in
set_option maxRecDepth 100000 in
theorem m_X3_bendOf (l : Launch) (D : kG) (H : Heap) (a : Nat) (ra : Nat) (sa : Nat) (ka : Nat) (ta : Nat) (sn : Nat) (ik : Bool) (tn : Nat) (th : Int) (sp : Int) (iw : Bool) (le : Int) (fi : Int) (se : Int) (g : Nat → Int) (S : Ls) (gap : Int) (ln : Nat) (k : Nat) (hO_a : kO D H a 2 [.ref ra, .ref sa, .int (kI ((sn : Nat) : Int)), .ref ka, .int (kI (kb (ik))), .ref ta, .int (kI ((tn : Nat) : Int)), .int (kI (th)), .int (kI (sp)), .int (kI (kb (iw))), .int (kI (le)), .int (kI (fi)), .int (kI (se))]) (hA_ra : kAi D H ra 514 g) (hM : MRow g S gap) (hok : LsOK S gap) (ne_a_ra : a ≠ ra) (bs_a : kBase D ≤ a) (hln : ln < S.length) (hk : k ≤ ln_n (st_ln S ln)) : Met l yX3_bendOf (ws_ yX3_bendOf cX3_bendOf 3 (some .int)) ({ frames := 7, cells := 0, slots := 0, locals := 155 } : Room) (kPre D H [.ref a, .int (kI ((ln : Nat) : Int)), .int (kI ((k : Nat) : Int))]) (kQi (fun (r : Int) H' => (r = (if ln_isPlace (st_ln S ln) (k : Int) = true then ln_bends (st_ln S ln) (k : Int) else -1)) ∧ (kO D H' a 2 [.ref ra, .ref sa, .int (kI ((sn : Nat) : Int)), .ref ka, .int (kI (kb (ik))), .ref ta, .int (kI ((tn : Nat) : Int)), .int (kI (0)), .int (kI (sp)), .int (kI (kb (iw))), .int (kI (le)), .int (kI (fi)), .int (kI (se))])) (fun q : Nat => q = a)) (0) (0) ((fun q : Nat => q = a)) := by
  refine Met.ofW (cc := cX3_bendOf) (maxL := 3) (ret := (some .int)) (by decide) rfl ?_
  intro p e s m args below meth c s₁ B hml hv
  obtain ⟨rfl, hH, hK⟩ := hv
  subst hH
  have hx := B.exec
  have hb := B.bytes
  have hr := B.returns
  have hts := atoms_spec (ws := ws_ yX3_bendOf cX3_bendOf 3 (some .int)) B.pre
  have hts : ∀ w ∈ lw_all, w.before _ s = true := fun w h => hts w (List.mem_cons_of_mem _ h)
  have hown : s.vm.findClass RX3 = some m.cls := findClass_of_methodNamed B.named
  have hlk := B.notSynchronized
  have hS : va_S (fun q : Nat => q = a) s.heap s.heap [] := va_S.rf
  have hB : ∀ q, (fun q : Nat => q = a) q → kBase D ≤ q := fun q h => by (try dsimp only at h); (try simp only [kNW] at h); have hks := hK.size; omega
  have hl := lv_entry ([.ref a, .int (kI ((ln : Nat) : Int)), .int (kI ((k : Nat) : Int))]) (n := 3) (Nat.le_of_ble_eq_true rfl)
  rw [lg_entry_eq]
  generalize (lg_sl ([.ref a, .int (kI ((ln : Nat) : Int)), .int (kI ((k : Nat) : Int))]) ++ List.replicate (3 - (lg_sl ([.ref a, .int (kI ((ln : Nat) : Int)), .int (kI ((k : Nat) : Int))])).length) Slot.unset).toArray = ls at hl ⊢
  have hl : lv_has ls 3 [(0, .ref a), (1, .int (kI ((ln : Nat) : Int))), (2, .int (kI ((k : Nat) : Int)))] := hl
  have hL := hok.ln hln
  have hL60 := hL.n
  have hL8 := hok.1
  refine lv_aload_n hx hb dX3_bendOf_0 rfl (lv_at hl 0 rfl) ?_
  refine lv_iload_n hx hb dX3_bendOf_1 rfl (lv_at hl 1 rfl) ?_
  refine lv_iload_n hx hb dX3_bendOf_2 rfl (lv_at hl 2 rfl) ?_
  refine kx_cb (va_runV (As := [.int (kI ((ln : Nat) : Int)), .int (kI ((k : Nat) : Int))]) (rest := []) ⟨hx, hb, hml, hown, hts⟩ (m_X3_has l D s.heap a ra sa ka ta sn ik tn th sp iw le fi se g S gap ln k hO_a hA_ra (by first | assumption | omega) (by first | assumption | omega) (by first | assumption | omega) (by first | assumption | omega) (by first | assumption | omega) (by first | assumption | omega)) (cwV 2 hts (lw_V q2467 q2469 qs65 q89 q2470) rfl rfl rfl (by decide +kernel) ⟨Nat.le_of_ble_eq_true rfl, Nat.le_of_ble_eq_true rfl⟩) (kx_pv hK hS hB (kx_rc hK hO_a (C := RX3) (T := TX3) (N := 13) rfl)) rfl rfl hl.1 rfl (lv_room (Nat.le_of_ble_eq_true rfl)) dX3_bendOf_3 ⟨by first | exact Nat.le_of_ble_eq_true rfl | omega | (show _ ≤ _; omega) | (dsimp only [headSpec]; omega), by first | exact Nat.le_of_ble_eq_true rfl | omega | (show _ ≤ _; omega) | (dsimp only [headSpec]; omega)⟩) hS (fun q _ h => by (try dsimp only at h); (try dsimp only); (try simp only [kNW] at h); (try simp only [kNW]); omega) (fun q h => by (try dsimp only at h); (try dsimp only); (try simp only [kNW] at h); (try simp only [kNW]); omega) (fun z_6 H_4 locs_1 hz_3 hF_5 hS_2 => ?_)
  refine W.widen (k := 0) (n := 0) (Nat.le_of_ble_eq_true rfl) (Nat.le_of_ble_eq_true rfl) ?_
  obtain ⟨hv_7, ho_8⟩ := hz_3
  subst z_6
  refine kx_ifnz (tgt := 11) hx hb dX3_bendOf_6 (by decide) (fun c_6_9 => ?_) (fun c_6_9 => ?_)
  · -- taken at 6
    refine lv_aload_n hx hb dX3_bendOf_11 rfl (lv_at hl 0 rfl) ?_
    refine lv_iload_n hx hb dX3_bendOf_12 rfl (lv_at hl 1 rfl) ?_
    refine lv_iload_n hx hb dX3_bendOf_13 rfl (lv_at hl 2 rfl) ?_
    have h_10 := hA_ra.fr hF_5 (fun h => by (try dsimp only at h); (try simp only [kNW] at h); omega)
    refine kx_cb0 (va_runV (As := [.int (kI ((ln : Nat) : Int)), .int (kI ((k : Nat) : Int))]) (rest := []) ⟨hx, hb, hml, hown, hts⟩ (m_X3_isPlace l D H_4 a ([.ref ra, .ref sa, .int (kI ((sn : Nat) : Int)), .ref ka, .int (kI (kb (ik))), .ref ta, .int (kI ((tn : Nat) : Int)), .int (kI (0)), .int (kI (sp)), .int (kI (kb (iw))), .int (kI (le)), .int (kI (fi)), .int (kI (se))]) ra g S gap ln ((k : Int)) ho_8 rfl h_10 (by first | assumption | omega) (by first | assumption | omega) (by first | assumption | omega) (by first | assumption | omega)) (cwV 2 hts (lw_V q2345 q2347 qs48 q89 q2348) rfl rfl rfl (by decide +kernel) ⟨Nat.le_of_ble_eq_true rfl, Nat.le_of_ble_eq_true rfl⟩) (kx_pv hK hS_2 hB (kx_rc hK ho_8 (C := RX3) (T := TX3) (N := 13) rfl)) rfl rfl hl.1 rfl (lv_room (Nat.le_of_ble_eq_true rfl)) dX3_bendOf_14 ⟨by first | exact Nat.le_of_ble_eq_true rfl | omega | (show _ ≤ _; omega) | (dsimp only [headSpec]; omega), by first | exact Nat.le_of_ble_eq_true rfl | omega | (show _ ≤ _; omega) | (dsimp only [headSpec]; omega)⟩) hS_2 (fun z_14 locs_11 hz_13 hS_12 => ?_)
    subst z_14
    refine kx_ifz (tgt := 29) hx hb dX3_bendOf_17 (by decide) (fun c_17_15 => ?_) (fun c_17_15 => ?_)
    · -- taken at 17
      refine kx_iconst hx hb dX3_bendOf_29 ?_
      exact kx_iret (z := (-1)) hx hb hr hlk (⟨by first | rw [if_pos (by assumption)] | rw [if_neg (by simp [*])], ho_8⟩) hS_12 dX3_bendOf_30
    · -- not taken at 17
      refine lv_aload_n hx hb dX3_bendOf_20 rfl (lv_at hl 0 rfl) ?_
      refine lv_iload_n hx hb dX3_bendOf_21 rfl (lv_at hl 1 rfl) ?_
      refine lv_iload_n hx hb dX3_bendOf_22 rfl (lv_at hl 2 rfl) ?_
      refine kx_ci0 (va_runV (As := [.int (kI ((ln : Nat) : Int)), .int (kI ((k : Nat) : Int))]) (rest := []) ⟨hx, hb, hml, hown, hts⟩ (m_X3_bends l D H_4 a ([.ref ra, .ref sa, .int (kI ((sn : Nat) : Int)), .ref ka, .int (kI (kb (ik))), .ref ta, .int (kI ((tn : Nat) : Int)), .int (kI (0)), .int (kI (sp)), .int (kI (kb (iw))), .int (kI (le)), .int (kI (fi)), .int (kI (se))]) ra g S gap ln k ho_8 rfl h_10 (by first | assumption | omega) (by first | assumption | omega) (by first | assumption | omega) (by first | assumption | omega)) (cwV 2 hts (lw_V q2353 q2355 qs50 q89 q2356) rfl rfl rfl (by decide +kernel) ⟨Nat.le_of_ble_eq_true rfl, Nat.le_of_ble_eq_true rfl⟩) (kx_pv hK hS_12 hB (kx_rc hK ho_8 (C := RX3) (T := TX3) (N := 13) rfl)) rfl rfl hl.1 rfl (lv_room (Nat.le_of_ble_eq_true rfl)) dX3_bendOf_23 ⟨by first | exact Nat.le_of_ble_eq_true rfl | omega | (show _ ≤ _; omega) | (dsimp only [headSpec]; omega), by first | exact Nat.le_of_ble_eq_true rfl | omega | (show _ ≤ _; omega) | (dsimp only [headSpec]; omega)⟩) hS_12 (fun z_19 locs_16 hz_18 hS_17 => ?_)
      subst z_19
      refine lv_goto (tgt := 30) hx hb dX3_bendOf_26 (by decide) ?_
      exact kx_iret (z := ln_bends (st_ln S ln) k) hx hb hr hlk (⟨by first | rw [if_pos (by assumption)] | rw [if_neg (by simp [*])], ho_8⟩) hS_17 dX3_bendOf_30
  · -- not taken at 6
    exact absurd c_6_9 (by decide)

set_option maxHeartbeats 4000000 in
set_option maxRecDepth 100000 in
theorem m_X3_bendOf_no (l : Launch) (D : kG) (H : Heap) (a : Nat) (ra : Nat) (sa : Nat) (ka : Nat) (ta : Nat) (sn : Nat) (ik : Bool) (tn : Nat) (th : Int) (sp : Int) (iw : Bool) (le : Int) (fi : Int) (se : Int) (g : Nat → Int) (S : Ls) (gap : Int) (x : Int) (y : Int) (hO_a : kO D H a 2 [.ref ra, .ref sa, .int (kI ((sn : Nat) : Int)), .ref ka, .int (kI (kb (ik))), .ref ta, .int (kI ((tn : Nat) : Int)), .int (kI (th)), .int (kI (sp)), .int (kI (kb (iw))), .int (kI (le)), .int (kI (fi)), .int (kI (se))]) (hA_ra : kAi D H ra 514 g) (hM : MRow g S gap) (hok : LsOK S gap) (ne_a_ra : a ≠ ra) (bs_a : kBase D ≤ a) (hr_x : -2147483648 ≤ x ∧ x ≤ 2147483647) (hr_y : -2147483648 ≤ y ∧ y ≤ 2147483647) (hno : ¬ ((0 ≤ x ∧ x < S.length) ∧ 0 ≤ y ∧ y ≤ ln_n (st_ln S x.toNat))) : Met l yX3_bendOf (ws_ yX3_bendOf cX3_bendOf 3 (some .int)) ({ frames := 3, cells := 0, slots := 0, locals := 65 } : Room) (kPre D H [.ref a, .int (kI (x)), .int (kI (y))]) (kQi (fun (r : Int) H' => (r = 0) ∧ (kO D H' a 2 [.ref ra, .ref sa, .int (kI ((sn : Nat) : Int)), .ref ka, .int (kI (kb (ik))), .ref ta, .int (kI ((tn : Nat) : Int)), .int (kI (1)), .int (kI (sp)), .int (kI (kb (iw))), .int (kI (le)), .int (kI (fi)), .int (kI (se))])) (fun q : Nat => q = a)) (0) (0) ((fun q : Nat => q = a)) := by
  refine Met.ofW (cc := cX3_bendOf) (maxL := 3) (ret := (some .int)) (by decide) rfl ?_
  intro p e s m args below meth c s₁ B hml hv
  obtain ⟨rfl, hH, hK⟩ := hv
  subst hH
  have hx := B.exec
  have hb := B.bytes
  have hr := B.returns
  have hts := atoms_spec (ws := ws_ yX3_bendOf cX3_bendOf 3 (some .int)) B.pre
  have hts : ∀ w ∈ lw_all, w.before _ s = true := fun w h => hts w (List.mem_cons_of_mem _ h)
  have hown : s.vm.findClass RX3 = some m.cls := findClass_of_methodNamed B.named
  have hlk := B.notSynchronized
  have hS : va_S (fun q : Nat => q = a) s.heap s.heap [] := va_S.rf
  have hB : ∀ q, (fun q : Nat => q = a) q → kBase D ≤ q := fun q h => by (try dsimp only at h); (try simp only [kNW] at h); have hks := hK.size; omega
  have hl := lv_entry ([.ref a, .int (kI (x)), .int (kI (y))]) (n := 3) (Nat.le_of_ble_eq_true rfl)
  rw [lg_entry_eq]
  generalize (lg_sl ([.ref a, .int (kI (x)), .int (kI (y))]) ++ List.replicate (3 - (lg_sl ([.ref a, .int (kI (x)), .int (kI (y))])).length) Slot.unset).toArray = ls at hl ⊢
  have hl : lv_has ls 3 [(0, .ref a), (1, .int (kI (x))), (2, .int (kI (y)))] := hl
  have hL8 := hok.1
  have hlen := hM.len
  refine lv_aload_n hx hb dX3_bendOf_0 rfl (lv_at hl 0 rfl) ?_
  refine lv_iload_n hx hb dX3_bendOf_1 rfl (lv_at hl 1 rfl) ?_
  refine lv_iload_n hx hb dX3_bendOf_2 rfl (lv_at hl 2 rfl) ?_
  refine kx_cb (va_runV (As := [.int (kI (x)), .int (kI (y))]) (rest := []) ⟨hx, hb, hml, hown, hts⟩ (m_X3_has_no l D s.heap a ra sa ka ta sn ik tn th sp iw le fi se g S gap x y hO_a hA_ra (by first | assumption | omega) (by first | assumption | omega) (by first | assumption | omega) (by first | assumption | omega) (by first | assumption | omega) (by first | assumption | omega) (by first | assumption | omega)) (cwV 2 hts (lw_V q2467 q2469 qs65 q89 q2470) rfl rfl rfl (by decide +kernel) ⟨Nat.le_of_ble_eq_true rfl, Nat.le_of_ble_eq_true rfl⟩) (kx_pv hK hS hB (kx_rc hK hO_a (C := RX3) (T := TX3) (N := 13) rfl)) rfl rfl hl.1 rfl (lv_room (Nat.le_of_ble_eq_true rfl)) dX3_bendOf_3 ⟨by first | exact Nat.le_of_ble_eq_true rfl | omega | (show _ ≤ _; omega) | (dsimp only [headSpec]; omega), by first | exact Nat.le_of_ble_eq_true rfl | omega | (show _ ≤ _; omega) | (dsimp only [headSpec]; omega)⟩) hS (fun q _ h => by (try dsimp only at h); (try dsimp only); (try simp only [kNW] at h); (try simp only [kNW]); omega) (fun q h => by (try dsimp only at h); (try dsimp only); (try simp only [kNW] at h); (try simp only [kNW]); omega) (fun z_6 H_4 locs_1 hz_3 hF_5 hS_2 => ?_)
  refine W.widen (k := 0) (n := 0) (Nat.le_of_ble_eq_true rfl) (Nat.le_of_ble_eq_true rfl) ?_
  obtain ⟨hv_7, ho_8⟩ := hz_3
  subst z_6
  refine kx_ifnz (tgt := 11) hx hb dX3_bendOf_6 (by decide) (fun c_6_9 => ?_) (fun c_6_9 => ?_)
  · -- taken at 6
    exact absurd c_6_9 (by decide)
  · -- not taken at 6
    refine kx_iconst hx hb dX3_bendOf_9 ?_
    exact kx_iret (z := 0) hx hb hr hlk (⟨by rfl, ho_8⟩) hS_2 dX3_bendOf_10

set_option maxHeartbeats 4000000 in
set_option maxRecDepth 100000 in
theorem m_X3_lineAt (l : Launch) (D : kG) (H : Heap) (a : Nat) (ra : Nat) (sa : Nat) (ka : Nat) (ta : Nat) (sn : Nat) (ik : Bool) (tn : Nat) (th : Int) (sp : Int) (iw : Bool) (le : Int) (fi : Int) (se : Int) (g : Nat → Int) (S : Ls) (gap : Int) (x : Int) (hO_a : kO D H a 2 [.ref ra, .ref sa, .int (kI ((sn : Nat) : Int)), .ref ka, .int (kI (kb (ik))), .ref ta, .int (kI ((tn : Nat) : Int)), .int (kI (th)), .int (kI (sp)), .int (kI (kb (iw))), .int (kI (le)), .int (kI (fi)), .int (kI (se))]) (hA_ra : kAi D H ra 514 g) (hM : MRow g S gap) (hok : LsOK S gap) (ne_a_ra : a ≠ ra) (bs_a : kBase D ≤ a) (hx3 : 0 ≤ x ∧ x ≤ 383) : Met l yX3_lineAt (ws_ yX3_lineAt cX3_lineAt 2 (some .int)) ({ frames := 3, cells := 0, slots := 0, locals := 67 } : Room) (kPre D H [.ref a, .int (kI (x))]) (kQi (fun (r : Int) H' => (r = st_owner S x) ∧ (kO D H' a 2 [.ref ra, .ref sa, .int (kI ((sn : Nat) : Int)), .ref ka, .int (kI (kb (ik))), .ref ta, .int (kI ((tn : Nat) : Int)), .int (kI (0)), .int (kI (sp)), .int (kI (kb (iw))), .int (kI (le)), .int (kI (fi)), .int (kI (se))])) (fun q : Nat => q = a)) (0) (0) ((fun q : Nat => q = a)) := by
  refine Met.ofW (cc := cX3_lineAt) (maxL := 2) (ret := (some .int)) (by decide) rfl ?_
  intro p e s m args below meth c s₁ B hml hv
  obtain ⟨rfl, hH, hK⟩ := hv
  subst hH
  have hx := B.exec
  have hb := B.bytes
  have hr := B.returns
  have hts := atoms_spec (ws := ws_ yX3_lineAt cX3_lineAt 2 (some .int)) B.pre
  have hts : ∀ w ∈ lw_all, w.before _ s = true := fun w h => hts w (List.mem_cons_of_mem _ h)
  have hown : s.vm.findClass RX3 = some m.cls := findClass_of_methodNamed B.named
  have hlk := B.notSynchronized
  have hS : va_S (fun q : Nat => q = a) s.heap s.heap [] := va_S.rf
  have hB : ∀ q, (fun q : Nat => q = a) q → kBase D ≤ q := fun q h => by (try dsimp only at h); (try simp only [kNW] at h); have hks := hK.size; omega
  have hl := lv_entry ([.ref a, .int (kI (x))]) (n := 2) (Nat.le_of_ble_eq_true rfl)
  rw [lg_entry_eq]
  generalize (lg_sl ([.ref a, .int (kI (x))]) ++ List.replicate (2 - (lg_sl ([.ref a, .int (kI (x))])).length) Slot.unset).toArray = ls at hl ⊢
  have hl : lv_has ls 2 [(0, .ref a), (1, .int (kI (x)))] := hl
  have hL8 := hok.1
  have hlen := hM.len
  refine lv_aload_n hx hb dX3_lineAt_0 rfl (lv_at hl 0 rfl) ?_
  refine kx_iconst hx hb dX3_lineAt_1 ?_
  refine kx_put (v := .int (kI (0))) (C := RX3) (T := TX3) (N := 13) hx hb hts in_X3 hown hK hO_a rfl 7 (by decide) tyX3 tyX3_ok nmX3 hS (by first | rfl | exact Or.inl rfl | exact Or.inr rfl | exact Or.inr (Or.inl rfl) | exact Or.inr (Or.inr rfl) | exact Or.inr (Or.inr (Or.inl rfl)) | exact Or.inr (Or.inr (Or.inr rfl)) | ((try dsimp only); (try simp only [kNW]); omega)) q2245 (fun _ h9 => h9) rfl rfl rfl rfl (Nat.le_of_ble_eq_true rfl) dX3_lineAt_2 (fun H_3 locs_4 hO_2 hU_1 hS_5 => ?_)
  have hO_2 : kO D H_3 a 2 [.ref ra, .ref sa, .int (kI ((sn : Nat) : Int)), .ref ka, .int (kI (kb (ik))), .ref ta, .int (kI ((tn : Nat) : Int)), .int (kI (0)), .int (kI (sp)), .int (kI (kb (iw))), .int (kI (le)), .int (kI (fi)), .int (kI (se))] := hO_2
  refine lv_iload_n hx hb dX3_lineAt_5 rfl (lv_at hl 1 rfl) ?_
  refine kx_cb0 (va_runS (As := [.int (kI (x))]) (rest := []) ⟨hx, hb, hml, hown, hts⟩ (m_X3_isPoint l D H_3 x  (by first | assumption | omega)) (va_cwS 1 hts (lw_S q2294 q2295 q89 q2296) rfl rfl rfl (by decide +kernel) ⟨Nat.le_of_ble_eq_true rfl, Nat.le_of_ble_eq_true rfl⟩) (kx_ps hK hS_5 hB) rfl rfl hl.1 rfl (lv_room (Nat.le_of_ble_eq_true rfl)) dX3_lineAt_6 ⟨by first | exact Nat.le_of_ble_eq_true rfl | omega | (show _ ≤ _; omega) | (dsimp only [headSpec]; omega), by first | exact Nat.le_of_ble_eq_true rfl | omega | (show _ ≤ _; omega) | (dsimp only [headSpec]; omega)⟩) hS_5 (fun z_9 locs_6 hz_8 hS_7 => ?_)
  subst z_9
  refine kx_ifz (tgt := 20) hx hb dX3_lineAt_9 (by decide) (fun c_9_10 => ?_) (fun c_9_10 => ?_)
  · -- taken at 9
    have c_9_10 := of_decide_eq_false c_9_10
    exfalso; omega
  · -- not taken at 9
    have c_9_10 := of_decide_eq_true c_9_10
    refine lv_aload_n hx hb dX3_lineAt_12 rfl (lv_at hl 0 rfl) ?_
    refine lv_iload_n hx hb dX3_lineAt_13 rfl (lv_at hl 1 rfl) ?_
    have h_11 := hA_ra.up hU_1 (by first | assumption | exact Ne.symm (by assumption) | omega)
    refine kx_ci0 (va_runV (As := [.int (kI (x))]) (rest := []) ⟨hx, hb, hml, hown, hts⟩ (m_X3_owner l D H_3 a ([.ref ra, .ref sa, .int (kI ((sn : Nat) : Int)), .ref ka, .int (kI (kb (ik))), .ref ta, .int (kI ((tn : Nat) : Int)), .int (kI (0)), .int (kI (sp)), .int (kI (kb (iw))), .int (kI (le)), .int (kI (fi)), .int (kI (se))]) ra g S gap x hO_2 rfl h_11 (by first | assumption | omega) (by first | assumption | omega) (by first | assumption | omega)) (cwV 1 hts (lw_V q2300 q2302 qs39 q89 q2303) rfl rfl rfl (by decide +kernel) ⟨Nat.le_of_ble_eq_true rfl, Nat.le_of_ble_eq_true rfl⟩) (kx_pv hK hS_7 hB (kx_rc hK hO_2 (C := RX3) (T := TX3) (N := 13) rfl)) rfl rfl hl.1 rfl (lv_room (Nat.le_of_ble_eq_true rfl)) dX3_lineAt_14 ⟨by first | exact Nat.le_of_ble_eq_true rfl | omega | (show _ ≤ _; omega) | (dsimp only [headSpec]; omega), by first | exact Nat.le_of_ble_eq_true rfl | omega | (show _ ≤ _; omega) | (dsimp only [headSpec]; omega)⟩) hS_7 (fun z_15 locs_12 hz_14 hS_13 => ?_)
    subst z_15
    refine lv_goto (tgt := 25) hx hb dX3_lineAt_17 (by decide) ?_
    exact kx_iret (z := st_owner S x) hx hb hr hlk (⟨by rfl, hO_2⟩) hS_13 dX3_lineAt_25

set_option maxHeartbeats 4000000 in
set_option maxRecDepth 100000 in
theorem m_X3_lineAt_no (l : Launch) (D : kG) (H : Heap) (a : Nat) (ra : Nat) (sa : Nat) (ka : Nat) (ta : Nat) (sn : Nat) (ik : Bool) (tn : Nat) (th : Int) (sp : Int) (iw : Bool) (le : Int) (fi : Int) (se : Int) (g : Nat → Int) (S : Ls) (gap : Int) (x : Int) (hO_a : kO D H a 2 [.ref ra, .ref sa, .int (kI ((sn : Nat) : Int)), .ref ka, .int (kI (kb (ik))), .ref ta, .int (kI ((tn : Nat) : Int)), .int (kI (th)), .int (kI (sp)), .int (kI (kb (iw))), .int (kI (le)), .int (kI (fi)), .int (kI (se))]) (hA_ra : kAi D H ra 514 g) (hM : MRow g S gap) (hok : LsOK S gap) (ne_a_ra : a ≠ ra) (bs_a : kBase D ≤ a) (hr_x : -2147483648 ≤ x ∧ x ≤ 2147483647) (hno : ¬ (0 ≤ x ∧ x ≤ 383)) : Met l yX3_lineAt (ws_ yX3_lineAt cX3_lineAt 2 (some .int)) ({ frames := 2, cells := 0, slots := 0, locals := 42 } : Room) (kPre D H [.ref a, .int (kI (x))]) (kQi (fun (r : Int) H' => (r = 0) ∧ (kO D H' a 2 [.ref ra, .ref sa, .int (kI ((sn : Nat) : Int)), .ref ka, .int (kI (kb (ik))), .ref ta, .int (kI ((tn : Nat) : Int)), .int (kI (1)), .int (kI (sp)), .int (kI (kb (iw))), .int (kI (le)), .int (kI (fi)), .int (kI (se))])) (fun q : Nat => q = a)) (0) (0) ((fun q : Nat => q = a)) := by
  refine Met.ofW (cc := cX3_lineAt) (maxL := 2) (ret := (some .int)) (by decide) rfl ?_
  intro p e s m args below meth c s₁ B hml hv
  obtain ⟨rfl, hH, hK⟩ := hv
  subst hH
  have hx := B.exec
  have hb := B.bytes
  have hr := B.returns
  have hts := atoms_spec (ws := ws_ yX3_lineAt cX3_lineAt 2 (some .int)) B.pre
  have hts : ∀ w ∈ lw_all, w.before _ s = true := fun w h => hts w (List.mem_cons_of_mem _ h)
  have hown : s.vm.findClass RX3 = some m.cls := findClass_of_methodNamed B.named
  have hlk := B.notSynchronized
  have hS : va_S (fun q : Nat => q = a) s.heap s.heap [] := va_S.rf
  have hB : ∀ q, (fun q : Nat => q = a) q → kBase D ≤ q := fun q h => by (try dsimp only at h); (try simp only [kNW] at h); have hks := hK.size; omega
  have hl := lv_entry ([.ref a, .int (kI (x))]) (n := 2) (Nat.le_of_ble_eq_true rfl)
  rw [lg_entry_eq]
  generalize (lg_sl ([.ref a, .int (kI (x))]) ++ List.replicate (2 - (lg_sl ([.ref a, .int (kI (x))])).length) Slot.unset).toArray = ls at hl ⊢
  have hl : lv_has ls 2 [(0, .ref a), (1, .int (kI (x)))] := hl
  have hL8 := hok.1
  have hlen := hM.len
  refine lv_aload_n hx hb dX3_lineAt_0 rfl (lv_at hl 0 rfl) ?_
  refine kx_iconst hx hb dX3_lineAt_1 ?_
  refine kx_put (v := .int (kI (0))) (C := RX3) (T := TX3) (N := 13) hx hb hts in_X3 hown hK hO_a rfl 7 (by decide) tyX3 tyX3_ok nmX3 hS (by first | rfl | exact Or.inl rfl | exact Or.inr rfl | exact Or.inr (Or.inl rfl) | exact Or.inr (Or.inr rfl) | exact Or.inr (Or.inr (Or.inl rfl)) | exact Or.inr (Or.inr (Or.inr rfl)) | ((try dsimp only); (try simp only [kNW]); omega)) q2245 (fun _ h9 => h9) rfl rfl rfl rfl (Nat.le_of_ble_eq_true rfl) dX3_lineAt_2 (fun H_3 locs_4 hO_2 hU_1 hS_5 => ?_)
  have hO_2 : kO D H_3 a 2 [.ref ra, .ref sa, .int (kI ((sn : Nat) : Int)), .ref ka, .int (kI (kb (ik))), .ref ta, .int (kI ((tn : Nat) : Int)), .int (kI (0)), .int (kI (sp)), .int (kI (kb (iw))), .int (kI (le)), .int (kI (fi)), .int (kI (se))] := hO_2
  refine lv_iload_n hx hb dX3_lineAt_5 rfl (lv_at hl 1 rfl) ?_
  refine kx_cb0 (va_runS (As := [.int (kI (x))]) (rest := []) ⟨hx, hb, hml, hown, hts⟩ (m_X3_isPoint l D H_3 x  (by first | assumption | omega)) (va_cwS 1 hts (lw_S q2294 q2295 q89 q2296) rfl rfl rfl (by decide +kernel) ⟨Nat.le_of_ble_eq_true rfl, Nat.le_of_ble_eq_true rfl⟩) (kx_ps hK hS_5 hB) rfl rfl hl.1 rfl (lv_room (Nat.le_of_ble_eq_true rfl)) dX3_lineAt_6 ⟨by first | exact Nat.le_of_ble_eq_true rfl | omega | (show _ ≤ _; omega) | (dsimp only [headSpec]; omega), by first | exact Nat.le_of_ble_eq_true rfl | omega | (show _ ≤ _; omega) | (dsimp only [headSpec]; omega)⟩) hS_5 (fun z_9 locs_6 hz_8 hS_7 => ?_)
  subst z_9
  refine kx_ifz (tgt := 20) hx hb dX3_lineAt_9 (by decide) (fun c_9_10 => ?_) (fun c_9_10 => ?_)
  · -- taken at 9
    have c_9_10 := of_decide_eq_false c_9_10
    refine lv_aload_n hx hb dX3_lineAt_20 rfl (lv_at hl 0 rfl) ?_
    refine kx_iconst hx hb dX3_lineAt_21 ?_
    refine kx_ci (va_runV (As := [.int (kI (1))]) (rest := []) ⟨hx, hb, hml, hown, hts⟩ (m_X3_fails l D H_3 a ra sa ka ta sn ik tn 0 sp iw le fi se 1 hO_2 (by first | assumption | omega)) (cwV 1 hts (lw_V q2455 q2457 qs64 q89 q2458) rfl rfl rfl (by decide +kernel) ⟨Nat.le_of_ble_eq_true rfl, Nat.le_of_ble_eq_true rfl⟩) (kx_pv hK hS_7 hB (kx_rc hK hO_2 (C := RX3) (T := TX3) (N := 13) rfl)) rfl rfl hl.1 rfl (lv_room (Nat.le_of_ble_eq_true rfl)) dX3_lineAt_22 ⟨by first | exact Nat.le_of_ble_eq_true rfl | omega | (show _ ≤ _; omega) | (dsimp only [headSpec]; omega), by first | exact Nat.le_of_ble_eq_true rfl | omega | (show _ ≤ _; omega) | (dsimp only [headSpec]; omega)⟩) hS_7 (fun q _ h => by (try dsimp only at h); (try dsimp only); (try simp only [kNW] at h); (try simp only [kNW]); omega) (fun q h => by (try dsimp only at h); (try dsimp only); (try simp only [kNW] at h); (try simp only [kNW]); omega) (fun z_16 H_14 locs_11 hz_13 hF_15 hS_12 => ?_)
    refine W.widen (k := 0) (n := 0) (Nat.le_of_ble_eq_true rfl) (Nat.le_of_ble_eq_true rfl) ?_
    obtain ⟨hv_17, ho_18⟩ := hz_13
    subst z_16
    exact kx_iret (z := 0) hx hb hr hlk (⟨by rfl, ho_18⟩) hS_12 dX3_lineAt_25
  · -- not taken at 9
    have c_9_10 := of_decide_eq_true c_9_10
    exfalso; omega

set_option maxHeartbeats 4000000 in
set_option maxRecDepth 100000 in
theorem m_X3_isClosed (l : Launch) (D : kG) (H : Heap) (a : Nat) (ra : Nat) (sa : Nat) (ka : Nat) (ta : Nat) (sn : Nat) (ik : Bool) (tn : Nat) (th : Int) (sp : Int) (iw : Bool) (le : Int) (fi : Int) (se : Int) (g : Nat → Int) (S : Ls) (gap : Int) (ln : Nat) (hO_a : kO D H a 2 [.ref ra, .ref sa, .int (kI ((sn : Nat) : Int)), .ref ka, .int (kI (kb (ik))), .ref ta, .int (kI ((tn : Nat) : Int)), .int (kI (th)), .int (kI (sp)), .int (kI (kb (iw))), .int (kI (le)), .int (kI (fi)), .int (kI (se))]) (hA_ra : kAi D H ra 514 g) (hM : MRow g S gap) (hok : LsOK S gap) (ne_a_ra : a ≠ ra) (bs_a : kBase D ≤ a) (hln : ln < S.length) : Met l yX3_isClosed (ws_ yX3_isClosed cX3_isClosed 2 (some .boolean)) ({ frames := 5, cells := 0, slots := 0, locals := 108 } : Room) (kPre D H [.ref a, .int (kI ((ln : Nat) : Int))]) (kQb (fun (r : Bool) H' => (r = ln_cl (st_ln S ln)) ∧ (kO D H' a 2 [.ref ra, .ref sa, .int (kI ((sn : Nat) : Int)), .ref ka, .int (kI (kb (ik))), .ref ta, .int (kI ((tn : Nat) : Int)), .int (kI (0)), .int (kI (sp)), .int (kI (kb (iw))), .int (kI (le)), .int (kI (fi)), .int (kI (se))])) (fun q : Nat => q = a)) (0) (0) ((fun q : Nat => q = a)) := by
  refine Met.ofW (cc := cX3_isClosed) (maxL := 2) (ret := (some .boolean)) (by decide) rfl ?_
  intro p e s m args below meth c s₁ B hml hv
  obtain ⟨rfl, hH, hK⟩ := hv
  subst hH
  have hx := B.exec
  have hb := B.bytes
  have hr := B.returns
  have hts := atoms_spec (ws := ws_ yX3_isClosed cX3_isClosed 2 (some .boolean)) B.pre
  have hts : ∀ w ∈ lw_all, w.before _ s = true := fun w h => hts w (List.mem_cons_of_mem _ h)
  have hown : s.vm.findClass RX3 = some m.cls := findClass_of_methodNamed B.named
  have hlk := B.notSynchronized
  have hS : va_S (fun q : Nat => q = a) s.heap s.heap [] := va_S.rf
  have hB : ∀ q, (fun q : Nat => q = a) q → kBase D ≤ q := fun q h => by (try dsimp only at h); (try simp only [kNW] at h); have hks := hK.size; omega
  have hl := lv_entry ([.ref a, .int (kI ((ln : Nat) : Int))]) (n := 2) (Nat.le_of_ble_eq_true rfl)
  rw [lg_entry_eq]
  generalize (lg_sl ([.ref a, .int (kI ((ln : Nat) : Int))]) ++ List.replicate (2 - (lg_sl ([.ref a, .int (kI ((ln : Nat) : Int))])).length) Slot.unset).toArray = ls at hl ⊢
  have hl : lv_has ls 2 [(0, .ref a), (1, .int (kI ((ln : Nat) : Int)))] := hl
  have hL := hok.ln hln
  have hL60 := hL.n
  have hL8 := hok.1
  refine lv_aload_n hx hb dX3_isClosed_0 rfl (lv_at hl 0 rfl) ?_
  refine lv_iload_n hx hb dX3_isClosed_1 rfl (lv_at hl 1 rfl) ?_
  refine kx_cb (va_runV (As := [.int (kI ((ln : Nat) : Int))]) (rest := []) ⟨hx, hb, hml, hown, hts⟩ (m_X3_knows l D s.heap a ra sa ka ta sn ik tn th sp iw le fi se g S gap ln hO_a hA_ra (by first | assumption | omega) (by first | assumption | omega) (by first | assumption | omega) (by first | assumption | omega) (by first | assumption | omega)) (cwV 1 hts (lw_V q2479 q2481 qs66 q89 q2482) rfl rfl rfl (by decide +kernel) ⟨Nat.le_of_ble_eq_true rfl, Nat.le_of_ble_eq_true rfl⟩) (kx_pv hK hS hB (kx_rc hK hO_a (C := RX3) (T := TX3) (N := 13) rfl)) rfl rfl hl.1 rfl (lv_room (Nat.le_of_ble_eq_true rfl)) dX3_isClosed_2 ⟨by first | exact Nat.le_of_ble_eq_true rfl | omega | (show _ ≤ _; omega) | (dsimp only [headSpec]; omega), by first | exact Nat.le_of_ble_eq_true rfl | omega | (show _ ≤ _; omega) | (dsimp only [headSpec]; omega)⟩) hS (fun q _ h => by (try dsimp only at h); (try dsimp only); (try simp only [kNW] at h); (try simp only [kNW]); omega) (fun q h => by (try dsimp only at h); (try dsimp only); (try simp only [kNW] at h); (try simp only [kNW]); omega) (fun z_6 H_4 locs_1 hz_3 hF_5 hS_2 => ?_)
  refine W.widen (k := 0) (n := 0) (Nat.le_of_ble_eq_true rfl) (Nat.le_of_ble_eq_true rfl) ?_
  obtain ⟨hv_7, ho_8⟩ := hz_3
  subst z_6
  refine kx_ifz (tgt := 20) hx hb dX3_isClosed_5 (by decide) (fun c_5_9 => ?_) (fun c_5_9 => ?_)
  · -- taken at 5
    exact absurd c_5_9 (by decide)
  · -- not taken at 5
    refine lv_aload_n hx hb dX3_isClosed_8 rfl (lv_at hl 0 rfl) ?_
    refine lv_iload_n hx hb dX3_isClosed_9 rfl (lv_at hl 1 rfl) ?_
    have h_10 := hA_ra.fr hF_5 (fun h => by (try dsimp only at h); (try simp only [kNW] at h); omega)
    refine kx_cb0 (va_runV (As := [.int (kI ((ln : Nat) : Int))]) (rest := []) ⟨hx, hb, hml, hown, hts⟩ (m_X3_closes l D H_4 a ([.ref ra, .ref sa, .int (kI ((sn : Nat) : Int)), .ref ka, .int (kI (kb (ik))), .ref ta, .int (kI ((tn : Nat) : Int)), .int (kI (0)), .int (kI (sp)), .int (kI (kb (iw))), .int (kI (le)), .int (kI (fi)), .int (kI (se))]) ra g S gap ln ho_8 rfl h_10 (by first | assumption | omega) (by first | assumption | omega) (by first | assumption | omega)) (cwV 1 hts (lw_V q2322 q2324 qs43 q89 q2325) rfl rfl rfl (by decide +kernel) ⟨Nat.le_of_ble_eq_true rfl, Nat.le_of_ble_eq_true rfl⟩) (kx_pv hK hS_2 hB (kx_rc hK ho_8 (C := RX3) (T := TX3) (N := 13) rfl)) rfl rfl hl.1 rfl (lv_room (Nat.le_of_ble_eq_true rfl)) dX3_isClosed_10 ⟨by first | exact Nat.le_of_ble_eq_true rfl | omega | (show _ ≤ _; omega) | (dsimp only [headSpec]; omega), by first | exact Nat.le_of_ble_eq_true rfl | omega | (show _ ≤ _; omega) | (dsimp only [headSpec]; omega)⟩) hS_2 (fun z_14 locs_11 hz_13 hS_12 => ?_)
    subst z_14
    refine kx_ifz (tgt := 20) hx hb dX3_isClosed_13 (by decide) (fun c_13_15 => ?_) (fun c_13_15 => ?_)
    · -- taken at 13
      refine kx_iconst hx hb dX3_isClosed_20 ?_
      exact kx_zret (z := false) hx hb hr hlk (⟨by simp [*], ho_8⟩) hS_12 dX3_isClosed_21
    · -- not taken at 13
      refine kx_iconst hx hb dX3_isClosed_16 ?_
      refine lv_goto (tgt := 21) hx hb dX3_isClosed_17 (by decide) ?_
      exact kx_zret (z := true) hx hb hr hlk (⟨by simp [*], ho_8⟩) hS_12 dX3_isClosed_21

set_option maxHeartbeats 4000000 in
set_option maxRecDepth 100000 in
theorem m_X3_isClosed_no (l : Launch) (D : kG) (H : Heap) (a : Nat) (ra : Nat) (sa : Nat) (ka : Nat) (ta : Nat) (sn : Nat) (ik : Bool) (tn : Nat) (th : Int) (sp : Int) (iw : Bool) (le : Int) (fi : Int) (se : Int) (g : Nat → Int) (S : Ls) (gap : Int) (x : Int) (hO_a : kO D H a 2 [.ref ra, .ref sa, .int (kI ((sn : Nat) : Int)), .ref ka, .int (kI (kb (ik))), .ref ta, .int (kI ((tn : Nat) : Int)), .int (kI (th)), .int (kI (sp)), .int (kI (kb (iw))), .int (kI (le)), .int (kI (fi)), .int (kI (se))]) (hA_ra : kAi D H ra 514 g) (hM : MRow g S gap) (hok : LsOK S gap) (ne_a_ra : a ≠ ra) (bs_a : kBase D ≤ a) (hr_x : -2147483648 ≤ x ∧ x ≤ 2147483647) (hno : ¬ (0 ≤ x ∧ x < S.length)) : Met l yX3_isClosed (ws_ yX3_isClosed cX3_isClosed 2 (some .boolean)) ({ frames := 3, cells := 0, slots := 0, locals := 64 } : Room) (kPre D H [.ref a, .int (kI (x))]) (kQb (fun (r : Bool) H' => (r = false) ∧ (kO D H' a 2 [.ref ra, .ref sa, .int (kI ((sn : Nat) : Int)), .ref ka, .int (kI (kb (ik))), .ref ta, .int (kI ((tn : Nat) : Int)), .int (kI (1)), .int (kI (sp)), .int (kI (kb (iw))), .int (kI (le)), .int (kI (fi)), .int (kI (se))])) (fun q : Nat => q = a)) (0) (0) ((fun q : Nat => q = a)) := by
  refine Met.ofW (cc := cX3_isClosed) (maxL := 2) (ret := (some .boolean)) (by decide) rfl ?_
  intro p e s m args below meth c s₁ B hml hv
  obtain ⟨rfl, hH, hK⟩ := hv
  subst hH
  have hx := B.exec
  have hb := B.bytes
  have hr := B.returns
  have hts := atoms_spec (ws := ws_ yX3_isClosed cX3_isClosed 2 (some .boolean)) B.pre
  have hts : ∀ w ∈ lw_all, w.before _ s = true := fun w h => hts w (List.mem_cons_of_mem _ h)
  have hown : s.vm.findClass RX3 = some m.cls := findClass_of_methodNamed B.named
  have hlk := B.notSynchronized
  have hS : va_S (fun q : Nat => q = a) s.heap s.heap [] := va_S.rf
  have hB : ∀ q, (fun q : Nat => q = a) q → kBase D ≤ q := fun q h => by (try dsimp only at h); (try simp only [kNW] at h); have hks := hK.size; omega
  have hl := lv_entry ([.ref a, .int (kI (x))]) (n := 2) (Nat.le_of_ble_eq_true rfl)
  rw [lg_entry_eq]
  generalize (lg_sl ([.ref a, .int (kI (x))]) ++ List.replicate (2 - (lg_sl ([.ref a, .int (kI (x))])).length) Slot.unset).toArray = ls at hl ⊢
  have hl : lv_has ls 2 [(0, .ref a), (1, .int (kI (x)))] := hl
  have hL8 := hok.1
  have hlen := hM.len
  refine lv_aload_n hx hb dX3_isClosed_0 rfl (lv_at hl 0 rfl) ?_
  refine lv_iload_n hx hb dX3_isClosed_1 rfl (lv_at hl 1 rfl) ?_
  refine kx_cb (va_runV (As := [.int (kI (x))]) (rest := []) ⟨hx, hb, hml, hown, hts⟩ (m_X3_knows_no l D s.heap a ra sa ka ta sn ik tn th sp iw le fi se g S gap x hO_a hA_ra (by first | assumption | omega) (by first | assumption | omega) (by first | assumption | omega) (by first | assumption | omega) (by first | assumption | omega) (by first | assumption | omega)) (cwV 1 hts (lw_V q2479 q2481 qs66 q89 q2482) rfl rfl rfl (by decide +kernel) ⟨Nat.le_of_ble_eq_true rfl, Nat.le_of_ble_eq_true rfl⟩) (kx_pv hK hS hB (kx_rc hK hO_a (C := RX3) (T := TX3) (N := 13) rfl)) rfl rfl hl.1 rfl (lv_room (Nat.le_of_ble_eq_true rfl)) dX3_isClosed_2 ⟨by first | exact Nat.le_of_ble_eq_true rfl | omega | (show _ ≤ _; omega) | (dsimp only [headSpec]; omega), by first | exact Nat.le_of_ble_eq_true rfl | omega | (show _ ≤ _; omega) | (dsimp only [headSpec]; omega)⟩) hS (fun q _ h => by (try dsimp only at h); (try dsimp only); (try simp only [kNW] at h); (try simp only [kNW]); omega) (fun q h => by (try dsimp only at h); (try dsimp only); (try simp only [kNW] at h); (try simp only [kNW]); omega) (fun z_6 H_4 locs_1 hz_3 hF_5 hS_2 => ?_)
  refine W.widen (k := 0) (n := 0) (Nat.le_of_ble_eq_true rfl) (Nat.le_of_ble_eq_true rfl) ?_
  obtain ⟨hv_7, ho_8⟩ := hz_3
  subst z_6
  refine kx_ifz (tgt := 20) hx hb dX3_isClosed_5 (by decide) (fun c_5_9 => ?_) (fun c_5_9 => ?_)
  · -- taken at 5
    refine kx_iconst hx hb dX3_isClosed_20 ?_
    exact kx_zret (z := false) hx hb hr hlk (⟨by rfl, ho_8⟩) hS_2 dX3_isClosed_21
  · -- not taken at 5
    exact absurd c_5_9 (by decide)

set_option maxHeartbeats 4000000 in
set_option maxRecDepth 100000 in
theorem m_X3_sizeOf (l : Launch) (D : kG) (H : Heap) (a : Nat) (ra : Nat) (sa : Nat) (ka : Nat) (ta : Nat) (sn : Nat) (ik : Bool) (tn : Nat) (th : Int) (sp : Int) (iw : Bool) (le : Int) (fi : Int) (se : Int) (g : Nat → Int) (S : Ls) (gap : Int) (ln : Nat) (hO_a : kO D H a 2 [.ref ra, .ref sa, .int (kI ((sn : Nat) : Int)), .ref ka, .int (kI (kb (ik))), .ref ta, .int (kI ((tn : Nat) : Int)), .int (kI (th)), .int (kI (sp)), .int (kI (kb (iw))), .int (kI (le)), .int (kI (fi)), .int (kI (se))]) (hA_ra : kAi D H ra 514 g) (hM : MRow g S gap) (hok : LsOK S gap) (ne_a_ra : a ≠ ra) (bs_a : kBase D ≤ a) (hln : ln < S.length) : Met l yX3_sizeOf (ws_ yX3_sizeOf cX3_sizeOf 2 (some .int)) ({ frames := 3, cells := 0, slots := 0, locals := 64 } : Room) (kPre D H [.ref a, .int (kI ((ln : Nat) : Int))]) (kQi (fun (r : Int) H' => (r = ((ln_size (st_ln S ln) : Nat) : Int)) ∧ (kO D H' a 2 [.ref ra, .ref sa, .int (kI ((sn : Nat) : Int)), .ref ka, .int (kI (kb (ik))), .ref ta, .int (kI ((tn : Nat) : Int)), .int (kI (0)), .int (kI (sp)), .int (kI (kb (iw))), .int (kI (le)), .int (kI (fi)), .int (kI (se))])) (fun q : Nat => q = a)) (0) (0) ((fun q : Nat => q = a)) := by
  refine Met.ofW (cc := cX3_sizeOf) (maxL := 2) (ret := (some .int)) (by decide) rfl ?_
  intro p e s m args below meth c s₁ B hml hv
  obtain ⟨rfl, hH, hK⟩ := hv
  subst hH
  have hx := B.exec
  have hb := B.bytes
  have hr := B.returns
  have hts := atoms_spec (ws := ws_ yX3_sizeOf cX3_sizeOf 2 (some .int)) B.pre
  have hts : ∀ w ∈ lw_all, w.before _ s = true := fun w h => hts w (List.mem_cons_of_mem _ h)
  have hown : s.vm.findClass RX3 = some m.cls := findClass_of_methodNamed B.named
  have hlk := B.notSynchronized
  have hS : va_S (fun q : Nat => q = a) s.heap s.heap [] := va_S.rf
  have hB : ∀ q, (fun q : Nat => q = a) q → kBase D ≤ q := fun q h => by (try dsimp only at h); (try simp only [kNW] at h); have hks := hK.size; omega
  have hl := lv_entry ([.ref a, .int (kI ((ln : Nat) : Int))]) (n := 2) (Nat.le_of_ble_eq_true rfl)
  rw [lg_entry_eq]
  generalize (lg_sl ([.ref a, .int (kI ((ln : Nat) : Int))]) ++ List.replicate (2 - (lg_sl ([.ref a, .int (kI ((ln : Nat) : Int))])).length) Slot.unset).toArray = ls at hl ⊢
  have hl : lv_has ls 2 [(0, .ref a), (1, .int (kI ((ln : Nat) : Int)))] := hl
  have hL := hok.ln hln
  have hL60 := hL.n
  have hL8 := hok.1
  refine lv_aload_n hx hb dX3_sizeOf_0 rfl (lv_at hl 0 rfl) ?_
  refine lv_iload_n hx hb dX3_sizeOf_1 rfl (lv_at hl 1 rfl) ?_
  refine kx_cb (va_runV (As := [.int (kI ((ln : Nat) : Int))]) (rest := []) ⟨hx, hb, hml, hown, hts⟩ (m_X3_knows l D s.heap a ra sa ka ta sn ik tn th sp iw le fi se g S gap ln hO_a hA_ra (by first | assumption | omega) (by first | assumption | omega) (by first | assumption | omega) (by first | assumption | omega) (by first | assumption | omega)) (cwV 1 hts (lw_V q2479 q2481 qs66 q89 q2482) rfl rfl rfl (by decide +kernel) ⟨Nat.le_of_ble_eq_true rfl, Nat.le_of_ble_eq_true rfl⟩) (kx_pv hK hS hB (kx_rc hK hO_a (C := RX3) (T := TX3) (N := 13) rfl)) rfl rfl hl.1 rfl (lv_room (Nat.le_of_ble_eq_true rfl)) dX3_sizeOf_2 ⟨by first | exact Nat.le_of_ble_eq_true rfl | omega | (show _ ≤ _; omega) | (dsimp only [headSpec]; omega), by first | exact Nat.le_of_ble_eq_true rfl | omega | (show _ ≤ _; omega) | (dsimp only [headSpec]; omega)⟩) hS (fun q _ h => by (try dsimp only at h); (try dsimp only); (try simp only [kNW] at h); (try simp only [kNW]); omega) (fun q h => by (try dsimp only at h); (try dsimp only); (try simp only [kNW] at h); (try simp only [kNW]); omega) (fun z_6 H_4 locs_1 hz_3 hF_5 hS_2 => ?_)
  refine W.widen (k := 0) (n := 0) (Nat.le_of_ble_eq_true rfl) (Nat.le_of_ble_eq_true rfl) ?_
  obtain ⟨hv_7, ho_8⟩ := hz_3
  subst z_6
  refine kx_ifz (tgt := 16) hx hb dX3_sizeOf_5 (by decide) (fun c_5_9 => ?_) (fun c_5_9 => ?_)
  · -- taken at 5
    exact absurd c_5_9 (by decide)
  · -- not taken at 5
    refine lv_aload_n hx hb dX3_sizeOf_8 rfl (lv_at hl 0 rfl) ?_
    refine lv_iload_n hx hb dX3_sizeOf_9 rfl (lv_at hl 1 rfl) ?_
    have h_10 := hA_ra.fr hF_5 (fun h => by (try dsimp only at h); (try simp only [kNW] at h); omega)
    refine kx_ci0 (va_runV (As := [.int (kI ((ln : Nat) : Int))]) (rest := []) ⟨hx, hb, hml, hown, hts⟩ (m_X3_size l D H_4 a ([.ref ra, .ref sa, .int (kI ((sn : Nat) : Int)), .ref ka, .int (kI (kb (ik))), .ref ta, .int (kI ((tn : Nat) : Int)), .int (kI (0)), .int (kI (sp)), .int (kI (kb (iw))), .int (kI (le)), .int (kI (fi)), .int (kI (se))]) ra g S gap ln ho_8 rfl h_10 (by first | assumption | omega) (by first | assumption | omega) (by first | assumption | omega)) (cwV 1 hts (lw_V q2349 q2351 qs49 q89 q2352) rfl rfl rfl (by decide +kernel) ⟨Nat.le_of_ble_eq_true rfl, Nat.le_of_ble_eq_true rfl⟩) (kx_pv hK hS_2 hB (kx_rc hK ho_8 (C := RX3) (T := TX3) (N := 13) rfl)) rfl rfl hl.1 rfl (lv_room (Nat.le_of_ble_eq_true rfl)) dX3_sizeOf_10 ⟨by first | exact Nat.le_of_ble_eq_true rfl | omega | (show _ ≤ _; omega) | (dsimp only [headSpec]; omega), by first | exact Nat.le_of_ble_eq_true rfl | omega | (show _ ≤ _; omega) | (dsimp only [headSpec]; omega)⟩) hS_2 (fun z_14 locs_11 hz_13 hS_12 => ?_)
    subst z_14
    refine lv_goto (tgt := 17) hx hb dX3_sizeOf_13 (by decide) ?_
    exact kx_iret (z := ((ln_size (st_ln S ln) : Nat) : Int)) hx hb hr hlk (⟨by rfl, ho_8⟩) hS_12 dX3_sizeOf_17

set_option maxHeartbeats 4000000 in
set_option maxRecDepth 100000 in
theorem m_X3_sizeOf_no (l : Launch) (D : kG) (H : Heap) (a : Nat) (ra : Nat) (sa : Nat) (ka : Nat) (ta : Nat) (sn : Nat) (ik : Bool) (tn : Nat) (th : Int) (sp : Int) (iw : Bool) (le : Int) (fi : Int) (se : Int) (g : Nat → Int) (S : Ls) (gap : Int) (x : Int) (hO_a : kO D H a 2 [.ref ra, .ref sa, .int (kI ((sn : Nat) : Int)), .ref ka, .int (kI (kb (ik))), .ref ta, .int (kI ((tn : Nat) : Int)), .int (kI (th)), .int (kI (sp)), .int (kI (kb (iw))), .int (kI (le)), .int (kI (fi)), .int (kI (se))]) (hA_ra : kAi D H ra 514 g) (hM : MRow g S gap) (hok : LsOK S gap) (ne_a_ra : a ≠ ra) (bs_a : kBase D ≤ a) (hr_x : -2147483648 ≤ x ∧ x ≤ 2147483647) (hno : ¬ (0 ≤ x ∧ x < S.length)) : Met l yX3_sizeOf (ws_ yX3_sizeOf cX3_sizeOf 2 (some .int)) ({ frames := 3, cells := 0, slots := 0, locals := 64 } : Room) (kPre D H [.ref a, .int (kI (x))]) (kQi (fun (r : Int) H' => (r = 0) ∧ (kO D H' a 2 [.ref ra, .ref sa, .int (kI ((sn : Nat) : Int)), .ref ka, .int (kI (kb (ik))), .ref ta, .int (kI ((tn : Nat) : Int)), .int (kI (1)), .int (kI (sp)), .int (kI (kb (iw))), .int (kI (le)), .int (kI (fi)), .int (kI (se))])) (fun q : Nat => q = a)) (0) (0) ((fun q : Nat => q = a)) := by
  refine Met.ofW (cc := cX3_sizeOf) (maxL := 2) (ret := (some .int)) (by decide) rfl ?_
  intro p e s m args below meth c s₁ B hml hv
  obtain ⟨rfl, hH, hK⟩ := hv
  subst hH
  have hx := B.exec
  have hb := B.bytes
  have hr := B.returns
  have hts := atoms_spec (ws := ws_ yX3_sizeOf cX3_sizeOf 2 (some .int)) B.pre
  have hts : ∀ w ∈ lw_all, w.before _ s = true := fun w h => hts w (List.mem_cons_of_mem _ h)
  have hown : s.vm.findClass RX3 = some m.cls := findClass_of_methodNamed B.named
  have hlk := B.notSynchronized
  have hS : va_S (fun q : Nat => q = a) s.heap s.heap [] := va_S.rf
  have hB : ∀ q, (fun q : Nat => q = a) q → kBase D ≤ q := fun q h => by (try dsimp only at h); (try simp only [kNW] at h); have hks := hK.size; omega
  have hl := lv_entry ([.ref a, .int (kI (x))]) (n := 2) (Nat.le_of_ble_eq_true rfl)
  rw [lg_entry_eq]
  generalize (lg_sl ([.ref a, .int (kI (x))]) ++ List.replicate (2 - (lg_sl ([.ref a, .int (kI (x))])).length) Slot.unset).toArray = ls at hl ⊢
  have hl : lv_has ls 2 [(0, .ref a), (1, .int (kI (x)))] := hl
  have hL8 := hok.1
  have hlen := hM.len
  refine lv_aload_n hx hb dX3_sizeOf_0 rfl (lv_at hl 0 rfl) ?_
  refine lv_iload_n hx hb dX3_sizeOf_1 rfl (lv_at hl 1 rfl) ?_
  refine kx_cb (va_runV (As := [.int (kI (x))]) (rest := []) ⟨hx, hb, hml, hown, hts⟩ (m_X3_knows_no l D s.heap a ra sa ka ta sn ik tn th sp iw le fi se g S gap x hO_a hA_ra (by first | assumption | omega) (by first | assumption | omega) (by first | assumption | omega) (by first | assumption | omega) (by first | assumption | omega) (by first | assumption | omega)) (cwV 1 hts (lw_V q2479 q2481 qs66 q89 q2482) rfl rfl rfl (by decide +kernel) ⟨Nat.le_of_ble_eq_true rfl, Nat.le_of_ble_eq_true rfl⟩) (kx_pv hK hS hB (kx_rc hK hO_a (C := RX3) (T := TX3) (N := 13) rfl)) rfl rfl hl.1 rfl (lv_room (Nat.le_of_ble_eq_true rfl)) dX3_sizeOf_2 ⟨by first | exact Nat.le_of_ble_eq_true rfl | omega | (show _ ≤ _; omega) | (dsimp only [headSpec]; omega), by first | exact Nat.le_of_ble_eq_true rfl | omega | (show _ ≤ _; omega) | (dsimp only [headSpec]; omega)⟩) hS (fun q _ h => by (try dsimp only at h); (try dsimp only); (try simp only [kNW] at h); (try simp only [kNW]); omega) (fun q h => by (try dsimp only at h); (try dsimp only); (try simp only [kNW] at h); (try simp only [kNW]); omega) (fun z_6 H_4 locs_1 hz_3 hF_5 hS_2 => ?_)
  refine W.widen (k := 0) (n := 0) (Nat.le_of_ble_eq_true rfl) (Nat.le_of_ble_eq_true rfl) ?_
  obtain ⟨hv_7, ho_8⟩ := hz_3
  subst z_6
  refine kx_ifz (tgt := 16) hx hb dX3_sizeOf_5 (by decide) (fun c_5_9 => ?_) (fun c_5_9 => ?_)
  · -- taken at 5
    refine kx_iconst hx hb dX3_sizeOf_16 ?_
    exact kx_iret (z := 0) hx hb hr hlk (⟨by rfl, ho_8⟩) hS_2 dX3_sizeOf_17
  · -- not taken at 5
    exact absurd c_5_9 (by decide)

set_option maxHeartbeats 4000000 in
set_option maxRecDepth 100000 in
theorem m_X3_bestPlace (l : Launch) (D : kG) (H : Heap) (a : Nat) (ra : Nat) (sa : Nat) (ka : Nat) (ta : Nat) (sn : Nat) (ik : Bool) (tn : Nat) (th : Int) (sp : Int) (iw : Bool) (le : Int) (fi : Int) (se : Int) (g : Nat → Int) (S : Ls) (gap : Int) (ln : Nat) (hO_a : kO D H a 2 [.ref ra, .ref sa, .int (kI ((sn : Nat) : Int)), .ref ka, .int (kI (kb (ik))), .ref ta, .int (kI ((tn : Nat) : Int)), .int (kI (th)), .int (kI (sp)), .int (kI (kb (iw))), .int (kI (le)), .int (kI (fi)), .int (kI (se))]) (hA_ra : kAi D H ra 514 g) (hM : MRow g S gap) (hok : LsOK S gap) (ne_a_ra : a ≠ ra) (bs_a : kBase D ≤ a) (hln : ln < S.length) : Met l yX3_bestPlace (ws_ yX3_bestPlace cX3_bestPlace 2 (some .int)) ({ frames := 9, cells := 0, slots := 0, locals := 207 } : Room) (kPre D H [.ref a, .int (kI ((ln : Nat) : Int))]) (kQi (fun (r : Int) H' => (r = st_best S gap ln) ∧ (kO D H' a 2 [.ref ra, .ref sa, .int (kI ((sn : Nat) : Int)), .ref ka, .int (kI (kb (ik))), .ref ta, .int (kI ((tn : Nat) : Int)), .int (kI (0)), .int (kI (sp)), .int (kI (kb (iw))), .int (kI (le)), .int (kI (fi)), .int (kI (se))])) (fun q : Nat => q = a)) (0) (0) ((fun q : Nat => q = a)) := by
  refine Met.ofW (cc := cX3_bestPlace) (maxL := 2) (ret := (some .int)) (by decide) rfl ?_
  intro p e s m args below meth c s₁ B hml hv
  obtain ⟨rfl, hH, hK⟩ := hv
  subst hH
  have hx := B.exec
  have hb := B.bytes
  have hr := B.returns
  have hts := atoms_spec (ws := ws_ yX3_bestPlace cX3_bestPlace 2 (some .int)) B.pre
  have hts : ∀ w ∈ lw_all, w.before _ s = true := fun w h => hts w (List.mem_cons_of_mem _ h)
  have hown : s.vm.findClass RX3 = some m.cls := findClass_of_methodNamed B.named
  have hlk := B.notSynchronized
  have hS : va_S (fun q : Nat => q = a) s.heap s.heap [] := va_S.rf
  have hB : ∀ q, (fun q : Nat => q = a) q → kBase D ≤ q := fun q h => by (try dsimp only at h); (try simp only [kNW] at h); have hks := hK.size; omega
  have hl := lv_entry ([.ref a, .int (kI ((ln : Nat) : Int))]) (n := 2) (Nat.le_of_ble_eq_true rfl)
  rw [lg_entry_eq]
  generalize (lg_sl ([.ref a, .int (kI ((ln : Nat) : Int))]) ++ List.replicate (2 - (lg_sl ([.ref a, .int (kI ((ln : Nat) : Int))])).length) Slot.unset).toArray = ls at hl ⊢
  have hl : lv_has ls 2 [(0, .ref a), (1, .int (kI ((ln : Nat) : Int)))] := hl
  have hL := hok.ln hln
  have hL60 := hL.n
  have hL8 := hok.1
  refine lv_aload_n hx hb dX3_bestPlace_0 rfl (lv_at hl 0 rfl) ?_
  refine lv_iload_n hx hb dX3_bestPlace_1 rfl (lv_at hl 1 rfl) ?_
  refine kx_cb (va_runV (As := [.int (kI ((ln : Nat) : Int))]) (rest := []) ⟨hx, hb, hml, hown, hts⟩ (m_X3_knows l D s.heap a ra sa ka ta sn ik tn th sp iw le fi se g S gap ln hO_a hA_ra (by first | assumption | omega) (by first | assumption | omega) (by first | assumption | omega) (by first | assumption | omega) (by first | assumption | omega)) (cwV 1 hts (lw_V q2479 q2481 qs66 q89 q2482) rfl rfl rfl (by decide +kernel) ⟨Nat.le_of_ble_eq_true rfl, Nat.le_of_ble_eq_true rfl⟩) (kx_pv hK hS hB (kx_rc hK hO_a (C := RX3) (T := TX3) (N := 13) rfl)) rfl rfl hl.1 rfl (lv_room (Nat.le_of_ble_eq_true rfl)) dX3_bestPlace_2 ⟨by first | exact Nat.le_of_ble_eq_true rfl | omega | (show _ ≤ _; omega) | (dsimp only [headSpec]; omega), by first | exact Nat.le_of_ble_eq_true rfl | omega | (show _ ≤ _; omega) | (dsimp only [headSpec]; omega)⟩) hS (fun q _ h => by (try dsimp only at h); (try dsimp only); (try simp only [kNW] at h); (try simp only [kNW]); omega) (fun q h => by (try dsimp only at h); (try dsimp only); (try simp only [kNW] at h); (try simp only [kNW]); omega) (fun z_6 H_4 locs_1 hz_3 hF_5 hS_2 => ?_)
  refine W.widen (k := 0) (n := 0) (Nat.le_of_ble_eq_true rfl) (Nat.le_of_ble_eq_true rfl) ?_
  obtain ⟨hv_7, ho_8⟩ := hz_3
  subst z_6
  refine kx_ifz (tgt := 16) hx hb dX3_bestPlace_5 (by decide) (fun c_5_9 => ?_) (fun c_5_9 => ?_)
  · -- taken at 5
    exact absurd c_5_9 (by decide)
  · -- not taken at 5
    refine lv_aload_n hx hb dX3_bestPlace_8 rfl (lv_at hl 0 rfl) ?_
    refine lv_iload_n hx hb dX3_bestPlace_9 rfl (lv_at hl 1 rfl) ?_
    have h_10 := hA_ra.fr hF_5 (fun h => by (try dsimp only at h); (try simp only [kNW] at h); omega)
    refine kx_ci0 (va_runV (As := [.int (kI ((ln : Nat) : Int))]) (rest := []) ⟨hx, hb, hml, hown, hts⟩ (m_X3_best l D H_4 a ([.ref ra, .ref sa, .int (kI ((sn : Nat) : Int)), .ref ka, .int (kI (kb (ik))), .ref ta, .int (kI ((tn : Nat) : Int)), .int (kI (0)), .int (kI (sp)), .int (kI (kb (iw))), .int (kI (le)), .int (kI (fi)), .int (kI (se))]) ra g S gap ln ho_8 rfl h_10 (by first | assumption | omega) (by first | assumption | omega) (by first | assumption | omega)) (cwV 1 hts (lw_V q2379 q2381 qs55 q89 q2382) rfl rfl rfl (by decide +kernel) ⟨Nat.le_of_ble_eq_true rfl, Nat.le_of_ble_eq_true rfl⟩) (kx_pv hK hS_2 hB (kx_rc hK ho_8 (C := RX3) (T := TX3) (N := 13) rfl)) rfl rfl hl.1 rfl (lv_room (Nat.le_of_ble_eq_true rfl)) dX3_bestPlace_10 ⟨by first | exact Nat.le_of_ble_eq_true rfl | omega | (show _ ≤ _; omega) | (dsimp only [headSpec]; omega), by first | exact Nat.le_of_ble_eq_true rfl | omega | (show _ ≤ _; omega) | (dsimp only [headSpec]; omega)⟩) hS_2 (fun z_14 locs_11 hz_13 hS_12 => ?_)
    subst z_14
    refine lv_goto (tgt := 17) hx hb dX3_bestPlace_13 (by decide) ?_
    exact kx_iret (z := st_best S gap ln) hx hb hr hlk (⟨by rfl, ho_8⟩) hS_12 dX3_bestPlace_17

set_option maxHeartbeats 4000000 in
set_option maxRecDepth 100000 in
theorem m_X3_bestPlace_no (l : Launch) (D : kG) (H : Heap) (a : Nat) (ra : Nat) (sa : Nat) (ka : Nat) (ta : Nat) (sn : Nat) (ik : Bool) (tn : Nat) (th : Int) (sp : Int) (iw : Bool) (le : Int) (fi : Int) (se : Int) (g : Nat → Int) (S : Ls) (gap : Int) (x : Int) (hO_a : kO D H a 2 [.ref ra, .ref sa, .int (kI ((sn : Nat) : Int)), .ref ka, .int (kI (kb (ik))), .ref ta, .int (kI ((tn : Nat) : Int)), .int (kI (th)), .int (kI (sp)), .int (kI (kb (iw))), .int (kI (le)), .int (kI (fi)), .int (kI (se))]) (hA_ra : kAi D H ra 514 g) (hM : MRow g S gap) (hok : LsOK S gap) (ne_a_ra : a ≠ ra) (bs_a : kBase D ≤ a) (hr_x : -2147483648 ≤ x ∧ x ≤ 2147483647) (hno : ¬ (0 ≤ x ∧ x < S.length)) : Met l yX3_bestPlace (ws_ yX3_bestPlace cX3_bestPlace 2 (some .int)) ({ frames := 3, cells := 0, slots := 0, locals := 64 } : Room) (kPre D H [.ref a, .int (kI (x))]) (kQi (fun (r : Int) H' => (r = 0) ∧ (kO D H' a 2 [.ref ra, .ref sa, .int (kI ((sn : Nat) : Int)), .ref ka, .int (kI (kb (ik))), .ref ta, .int (kI ((tn : Nat) : Int)), .int (kI (1)), .int (kI (sp)), .int (kI (kb (iw))), .int (kI (le)), .int (kI (fi)), .int (kI (se))])) (fun q : Nat => q = a)) (0) (0) ((fun q : Nat => q = a)) := by
  refine Met.ofW (cc := cX3_bestPlace) (maxL := 2) (ret := (some .int)) (by decide) rfl ?_
  intro p e s m args below meth c s₁ B hml hv
  obtain ⟨rfl, hH, hK⟩ := hv
  subst hH
  have hx := B.exec
  have hb := B.bytes
  have hr := B.returns
  have hts := atoms_spec (ws := ws_ yX3_bestPlace cX3_bestPlace 2 (some .int)) B.pre
  have hts : ∀ w ∈ lw_all, w.before _ s = true := fun w h => hts w (List.mem_cons_of_mem _ h)
  have hown : s.vm.findClass RX3 = some m.cls := findClass_of_methodNamed B.named
  have hlk := B.notSynchronized
  have hS : va_S (fun q : Nat => q = a) s.heap s.heap [] := va_S.rf
  have hB : ∀ q, (fun q : Nat => q = a) q → kBase D ≤ q := fun q h => by (try dsimp only at h); (try simp only [kNW] at h); have hks := hK.size; omega
  have hl := lv_entry ([.ref a, .int (kI (x))]) (n := 2) (Nat.le_of_ble_eq_true rfl)
  rw [lg_entry_eq]
  generalize (lg_sl ([.ref a, .int (kI (x))]) ++ List.replicate (2 - (lg_sl ([.ref a, .int (kI (x))])).length) Slot.unset).toArray = ls at hl ⊢
  have hl : lv_has ls 2 [(0, .ref a), (1, .int (kI (x)))] := hl
  have hL8 := hok.1
  have hlen := hM.len
  refine lv_aload_n hx hb dX3_bestPlace_0 rfl (lv_at hl 0 rfl) ?_
  refine lv_iload_n hx hb dX3_bestPlace_1 rfl (lv_at hl 1 rfl) ?_
  refine kx_cb (va_runV (As := [.int (kI (x))]) (rest := []) ⟨hx, hb, hml, hown, hts⟩ (m_X3_knows_no l D s.heap a ra sa ka ta sn ik tn th sp iw le fi se g S gap x hO_a hA_ra (by first | assumption | omega) (by first | assumption | omega) (by first | assumption | omega) (by first | assumption | omega) (by first | assumption | omega) (by first | assumption | omega)) (cwV 1 hts (lw_V q2479 q2481 qs66 q89 q2482) rfl rfl rfl (by decide +kernel) ⟨Nat.le_of_ble_eq_true rfl, Nat.le_of_ble_eq_true rfl⟩) (kx_pv hK hS hB (kx_rc hK hO_a (C := RX3) (T := TX3) (N := 13) rfl)) rfl rfl hl.1 rfl (lv_room (Nat.le_of_ble_eq_true rfl)) dX3_bestPlace_2 ⟨by first | exact Nat.le_of_ble_eq_true rfl | omega | (show _ ≤ _; omega) | (dsimp only [headSpec]; omega), by first | exact Nat.le_of_ble_eq_true rfl | omega | (show _ ≤ _; omega) | (dsimp only [headSpec]; omega)⟩) hS (fun q _ h => by (try dsimp only at h); (try dsimp only); (try simp only [kNW] at h); (try simp only [kNW]); omega) (fun q h => by (try dsimp only at h); (try dsimp only); (try simp only [kNW] at h); (try simp only [kNW]); omega) (fun z_6 H_4 locs_1 hz_3 hF_5 hS_2 => ?_)
  refine W.widen (k := 0) (n := 0) (Nat.le_of_ble_eq_true rfl) (Nat.le_of_ble_eq_true rfl) ?_
  obtain ⟨hv_7, ho_8⟩ := hz_3
  subst z_6
  refine kx_ifz (tgt := 16) hx hb dX3_bestPlace_5 (by decide) (fun c_5_9 => ?_) (fun c_5_9 => ?_)
  · -- taken at 5
    refine kx_iconst hx hb dX3_bestPlace_16 ?_
    exact kx_iret (z := 0) hx hb hr hlk (⟨by rfl, ho_8⟩) hS_2 dX3_bestPlace_17
  · -- not taken at 5
    exact absurd c_5_9 (by decide)

set_option maxHeartbeats 4000000 in
set_option maxRecDepth 100000 in
theorem m_X3_lineRound (l : Launch) (D : kG) (H : Heap) (a : Nat) (ra : Nat) (sa : Nat) (ka : Nat) (ta : Nat) (sn : Nat) (ik : Bool) (tn : Nat) (th : Int) (sp : Int) (iw : Bool) (le : Int) (fi : Int) (se : Int) (g : Nat → Int) (S : Ls) (gap : Int) (ln : Nat) (hO_a : kO D H a 2 [.ref ra, .ref sa, .int (kI ((sn : Nat) : Int)), .ref ka, .int (kI (kb (ik))), .ref ta, .int (kI ((tn : Nat) : Int)), .int (kI (th)), .int (kI (sp)), .int (kI (kb (iw))), .int (kI (le)), .int (kI (fi)), .int (kI (se))]) (hA_ra : kAi D H ra 514 g) (hM : MRow g S gap) (hok : LsOK S gap) (ne_a_ra : a ≠ ra) (bs_a : kBase D ≤ a) (hln : ln < S.length) : Met l yX3_lineRound (ws_ yX3_lineRound cX3_lineRound 2 (some .int)) ({ frames := 7, cells := 0, slots := 0, locals := 160 } : Room) (kPre D H [.ref a, .int (kI ((ln : Nat) : Int))]) (kQi (fun (r : Int) H' => (r = st_round S ln) ∧ (kO D H' a 2 [.ref ra, .ref sa, .int (kI ((sn : Nat) : Int)), .ref ka, .int (kI (kb (ik))), .ref ta, .int (kI ((tn : Nat) : Int)), .int (kI (0)), .int (kI (sp)), .int (kI (kb (iw))), .int (kI (le)), .int (kI (fi)), .int (kI (se))])) (fun q : Nat => q = a)) (0) (0) ((fun q : Nat => q = a)) := by
  refine Met.ofW (cc := cX3_lineRound) (maxL := 2) (ret := (some .int)) (by decide) rfl ?_
  intro p e s m args below meth c s₁ B hml hv
  obtain ⟨rfl, hH, hK⟩ := hv
  subst hH
  have hx := B.exec
  have hb := B.bytes
  have hr := B.returns
  have hts := atoms_spec (ws := ws_ yX3_lineRound cX3_lineRound 2 (some .int)) B.pre
  have hts : ∀ w ∈ lw_all, w.before _ s = true := fun w h => hts w (List.mem_cons_of_mem _ h)
  have hown : s.vm.findClass RX3 = some m.cls := findClass_of_methodNamed B.named
  have hlk := B.notSynchronized
  have hS : va_S (fun q : Nat => q = a) s.heap s.heap [] := va_S.rf
  have hB : ∀ q, (fun q : Nat => q = a) q → kBase D ≤ q := fun q h => by (try dsimp only at h); (try simp only [kNW] at h); have hks := hK.size; omega
  have hl := lv_entry ([.ref a, .int (kI ((ln : Nat) : Int))]) (n := 2) (Nat.le_of_ble_eq_true rfl)
  rw [lg_entry_eq]
  generalize (lg_sl ([.ref a, .int (kI ((ln : Nat) : Int))]) ++ List.replicate (2 - (lg_sl ([.ref a, .int (kI ((ln : Nat) : Int))])).length) Slot.unset).toArray = ls at hl ⊢
  have hl : lv_has ls 2 [(0, .ref a), (1, .int (kI ((ln : Nat) : Int)))] := hl
  have hL := hok.ln hln
  have hL60 := hL.n
  have hL8 := hok.1
  refine lv_aload_n hx hb dX3_lineRound_0 rfl (lv_at hl 0 rfl) ?_
  refine lv_iload_n hx hb dX3_lineRound_1 rfl (lv_at hl 1 rfl) ?_
  refine kx_cb (va_runV (As := [.int (kI ((ln : Nat) : Int))]) (rest := []) ⟨hx, hb, hml, hown, hts⟩ (m_X3_knows l D s.heap a ra sa ka ta sn ik tn th sp iw le fi se g S gap ln hO_a hA_ra (by first | assumption | omega) (by first | assumption | omega) (by first | assumption | omega) (by first | assumption | omega) (by first | assumption | omega)) (cwV 1 hts (lw_V q2479 q2481 qs66 q89 q2482) rfl rfl rfl (by decide +kernel) ⟨Nat.le_of_ble_eq_true rfl, Nat.le_of_ble_eq_true rfl⟩) (kx_pv hK hS hB (kx_rc hK hO_a (C := RX3) (T := TX3) (N := 13) rfl)) rfl rfl hl.1 rfl (lv_room (Nat.le_of_ble_eq_true rfl)) dX3_lineRound_2 ⟨by first | exact Nat.le_of_ble_eq_true rfl | omega | (show _ ≤ _; omega) | (dsimp only [headSpec]; omega), by first | exact Nat.le_of_ble_eq_true rfl | omega | (show _ ≤ _; omega) | (dsimp only [headSpec]; omega)⟩) hS (fun q _ h => by (try dsimp only at h); (try dsimp only); (try simp only [kNW] at h); (try simp only [kNW]); omega) (fun q h => by (try dsimp only at h); (try dsimp only); (try simp only [kNW] at h); (try simp only [kNW]); omega) (fun z_6 H_4 locs_1 hz_3 hF_5 hS_2 => ?_)
  refine W.widen (k := 0) (n := 0) (Nat.le_of_ble_eq_true rfl) (Nat.le_of_ble_eq_true rfl) ?_
  obtain ⟨hv_7, ho_8⟩ := hz_3
  subst z_6
  refine kx_ifz (tgt := 16) hx hb dX3_lineRound_5 (by decide) (fun c_5_9 => ?_) (fun c_5_9 => ?_)
  · -- taken at 5
    exact absurd c_5_9 (by decide)
  · -- not taken at 5
    refine lv_aload_n hx hb dX3_lineRound_8 rfl (lv_at hl 0 rfl) ?_
    refine lv_iload_n hx hb dX3_lineRound_9 rfl (lv_at hl 1 rfl) ?_
    have h_10 := hA_ra.fr hF_5 (fun h => by (try dsimp only at h); (try simp only [kNW] at h); omega)
    refine kx_ci0 (va_runV (As := [.int (kI ((ln : Nat) : Int))]) (rest := []) ⟨hx, hb, hml, hown, hts⟩ (m_X3_round l D H_4 a ([.ref ra, .ref sa, .int (kI ((sn : Nat) : Int)), .ref ka, .int (kI (kb (ik))), .ref ta, .int (kI ((tn : Nat) : Int)), .int (kI (0)), .int (kI (sp)), .int (kI (kb (iw))), .int (kI (le)), .int (kI (fi)), .int (kI (se))]) ra g S gap ln ho_8 rfl h_10 (by first | assumption | omega) (by first | assumption | omega) (by first | assumption | omega)) (cwV 1 hts (lw_V q2577 q2579 qs71 q89 q2580) rfl rfl rfl (by decide +kernel) ⟨Nat.le_of_ble_eq_true rfl, Nat.le_of_ble_eq_true rfl⟩) (kx_pv hK hS_2 hB (kx_rc hK ho_8 (C := RX3) (T := TX3) (N := 13) rfl)) rfl rfl hl.1 rfl (lv_room (Nat.le_of_ble_eq_true rfl)) dX3_lineRound_10 ⟨by first | exact Nat.le_of_ble_eq_true rfl | omega | (show _ ≤ _; omega) | (dsimp only [headSpec]; omega), by first | exact Nat.le_of_ble_eq_true rfl | omega | (show _ ≤ _; omega) | (dsimp only [headSpec]; omega)⟩) hS_2 (fun z_14 locs_11 hz_13 hS_12 => ?_)
    subst z_14
    refine lv_goto (tgt := 17) hx hb dX3_lineRound_13 (by decide) ?_
    exact kx_iret (z := st_round S ln) hx hb hr hlk (⟨by rfl, ho_8⟩) hS_12 dX3_lineRound_17

set_option maxHeartbeats 4000000 in
set_option maxRecDepth 100000 in
theorem m_X3_lineRound_no (l : Launch) (D : kG) (H : Heap) (a : Nat) (ra : Nat) (sa : Nat) (ka : Nat) (ta : Nat) (sn : Nat) (ik : Bool) (tn : Nat) (th : Int) (sp : Int) (iw : Bool) (le : Int) (fi : Int) (se : Int) (g : Nat → Int) (S : Ls) (gap : Int) (x : Int) (hO_a : kO D H a 2 [.ref ra, .ref sa, .int (kI ((sn : Nat) : Int)), .ref ka, .int (kI (kb (ik))), .ref ta, .int (kI ((tn : Nat) : Int)), .int (kI (th)), .int (kI (sp)), .int (kI (kb (iw))), .int (kI (le)), .int (kI (fi)), .int (kI (se))]) (hA_ra : kAi D H ra 514 g) (hM : MRow g S gap) (hok : LsOK S gap) (ne_a_ra : a ≠ ra) (bs_a : kBase D ≤ a) (hr_x : -2147483648 ≤ x ∧ x ≤ 2147483647) (hno : ¬ (0 ≤ x ∧ x < S.length)) : Met l yX3_lineRound (ws_ yX3_lineRound cX3_lineRound 2 (some .int)) ({ frames := 3, cells := 0, slots := 0, locals := 64 } : Room) (kPre D H [.ref a, .int (kI (x))]) (kQi (fun (r : Int) H' => (r = 0) ∧ (kO D H' a 2 [.ref ra, .ref sa, .int (kI ((sn : Nat) : Int)), .ref ka, .int (kI (kb (ik))), .ref ta, .int (kI ((tn : Nat) : Int)), .int (kI (1)), .int (kI (sp)), .int (kI (kb (iw))), .int (kI (le)), .int (kI (fi)), .int (kI (se))])) (fun q : Nat => q = a)) (0) (0) ((fun q : Nat => q = a)) := by
  refine Met.ofW (cc := cX3_lineRound) (maxL := 2) (ret := (some .int)) (by decide) rfl ?_
  intro p e s m args below meth c s₁ B hml hv
  obtain ⟨rfl, hH, hK⟩ := hv
  subst hH
  have hx := B.exec
  have hb := B.bytes
  have hr := B.returns
  have hts := atoms_spec (ws := ws_ yX3_lineRound cX3_lineRound 2 (some .int)) B.pre
  have hts : ∀ w ∈ lw_all, w.before _ s = true := fun w h => hts w (List.mem_cons_of_mem _ h)
  have hown : s.vm.findClass RX3 = some m.cls := findClass_of_methodNamed B.named
  have hlk := B.notSynchronized
  have hS : va_S (fun q : Nat => q = a) s.heap s.heap [] := va_S.rf
  have hB : ∀ q, (fun q : Nat => q = a) q → kBase D ≤ q := fun q h => by (try dsimp only at h); (try simp only [kNW] at h); have hks := hK.size; omega
  have hl := lv_entry ([.ref a, .int (kI (x))]) (n := 2) (Nat.le_of_ble_eq_true rfl)
  rw [lg_entry_eq]
  generalize (lg_sl ([.ref a, .int (kI (x))]) ++ List.replicate (2 - (lg_sl ([.ref a, .int (kI (x))])).length) Slot.unset).toArray = ls at hl ⊢
  have hl : lv_has ls 2 [(0, .ref a), (1, .int (kI (x)))] := hl
  have hL8 := hok.1
  have hlen := hM.len
  refine lv_aload_n hx hb dX3_lineRound_0 rfl (lv_at hl 0 rfl) ?_
  refine lv_iload_n hx hb dX3_lineRound_1 rfl (lv_at hl 1 rfl) ?_
  refine kx_cb (va_runV (As := [.int (kI (x))]) (rest := []) ⟨hx, hb, hml, hown, hts⟩ (m_X3_knows_no l D s.heap a ra sa ka ta sn ik tn th sp iw le fi se g S gap x hO_a hA_ra (by first | assumption | omega) (by first | assumption | omega) (by first | assumption | omega) (by first | assumption | omega) (by first | assumption | omega) (by first | assumption | omega)) (cwV 1 hts (lw_V q2479 q2481 qs66 q89 q2482) rfl rfl rfl (by decide +kernel) ⟨Nat.le_of_ble_eq_true rfl, Nat.le_of_ble_eq_true rfl⟩) (kx_pv hK hS hB (kx_rc hK hO_a (C := RX3) (T := TX3) (N := 13) rfl)) rfl rfl hl.1 rfl (lv_room (Nat.le_of_ble_eq_true rfl)) dX3_lineRound_2 ⟨by first | exact Nat.le_of_ble_eq_true rfl | omega | (show _ ≤ _; omega) | (dsimp only [headSpec]; omega), by first | exact Nat.le_of_ble_eq_true rfl | omega | (show _ ≤ _; omega) | (dsimp only [headSpec]; omega)⟩) hS (fun q _ h => by (try dsimp only at h); (try dsimp only); (try simp only [kNW] at h); (try simp only [kNW]); omega) (fun q h => by (try dsimp only at h); (try dsimp only); (try simp only [kNW] at h); (try simp only [kNW]); omega) (fun z_6 H_4 locs_1 hz_3 hF_5 hS_2 => ?_)
  refine W.widen (k := 0) (n := 0) (Nat.le_of_ble_eq_true rfl) (Nat.le_of_ble_eq_true rfl) ?_
  obtain ⟨hv_7, ho_8⟩ := hz_3
  subst z_6
  refine kx_ifz (tgt := 16) hx hb dX3_lineRound_5 (by decide) (fun c_5_9 => ?_) (fun c_5_9 => ?_)
  · -- taken at 5
    refine kx_iconst hx hb dX3_lineRound_16 ?_
    exact kx_iret (z := 0) hx hb hr hlk (⟨by rfl, ho_8⟩) hS_2 dX3_lineRound_17
  · -- not taken at 5
    exact absurd c_5_9 (by decide)

set_option maxHeartbeats 4000000 in
set_option maxRecDepth 100000 in
theorem m_X3_whyNotStepped (l : Launch) (D : kG) (H : Heap) (a : Nat) (ra : Nat) (sa : Nat) (ka : Nat) (ta : Nat) (sn : Nat) (ik : Bool) (tn : Nat) (th : Int) (sp : Int) (iw : Bool) (le : Int) (fi : Int) (se : Int) (g : Nat → Int) (S : Ls) (gap : Int) (ln : Nat) (y : Int) (hO_a : kO D H a 2 [.ref ra, .ref sa, .int (kI ((sn : Nat) : Int)), .ref ka, .int (kI (kb (ik))), .ref ta, .int (kI ((tn : Nat) : Int)), .int (kI (th)), .int (kI (sp)), .int (kI (kb (iw))), .int (kI (le)), .int (kI (fi)), .int (kI (se))]) (hA_ra : kAi D H ra 514 g) (hM : MRow g S gap) (hok : LsOK S gap) (ne_a_ra : a ≠ ra) (bs_a : kBase D ≤ a) (hln : ln < S.length) (hy : 0 ≤ y ∧ y ≤ 7) : Met l yX3_whyNotStepped (ws_ yX3_whyNotStepped cX3_whyNotStepped 3 (some .int)) ({ frames := 6, cells := 0, slots := 0, locals := 133 } : Room) (kPre D H [.ref a, .int (kI ((ln : Nat) : Int)), .int (kI (y))]) (kQi (fun (r : Int) H' => (r = st_whyNot S ln y) ∧ (kO D H' a 2 [.ref ra, .ref sa, .int (kI ((sn : Nat) : Int)), .ref ka, .int (kI (kb (ik))), .ref ta, .int (kI ((tn : Nat) : Int)), .int (kI (0)), .int (kI (sp)), .int (kI (kb (iw))), .int (kI (le)), .int (kI (fi)), .int (kI (se))])) (fun q : Nat => q = a)) (0) (0) ((fun q : Nat => q = a)) := by
  refine Met.ofW (cc := cX3_whyNotStepped) (maxL := 3) (ret := (some .int)) (by decide) rfl ?_
  intro p e s m args below meth c s₁ B hml hv
  obtain ⟨rfl, hH, hK⟩ := hv
  subst hH
  have hx := B.exec
  have hb := B.bytes
  have hr := B.returns
  have hts := atoms_spec (ws := ws_ yX3_whyNotStepped cX3_whyNotStepped 3 (some .int)) B.pre
  have hts : ∀ w ∈ lw_all, w.before _ s = true := fun w h => hts w (List.mem_cons_of_mem _ h)
  have hown : s.vm.findClass RX3 = some m.cls := findClass_of_methodNamed B.named
  have hlk := B.notSynchronized
  have hS : va_S (fun q : Nat => q = a) s.heap s.heap [] := va_S.rf
  have hB : ∀ q, (fun q : Nat => q = a) q → kBase D ≤ q := fun q h => by (try dsimp only at h); (try simp only [kNW] at h); have hks := hK.size; omega
  have hl := lv_entry ([.ref a, .int (kI ((ln : Nat) : Int)), .int (kI (y))]) (n := 3) (Nat.le_of_ble_eq_true rfl)
  rw [lg_entry_eq]
  generalize (lg_sl ([.ref a, .int (kI ((ln : Nat) : Int)), .int (kI (y))]) ++ List.replicate (3 - (lg_sl ([.ref a, .int (kI ((ln : Nat) : Int)), .int (kI (y))])).length) Slot.unset).toArray = ls at hl ⊢
  have hl : lv_has ls 3 [(0, .ref a), (1, .int (kI ((ln : Nat) : Int))), (2, .int (kI (y)))] := hl
  have hL8 := hok.1
  have hlen := hM.len
  refine lv_aload_n hx hb dX3_whyNotStepped_0 rfl (lv_at hl 0 rfl) ?_
  refine kx_iconst hx hb dX3_whyNotStepped_1 ?_
  refine kx_put (v := .int (kI (0))) (C := RX3) (T := TX3) (N := 13) hx hb hts in_X3 hown hK hO_a rfl 7 (by decide) tyX3 tyX3_ok nmX3 hS (by first | rfl | exact Or.inl rfl | exact Or.inr rfl | exact Or.inr (Or.inl rfl) | exact Or.inr (Or.inr rfl) | exact Or.inr (Or.inr (Or.inl rfl)) | exact Or.inr (Or.inr (Or.inr rfl)) | ((try dsimp only); (try simp only [kNW]); omega)) q2245 (fun _ h9 => h9) rfl rfl rfl rfl (Nat.le_of_ble_eq_true rfl) dX3_whyNotStepped_2 (fun H_3 locs_4 hO_2 hU_1 hS_5 => ?_)
  have hO_2 : kO D H_3 a 2 [.ref ra, .ref sa, .int (kI ((sn : Nat) : Int)), .ref ka, .int (kI (kb (ik))), .ref ta, .int (kI ((tn : Nat) : Int)), .int (kI (0)), .int (kI (sp)), .int (kI (kb (iw))), .int (kI (le)), .int (kI (fi)), .int (kI (se))] := hO_2
  refine lv_aload_n hx hb dX3_whyNotStepped_5 rfl (lv_at hl 0 rfl) ?_
  refine lv_iload_n hx hb dX3_whyNotStepped_6 rfl (lv_at hl 1 rfl) ?_
  have h_6 := hA_ra.up hU_1 (by first | assumption | exact Ne.symm (by assumption) | omega)
  refine kx_cb0 (va_runV (As := [.int (kI ((ln : Nat) : Int))]) (rest := []) ⟨hx, hb, hml, hown, hts⟩ (m_X3_isLine l D H_3 a ([.ref ra, .ref sa, .int (kI ((sn : Nat) : Int)), .ref ka, .int (kI (kb (ik))), .ref ta, .int (kI ((tn : Nat) : Int)), .int (kI (0)), .int (kI (sp)), .int (kI (kb (iw))), .int (kI (le)), .int (kI (fi)), .int (kI (se))]) ra g S gap ((ln : Int)) hO_2 rfl h_6 (by first | assumption | omega) (by first | assumption | omega) (by first | assumption | omega)) (cwV 1 hts (lw_V q2314 q2316 qs41 q89 q2317) rfl rfl rfl (by decide +kernel) ⟨Nat.le_of_ble_eq_true rfl, Nat.le_of_ble_eq_true rfl⟩) (kx_pv hK hS_5 hB (kx_rc hK hO_2 (C := RX3) (T := TX3) (N := 13) rfl)) rfl rfl hl.1 rfl (lv_room (Nat.le_of_ble_eq_true rfl)) dX3_whyNotStepped_7 ⟨by first | exact Nat.le_of_ble_eq_true rfl | omega | (show _ ≤ _; omega) | (dsimp only [headSpec]; omega), by first | exact Nat.le_of_ble_eq_true rfl | omega | (show _ ≤ _; omega) | (dsimp only [headSpec]; omega)⟩) hS_5 (fun z_10 locs_7 hz_9 hS_8 => ?_)
  subst z_10
  refine kx_ifnz (tgt := 19) hx hb dX3_whyNotStepped_10 (by decide) (fun c_10_11 => ?_) (fun c_10_11 => ?_)
  · -- taken at 10
    have c_10_11 := of_decide_eq_true c_10_11
    refine lv_iload_n hx hb dX3_whyNotStepped_19 rfl (lv_at hl 2 rfl) ?_
    refine kx_iconst hx hb dX3_whyNotStepped_20 ?_
    refine kx_bipush hx hb (by decide) dX3_whyNotStepped_21 ?_
    refine kx_cb0 (va_runS (As := [.int (kI (y)), .int (kI (0)), .int (kI (7))]) (rest := []) ⟨hx, hb, hml, hown, hts⟩ (m_X3_in l D H_3 y 0 7  (by first | assumption | omega) (by first | assumption | omega) (by first | assumption | omega)) (va_cwS 3 hts (lw_S q2297 q2298 q89 q2299) rfl rfl rfl (by decide +kernel) ⟨Nat.le_of_ble_eq_true rfl, Nat.le_of_ble_eq_true rfl⟩) (kx_ps hK hS_8 hB) rfl rfl hl.1 rfl (lv_room (Nat.le_of_ble_eq_true rfl)) dX3_whyNotStepped_23 ⟨by first | exact Nat.le_of_ble_eq_true rfl | omega | (show _ ≤ _; omega) | (dsimp only [headSpec]; omega), by first | exact Nat.le_of_ble_eq_true rfl | omega | (show _ ≤ _; omega) | (dsimp only [headSpec]; omega)⟩) hS_8 (fun z_15 locs_12 hz_14 hS_13 => ?_)
    subst z_15
    refine kx_ifz (tgt := 38) hx hb dX3_whyNotStepped_26 (by decide) (fun c_26_16 => ?_) (fun c_26_16 => ?_)
    · -- taken at 26
      have c_26_16 := of_decide_eq_false c_26_16
      exfalso; omega
    · -- not taken at 26
      have c_26_16 := of_decide_eq_true c_26_16
      refine lv_aload_n hx hb dX3_whyNotStepped_29 rfl (lv_at hl 0 rfl) ?_
      refine lv_iload_n hx hb dX3_whyNotStepped_30 rfl (lv_at hl 1 rfl) ?_
      refine lv_iload_n hx hb dX3_whyNotStepped_31 rfl (lv_at hl 2 rfl) ?_
      refine kx_ci0 (va_runV (As := [.int (kI ((ln : Nat) : Int)), .int (kI (y))]) (rest := []) ⟨hx, hb, hml, hown, hts⟩ (m_X3_whyNot l D H_3 a ([.ref ra, .ref sa, .int (kI ((sn : Nat) : Int)), .ref ka, .int (kI (kb (ik))), .ref ta, .int (kI ((tn : Nat) : Int)), .int (kI (0)), .int (kI (sp)), .int (kI (kb (iw))), .int (kI (le)), .int (kI (fi)), .int (kI (se))]) ra g S gap ln y hO_2 rfl h_6 (by first | assumption | omega) (by first | assumption | omega) (by first | assumption | omega) (by first | assumption | omega)) (cwV 2 hts (lw_V q2318 q2320 qs42 q89 q2321) rfl rfl rfl (by decide +kernel) ⟨Nat.le_of_ble_eq_true rfl, Nat.le_of_ble_eq_true rfl⟩) (kx_pv hK hS_13 hB (kx_rc hK hO_2 (C := RX3) (T := TX3) (N := 13) rfl)) rfl rfl hl.1 rfl (lv_room (Nat.le_of_ble_eq_true rfl)) dX3_whyNotStepped_32 ⟨by first | exact Nat.le_of_ble_eq_true rfl | omega | (show _ ≤ _; omega) | (dsimp only [headSpec]; omega), by first | exact Nat.le_of_ble_eq_true rfl | omega | (show _ ≤ _; omega) | (dsimp only [headSpec]; omega)⟩) hS_13 (fun z_20 locs_17 hz_19 hS_18 => ?_)
      subst z_20
      refine lv_goto (tgt := 43) hx hb dX3_whyNotStepped_35 (by decide) ?_
      exact kx_iret (z := st_whyNot S ln y) hx hb hr hlk (⟨by rfl, hO_2⟩) hS_18 dX3_whyNotStepped_43
  · -- not taken at 10
    have c_10_11 := of_decide_eq_false c_10_11
    exfalso; omega

set_option maxHeartbeats 4000000 in
set_option maxRecDepth 100000 in
theorem m_X3_whyNotStepped_no1 (l : Launch) (D : kG) (H : Heap) (a : Nat) (ra : Nat) (sa : Nat) (ka : Nat) (ta : Nat) (sn : Nat) (ik : Bool) (tn : Nat) (th : Int) (sp : Int) (iw : Bool) (le : Int) (fi : Int) (se : Int) (g : Nat → Int) (S : Ls) (gap : Int) (x : Int) (y : Int) (hO_a : kO D H a 2 [.ref ra, .ref sa, .int (kI ((sn : Nat) : Int)), .ref ka, .int (kI (kb (ik))), .ref ta, .int (kI ((tn : Nat) : Int)), .int (kI (th)), .int (kI (sp)), .int (kI (kb (iw))), .int (kI (le)), .int (kI (fi)), .int (kI (se))]) (hA_ra : kAi D H ra 514 g) (hM : MRow g S gap) (hok : LsOK S gap) (ne_a_ra : a ≠ ra) (bs_a : kBase D ≤ a) (hr_x : -2147483648 ≤ x ∧ x ≤ 2147483647) (hr_y : -2147483648 ≤ y ∧ y ≤ 2147483647) (hno : ¬ (0 ≤ x ∧ x < S.length)) : Met l yX3_whyNotStepped (ws_ yX3_whyNotStepped cX3_whyNotStepped 3 (some .int)) ({ frames := 2, cells := 0, slots := 0, locals := 43 } : Room) (kPre D H [.ref a, .int (kI (x)), .int (kI (y))]) (kQi (fun (r : Int) H' => (r = 0) ∧ (kO D H' a 2 [.ref ra, .ref sa, .int (kI ((sn : Nat) : Int)), .ref ka, .int (kI (kb (ik))), .ref ta, .int (kI ((tn : Nat) : Int)), .int (kI (1)), .int (kI (sp)), .int (kI (kb (iw))), .int (kI (le)), .int (kI (fi)), .int (kI (se))])) (fun q : Nat => q = a)) (0) (0) ((fun q : Nat => q = a)) := by
  refine Met.ofW (cc := cX3_whyNotStepped) (maxL := 3) (ret := (some .int)) (by decide) rfl ?_
  intro p e s m args below meth c s₁ B hml hv
  obtain ⟨rfl, hH, hK⟩ := hv
  subst hH
  have hx := B.exec
  have hb := B.bytes
  have hr := B.returns
  have hts := atoms_spec (ws := ws_ yX3_whyNotStepped cX3_whyNotStepped 3 (some .int)) B.pre
  have hts : ∀ w ∈ lw_all, w.before _ s = true := fun w h => hts w (List.mem_cons_of_mem _ h)
  have hown : s.vm.findClass RX3 = some m.cls := findClass_of_methodNamed B.named
  have hlk := B.notSynchronized
  have hS : va_S (fun q : Nat => q = a) s.heap s.heap [] := va_S.rf
  have hB : ∀ q, (fun q : Nat => q = a) q → kBase D ≤ q := fun q h => by (try dsimp only at h); (try simp only [kNW] at h); have hks := hK.size; omega
  have hl := lv_entry ([.ref a, .int (kI (x)), .int (kI (y))]) (n := 3) (Nat.le_of_ble_eq_true rfl)
  rw [lg_entry_eq]
  generalize (lg_sl ([.ref a, .int (kI (x)), .int (kI (y))]) ++ List.replicate (3 - (lg_sl ([.ref a, .int (kI (x)), .int (kI (y))])).length) Slot.unset).toArray = ls at hl ⊢
  have hl : lv_has ls 3 [(0, .ref a), (1, .int (kI (x))), (2, .int (kI (y)))] := hl
  have hL8 := hok.1
  have hlen := hM.len
  refine lv_aload_n hx hb dX3_whyNotStepped_0 rfl (lv_at hl 0 rfl) ?_
  refine kx_iconst hx hb dX3_whyNotStepped_1 ?_
  refine kx_put (v := .int (kI (0))) (C := RX3) (T := TX3) (N := 13) hx hb hts in_X3 hown hK hO_a rfl 7 (by decide) tyX3 tyX3_ok nmX3 hS (by first | rfl | exact Or.inl rfl | exact Or.inr rfl | exact Or.inr (Or.inl rfl) | exact Or.inr (Or.inr rfl) | exact Or.inr (Or.inr (Or.inl rfl)) | exact Or.inr (Or.inr (Or.inr rfl)) | ((try dsimp only); (try simp only [kNW]); omega)) q2245 (fun _ h9 => h9) rfl rfl rfl rfl (Nat.le_of_ble_eq_true rfl) dX3_whyNotStepped_2 (fun H_3 locs_4 hO_2 hU_1 hS_5 => ?_)
  have hO_2 : kO D H_3 a 2 [.ref ra, .ref sa, .int (kI ((sn : Nat) : Int)), .ref ka, .int (kI (kb (ik))), .ref ta, .int (kI ((tn : Nat) : Int)), .int (kI (0)), .int (kI (sp)), .int (kI (kb (iw))), .int (kI (le)), .int (kI (fi)), .int (kI (se))] := hO_2
  refine lv_aload_n hx hb dX3_whyNotStepped_5 rfl (lv_at hl 0 rfl) ?_
  refine lv_iload_n hx hb dX3_whyNotStepped_6 rfl (lv_at hl 1 rfl) ?_
  have h_6 := hA_ra.up hU_1 (by first | assumption | exact Ne.symm (by assumption) | omega)
  refine kx_cb0 (va_runV (As := [.int (kI (x))]) (rest := []) ⟨hx, hb, hml, hown, hts⟩ (m_X3_isLine l D H_3 a ([.ref ra, .ref sa, .int (kI ((sn : Nat) : Int)), .ref ka, .int (kI (kb (ik))), .ref ta, .int (kI ((tn : Nat) : Int)), .int (kI (0)), .int (kI (sp)), .int (kI (kb (iw))), .int (kI (le)), .int (kI (fi)), .int (kI (se))]) ra g S gap x hO_2 rfl h_6 (by first | assumption | omega) (by first | assumption | omega) (by first | assumption | omega)) (cwV 1 hts (lw_V q2314 q2316 qs41 q89 q2317) rfl rfl rfl (by decide +kernel) ⟨Nat.le_of_ble_eq_true rfl, Nat.le_of_ble_eq_true rfl⟩) (kx_pv hK hS_5 hB (kx_rc hK hO_2 (C := RX3) (T := TX3) (N := 13) rfl)) rfl rfl hl.1 rfl (lv_room (Nat.le_of_ble_eq_true rfl)) dX3_whyNotStepped_7 ⟨by first | exact Nat.le_of_ble_eq_true rfl | omega | (show _ ≤ _; omega) | (dsimp only [headSpec]; omega), by first | exact Nat.le_of_ble_eq_true rfl | omega | (show _ ≤ _; omega) | (dsimp only [headSpec]; omega)⟩) hS_5 (fun z_10 locs_7 hz_9 hS_8 => ?_)
  subst z_10
  refine kx_ifnz (tgt := 19) hx hb dX3_whyNotStepped_10 (by decide) (fun c_10_11 => ?_) (fun c_10_11 => ?_)
  · -- taken at 10
    have c_10_11 := of_decide_eq_true c_10_11
    exfalso; omega
  · -- not taken at 10
    have c_10_11 := of_decide_eq_false c_10_11
    refine lv_aload_n hx hb dX3_whyNotStepped_13 rfl (lv_at hl 0 rfl) ?_
    refine kx_iconst hx hb dX3_whyNotStepped_14 ?_
    refine kx_ci (va_runV (As := [.int (kI (1))]) (rest := []) ⟨hx, hb, hml, hown, hts⟩ (m_X3_fails l D H_3 a ra sa ka ta sn ik tn 0 sp iw le fi se 1 hO_2 (by first | assumption | omega)) (cwV 1 hts (lw_V q2455 q2457 qs64 q89 q2458) rfl rfl rfl (by decide +kernel) ⟨Nat.le_of_ble_eq_true rfl, Nat.le_of_ble_eq_true rfl⟩) (kx_pv hK hS_8 hB (kx_rc hK hO_2 (C := RX3) (T := TX3) (N := 13) rfl)) rfl rfl hl.1 rfl (lv_room (Nat.le_of_ble_eq_true rfl)) dX3_whyNotStepped_15 ⟨by first | exact Nat.le_of_ble_eq_true rfl | omega | (show _ ≤ _; omega) | (dsimp only [headSpec]; omega), by first | exact Nat.le_of_ble_eq_true rfl | omega | (show _ ≤ _; omega) | (dsimp only [headSpec]; omega)⟩) hS_8 (fun q _ h => by (try dsimp only at h); (try dsimp only); (try simp only [kNW] at h); (try simp only [kNW]); omega) (fun q h => by (try dsimp only at h); (try dsimp only); (try simp only [kNW] at h); (try simp only [kNW]); omega) (fun z_17 H_15 locs_12 hz_14 hF_16 hS_13 => ?_)
    refine W.widen (k := 0) (n := 0) (Nat.le_of_ble_eq_true rfl) (Nat.le_of_ble_eq_true rfl) ?_
    obtain ⟨hv_18, ho_19⟩ := hz_14
    subst z_17
    exact kx_iret (z := 0) hx hb hr hlk (⟨by rfl, ho_19⟩) hS_13 dX3_whyNotStepped_18

set_option maxHeartbeats 4000000 in
set_option maxRecDepth 100000 in
theorem m_X3_whyNotStepped_no2 (l : Launch) (D : kG) (H : Heap) (a : Nat) (ra : Nat) (sa : Nat) (ka : Nat) (ta : Nat) (sn : Nat) (ik : Bool) (tn : Nat) (th : Int) (sp : Int) (iw : Bool) (le : Int) (fi : Int) (se : Int) (g : Nat → Int) (S : Ls) (gap : Int) (ln : Nat) (y : Int) (hO_a : kO D H a 2 [.ref ra, .ref sa, .int (kI ((sn : Nat) : Int)), .ref ka, .int (kI (kb (ik))), .ref ta, .int (kI ((tn : Nat) : Int)), .int (kI (th)), .int (kI (sp)), .int (kI (kb (iw))), .int (kI (le)), .int (kI (fi)), .int (kI (se))]) (hA_ra : kAi D H ra 514 g) (hM : MRow g S gap) (hok : LsOK S gap) (ne_a_ra : a ≠ ra) (bs_a : kBase D ≤ a) (hln : ln < S.length) (hr_y : -2147483648 ≤ y ∧ y ≤ 2147483647) (hno : ¬ (0 ≤ y ∧ y ≤ 7)) : Met l yX3_whyNotStepped (ws_ yX3_whyNotStepped cX3_whyNotStepped 3 (some .int)) ({ frames := 2, cells := 0, slots := 0, locals := 43 } : Room) (kPre D H [.ref a, .int (kI ((ln : Nat) : Int)), .int (kI (y))]) (kQi (fun (r : Int) H' => (r = 0) ∧ (kO D H' a 2 [.ref ra, .ref sa, .int (kI ((sn : Nat) : Int)), .ref ka, .int (kI (kb (ik))), .ref ta, .int (kI ((tn : Nat) : Int)), .int (kI (2)), .int (kI (sp)), .int (kI (kb (iw))), .int (kI (le)), .int (kI (fi)), .int (kI (se))])) (fun q : Nat => q = a)) (0) (0) ((fun q : Nat => q = a)) := by
  refine Met.ofW (cc := cX3_whyNotStepped) (maxL := 3) (ret := (some .int)) (by decide) rfl ?_
  intro p e s m args below meth c s₁ B hml hv
  obtain ⟨rfl, hH, hK⟩ := hv
  subst hH
  have hx := B.exec
  have hb := B.bytes
  have hr := B.returns
  have hts := atoms_spec (ws := ws_ yX3_whyNotStepped cX3_whyNotStepped 3 (some .int)) B.pre
  have hts : ∀ w ∈ lw_all, w.before _ s = true := fun w h => hts w (List.mem_cons_of_mem _ h)
  have hown : s.vm.findClass RX3 = some m.cls := findClass_of_methodNamed B.named
  have hlk := B.notSynchronized
  have hS : va_S (fun q : Nat => q = a) s.heap s.heap [] := va_S.rf
  have hB : ∀ q, (fun q : Nat => q = a) q → kBase D ≤ q := fun q h => by (try dsimp only at h); (try simp only [kNW] at h); have hks := hK.size; omega
  have hl := lv_entry ([.ref a, .int (kI ((ln : Nat) : Int)), .int (kI (y))]) (n := 3) (Nat.le_of_ble_eq_true rfl)
  rw [lg_entry_eq]
  generalize (lg_sl ([.ref a, .int (kI ((ln : Nat) : Int)), .int (kI (y))]) ++ List.replicate (3 - (lg_sl ([.ref a, .int (kI ((ln : Nat) : Int)), .int (kI (y))])).length) Slot.unset).toArray = ls at hl ⊢
  have hl : lv_has ls 3 [(0, .ref a), (1, .int (kI ((ln : Nat) : Int))), (2, .int (kI (y)))] := hl
  have hL8 := hok.1
  have hlen := hM.len
  refine lv_aload_n hx hb dX3_whyNotStepped_0 rfl (lv_at hl 0 rfl) ?_
  refine kx_iconst hx hb dX3_whyNotStepped_1 ?_
  refine kx_put (v := .int (kI (0))) (C := RX3) (T := TX3) (N := 13) hx hb hts in_X3 hown hK hO_a rfl 7 (by decide) tyX3 tyX3_ok nmX3 hS (by first | rfl | exact Or.inl rfl | exact Or.inr rfl | exact Or.inr (Or.inl rfl) | exact Or.inr (Or.inr rfl) | exact Or.inr (Or.inr (Or.inl rfl)) | exact Or.inr (Or.inr (Or.inr rfl)) | ((try dsimp only); (try simp only [kNW]); omega)) q2245 (fun _ h9 => h9) rfl rfl rfl rfl (Nat.le_of_ble_eq_true rfl) dX3_whyNotStepped_2 (fun H_3 locs_4 hO_2 hU_1 hS_5 => ?_)
  have hO_2 : kO D H_3 a 2 [.ref ra, .ref sa, .int (kI ((sn : Nat) : Int)), .ref ka, .int (kI (kb (ik))), .ref ta, .int (kI ((tn : Nat) : Int)), .int (kI (0)), .int (kI (sp)), .int (kI (kb (iw))), .int (kI (le)), .int (kI (fi)), .int (kI (se))] := hO_2
  refine lv_aload_n hx hb dX3_whyNotStepped_5 rfl (lv_at hl 0 rfl) ?_
  refine lv_iload_n hx hb dX3_whyNotStepped_6 rfl (lv_at hl 1 rfl) ?_
  have h_6 := hA_ra.up hU_1 (by first | assumption | exact Ne.symm (by assumption) | omega)
  refine kx_cb0 (va_runV (As := [.int (kI ((ln : Nat) : Int))]) (rest := []) ⟨hx, hb, hml, hown, hts⟩ (m_X3_isLine l D H_3 a ([.ref ra, .ref sa, .int (kI ((sn : Nat) : Int)), .ref ka, .int (kI (kb (ik))), .ref ta, .int (kI ((tn : Nat) : Int)), .int (kI (0)), .int (kI (sp)), .int (kI (kb (iw))), .int (kI (le)), .int (kI (fi)), .int (kI (se))]) ra g S gap ((ln : Int)) hO_2 rfl h_6 (by first | assumption | omega) (by first | assumption | omega) (by first | assumption | omega)) (cwV 1 hts (lw_V q2314 q2316 qs41 q89 q2317) rfl rfl rfl (by decide +kernel) ⟨Nat.le_of_ble_eq_true rfl, Nat.le_of_ble_eq_true rfl⟩) (kx_pv hK hS_5 hB (kx_rc hK hO_2 (C := RX3) (T := TX3) (N := 13) rfl)) rfl rfl hl.1 rfl (lv_room (Nat.le_of_ble_eq_true rfl)) dX3_whyNotStepped_7 ⟨by first | exact Nat.le_of_ble_eq_true rfl | omega | (show _ ≤ _; omega) | (dsimp only [headSpec]; omega), by first | exact Nat.le_of_ble_eq_true rfl | omega | (show _ ≤ _; omega) | (dsimp only [headSpec]; omega)⟩) hS_5 (fun z_10 locs_7 hz_9 hS_8 => ?_)
  subst z_10
  refine kx_ifnz (tgt := 19) hx hb dX3_whyNotStepped_10 (by decide) (fun c_10_11 => ?_) (fun c_10_11 => ?_)
  · -- taken at 10
    have c_10_11 := of_decide_eq_true c_10_11
    refine lv_iload_n hx hb dX3_whyNotStepped_19 rfl (lv_at hl 2 rfl) ?_
    refine kx_iconst hx hb dX3_whyNotStepped_20 ?_
    refine kx_bipush hx hb (by decide) dX3_whyNotStepped_21 ?_
    refine kx_cb0 (va_runS (As := [.int (kI (y)), .int (kI (0)), .int (kI (7))]) (rest := []) ⟨hx, hb, hml, hown, hts⟩ (m_X3_in l D H_3 y 0 7  (by first | assumption | omega) (by first | assumption | omega) (by first | assumption | omega)) (va_cwS 3 hts (lw_S q2297 q2298 q89 q2299) rfl rfl rfl (by decide +kernel) ⟨Nat.le_of_ble_eq_true rfl, Nat.le_of_ble_eq_true rfl⟩) (kx_ps hK hS_8 hB) rfl rfl hl.1 rfl (lv_room (Nat.le_of_ble_eq_true rfl)) dX3_whyNotStepped_23 ⟨by first | exact Nat.le_of_ble_eq_true rfl | omega | (show _ ≤ _; omega) | (dsimp only [headSpec]; omega), by first | exact Nat.le_of_ble_eq_true rfl | omega | (show _ ≤ _; omega) | (dsimp only [headSpec]; omega)⟩) hS_8 (fun z_15 locs_12 hz_14 hS_13 => ?_)
    subst z_15
    refine kx_ifz (tgt := 38) hx hb dX3_whyNotStepped_26 (by decide) (fun c_26_16 => ?_) (fun c_26_16 => ?_)
    · -- taken at 26
      have c_26_16 := of_decide_eq_false c_26_16
      refine lv_aload_n hx hb dX3_whyNotStepped_38 rfl (lv_at hl 0 rfl) ?_
      refine kx_iconst hx hb dX3_whyNotStepped_39 ?_
      refine kx_ci (va_runV (As := [.int (kI (2))]) (rest := []) ⟨hx, hb, hml, hown, hts⟩ (m_X3_fails l D H_3 a ra sa ka ta sn ik tn 0 sp iw le fi se 2 hO_2 (by first | assumption | omega)) (cwV 1 hts (lw_V q2455 q2457 qs64 q89 q2458) rfl rfl rfl (by decide +kernel) ⟨Nat.le_of_ble_eq_true rfl, Nat.le_of_ble_eq_true rfl⟩) (kx_pv hK hS_13 hB (kx_rc hK hO_2 (C := RX3) (T := TX3) (N := 13) rfl)) rfl rfl hl.1 rfl (lv_room (Nat.le_of_ble_eq_true rfl)) dX3_whyNotStepped_40 ⟨by first | exact Nat.le_of_ble_eq_true rfl | omega | (show _ ≤ _; omega) | (dsimp only [headSpec]; omega), by first | exact Nat.le_of_ble_eq_true rfl | omega | (show _ ≤ _; omega) | (dsimp only [headSpec]; omega)⟩) hS_13 (fun q _ h => by (try dsimp only at h); (try dsimp only); (try simp only [kNW] at h); (try simp only [kNW]); omega) (fun q h => by (try dsimp only at h); (try dsimp only); (try simp only [kNW] at h); (try simp only [kNW]); omega) (fun z_22 H_20 locs_17 hz_19 hF_21 hS_18 => ?_)
      refine W.widen (k := 0) (n := 0) (Nat.le_of_ble_eq_true rfl) (Nat.le_of_ble_eq_true rfl) ?_
      obtain ⟨hv_23, ho_24⟩ := hz_19
      subst z_22
      exact kx_iret (z := 0) hx hb hr hlk (⟨by rfl, ho_24⟩) hS_18 dX3_whyNotStepped_43
    · -- not taken at 26
      have c_26_16 := of_decide_eq_true c_26_16
      exfalso; omega
  · -- not taken at 10
    have c_10_11 := of_decide_eq_false c_10_11
    exfalso; omega

set_option maxHeartbeats 4000000 in
set_option maxRecDepth 100000 in
theorem m_X3_lines (l : Launch) (D : kG) (H : Heap) (a : Nat) (ra : Nat) (sa : Nat) (ka : Nat) (ta : Nat) (sn : Nat) (ik : Bool) (tn : Nat) (th : Int) (sp : Int) (iw : Bool) (le : Int) (fi : Int) (se : Int) (g : Nat → Int) (S : Ls) (gap : Int) (hO_a : kO D H a 2 [.ref ra, .ref sa, .int (kI ((sn : Nat) : Int)), .ref ka, .int (kI (kb (ik))), .ref ta, .int (kI ((tn : Nat) : Int)), .int (kI (th)), .int (kI (sp)), .int (kI (kb (iw))), .int (kI (le)), .int (kI (fi)), .int (kI (se))]) (hA_ra : kAi D H ra 514 g) (hM : MRow g S gap) (hok : LsOK S gap) (ne_a_ra : a ≠ ra) (bs_a : kBase D ≤ a) : Met l yX3_lines (ws_ yX3_lines cX3_lines 1 (some .int)) ({ frames := 0, cells := 0, slots := 0, locals := 0 } : Room) (kPre D H [.ref a]) (kQi (fun (r : Int) H' => (r = ((S.length : Nat) : Int)) ∧ (kO D H' a 2 [.ref ra, .ref sa, .int (kI ((sn : Nat) : Int)), .ref ka, .int (kI (kb (ik))), .ref ta, .int (kI ((tn : Nat) : Int)), .int (kI (0)), .int (kI (sp)), .int (kI (kb (iw))), .int (kI (le)), .int (kI (fi)), .int (kI (se))])) (fun q : Nat => q = a)) (0) (0) ((fun q : Nat => q = a)) := by
  refine Met.ofW (cc := cX3_lines) (maxL := 1) (ret := (some .int)) (by decide) rfl ?_
  intro p e s m args below meth c s₁ B hml hv
  obtain ⟨rfl, hH, hK⟩ := hv
  subst hH
  have hx := B.exec
  have hb := B.bytes
  have hr := B.returns
  have hts := atoms_spec (ws := ws_ yX3_lines cX3_lines 1 (some .int)) B.pre
  have hts : ∀ w ∈ lw_all, w.before _ s = true := fun w h => hts w (List.mem_cons_of_mem _ h)
  have hown : s.vm.findClass RX3 = some m.cls := findClass_of_methodNamed B.named
  have hlk := B.notSynchronized
  have hS : va_S (fun q : Nat => q = a) s.heap s.heap [] := va_S.rf
  have hB : ∀ q, (fun q : Nat => q = a) q → kBase D ≤ q := fun q h => by (try dsimp only at h); (try simp only [kNW] at h); have hks := hK.size; omega
  have hl := lv_entry ([.ref a]) (n := 1) (Nat.le_of_ble_eq_true rfl)
  rw [lg_entry_eq]
  generalize (lg_sl ([.ref a]) ++ List.replicate (1 - (lg_sl ([.ref a])).length) Slot.unset).toArray = ls at hl ⊢
  have hl : lv_has ls 1 [(0, .ref a)] := hl
  have hL8 := hok.1
  have hlen := hM.len
  refine lv_aload_n hx hb dX3_lines_0 rfl (lv_at hl 0 rfl) ?_
  refine kx_iconst hx hb dX3_lines_1 ?_
  refine kx_put (v := .int (kI (0))) (C := RX3) (T := TX3) (N := 13) hx hb hts in_X3 hown hK hO_a rfl 7 (by decide) tyX3 tyX3_ok nmX3 hS (by first | rfl | exact Or.inl rfl | exact Or.inr rfl | exact Or.inr (Or.inl rfl) | exact Or.inr (Or.inr rfl) | exact Or.inr (Or.inr (Or.inl rfl)) | exact Or.inr (Or.inr (Or.inr rfl)) | ((try dsimp only); (try simp only [kNW]); omega)) q2245 (fun _ h9 => h9) rfl rfl rfl rfl (Nat.le_of_ble_eq_true rfl) dX3_lines_2 (fun H_3 locs_4 hO_2 hU_1 hS_5 => ?_)
  have hO_2 : kO D H_3 a 2 [.ref ra, .ref sa, .int (kI ((sn : Nat) : Int)), .ref ka, .int (kI (kb (ik))), .ref ta, .int (kI ((tn : Nat) : Int)), .int (kI (0)), .int (kI (sp)), .int (kI (kb (iw))), .int (kI (le)), .int (kI (fi)), .int (kI (se))] := hO_2
  refine lv_aload_n hx hb dX3_lines_5 rfl (lv_at hl 0 rfl) ?_
  refine kx_get (v := .ref ra) (C := RX3) (T := TX3) (N := 13) hx hb hts in_X3 hown hK hO_2 rfl 0 (by decide) q2238 (fun _ h9 => h9) rfl dX3_lines_6 ?_
  refine kx_iconst hx hb dX3_lines_9 ?_
  have h_6 := hA_ra.up hU_1 (by first | assumption | exact Ne.symm (by assumption) | omega)
  refine kx_iald (i := 0) hx hb hK h_6 0 (rfl) (by omega) (by omega) dX3_lines_10 ?_
  exact kx_iret (z := (g 0)) hx hb hr hlk (⟨by first | exact hM.len | exact hM.gap | rfl, hO_2⟩) hS_5 dX3_lines_11

set_option maxHeartbeats 4000000 in
set_option maxRecDepth 100000 in
theorem m_X3_gap (l : Launch) (D : kG) (H : Heap) (a : Nat) (ra : Nat) (sa : Nat) (ka : Nat) (ta : Nat) (sn : Nat) (ik : Bool) (tn : Nat) (th : Int) (sp : Int) (iw : Bool) (le : Int) (fi : Int) (se : Int) (g : Nat → Int) (S : Ls) (gap : Int) (hO_a : kO D H a 2 [.ref ra, .ref sa, .int (kI ((sn : Nat) : Int)), .ref ka, .int (kI (kb (ik))), .ref ta, .int (kI ((tn : Nat) : Int)), .int (kI (th)), .int (kI (sp)), .int (kI (kb (iw))), .int (kI (le)), .int (kI (fi)), .int (kI (se))]) (hA_ra : kAi D H ra 514 g) (hM : MRow g S gap) (hok : LsOK S gap) (ne_a_ra : a ≠ ra) (bs_a : kBase D ≤ a) : Met l yX3_gap (ws_ yX3_gap cX3_gap 1 (some .int)) ({ frames := 0, cells := 0, slots := 0, locals := 0 } : Room) (kPre D H [.ref a]) (kQi (fun (r : Int) H' => (r = gap) ∧ (kO D H' a 2 [.ref ra, .ref sa, .int (kI ((sn : Nat) : Int)), .ref ka, .int (kI (kb (ik))), .ref ta, .int (kI ((tn : Nat) : Int)), .int (kI (0)), .int (kI (sp)), .int (kI (kb (iw))), .int (kI (le)), .int (kI (fi)), .int (kI (se))])) (fun q : Nat => q = a)) (0) (0) ((fun q : Nat => q = a)) := by
  refine Met.ofW (cc := cX3_gap) (maxL := 1) (ret := (some .int)) (by decide) rfl ?_
  intro p e s m args below meth c s₁ B hml hv
  obtain ⟨rfl, hH, hK⟩ := hv
  subst hH
  have hx := B.exec
  have hb := B.bytes
  have hr := B.returns
  have hts := atoms_spec (ws := ws_ yX3_gap cX3_gap 1 (some .int)) B.pre
  have hts : ∀ w ∈ lw_all, w.before _ s = true := fun w h => hts w (List.mem_cons_of_mem _ h)
  have hown : s.vm.findClass RX3 = some m.cls := findClass_of_methodNamed B.named
  have hlk := B.notSynchronized
  have hS : va_S (fun q : Nat => q = a) s.heap s.heap [] := va_S.rf
  have hB : ∀ q, (fun q : Nat => q = a) q → kBase D ≤ q := fun q h => by (try dsimp only at h); (try simp only [kNW] at h); have hks := hK.size; omega
  have hl := lv_entry ([.ref a]) (n := 1) (Nat.le_of_ble_eq_true rfl)
  rw [lg_entry_eq]
  generalize (lg_sl ([.ref a]) ++ List.replicate (1 - (lg_sl ([.ref a])).length) Slot.unset).toArray = ls at hl ⊢
  have hl : lv_has ls 1 [(0, .ref a)] := hl
  have hL8 := hok.1
  have hlen := hM.len
  refine lv_aload_n hx hb dX3_gap_0 rfl (lv_at hl 0 rfl) ?_
  refine kx_iconst hx hb dX3_gap_1 ?_
  refine kx_put (v := .int (kI (0))) (C := RX3) (T := TX3) (N := 13) hx hb hts in_X3 hown hK hO_a rfl 7 (by decide) tyX3 tyX3_ok nmX3 hS (by first | rfl | exact Or.inl rfl | exact Or.inr rfl | exact Or.inr (Or.inl rfl) | exact Or.inr (Or.inr rfl) | exact Or.inr (Or.inr (Or.inl rfl)) | exact Or.inr (Or.inr (Or.inr rfl)) | ((try dsimp only); (try simp only [kNW]); omega)) q2245 (fun _ h9 => h9) rfl rfl rfl rfl (Nat.le_of_ble_eq_true rfl) dX3_gap_2 (fun H_3 locs_4 hO_2 hU_1 hS_5 => ?_)
  have hO_2 : kO D H_3 a 2 [.ref ra, .ref sa, .int (kI ((sn : Nat) : Int)), .ref ka, .int (kI (kb (ik))), .ref ta, .int (kI ((tn : Nat) : Int)), .int (kI (0)), .int (kI (sp)), .int (kI (kb (iw))), .int (kI (le)), .int (kI (fi)), .int (kI (se))] := hO_2
  refine lv_aload_n hx hb dX3_gap_5 rfl (lv_at hl 0 rfl) ?_
  refine kx_get (v := .ref ra) (C := RX3) (T := TX3) (N := 13) hx hb hts in_X3 hown hK hO_2 rfl 0 (by decide) q2238 (fun _ h9 => h9) rfl dX3_gap_6 ?_
  refine kx_iconst hx hb dX3_gap_9 ?_
  have h_6 := hA_ra.up hU_1 (by first | assumption | exact Ne.symm (by assumption) | omega)
  refine kx_iald (i := 1) hx hb hK h_6 1 (rfl) (by omega) (by omega) dX3_gap_10 ?_
  exact kx_iret (z := (g 1)) hx hb hr hlk (⟨by first | exact hM.len | exact hM.gap | rfl, hO_2⟩) hS_5 dX3_gap_11

set_option maxHeartbeats 4000000 in
set_option maxRecDepth 100000 in
theorem m_X3_labels (l : Launch) (D : kG) (H : Heap) (a : Nat) (ra : Nat) (sa : Nat) (ka : Nat) (ta : Nat) (sn : Nat) (ik : Bool) (tn : Nat) (th : Int) (sp : Int) (iw : Bool) (le : Int) (fi : Int) (se : Int) (g : Nat → Int) (S : Ls) (gap : Int) (hO_a : kO D H a 2 [.ref ra, .ref sa, .int (kI ((sn : Nat) : Int)), .ref ka, .int (kI (kb (ik))), .ref ta, .int (kI ((tn : Nat) : Int)), .int (kI (th)), .int (kI (sp)), .int (kI (kb (iw))), .int (kI (le)), .int (kI (fi)), .int (kI (se))]) (hA_ra : kAi D H ra 514 g) (hM : MRow g S gap) (hok : LsOK S gap) (ne_a_ra : a ≠ ra) (bs_a : kBase D ≤ a) : Met l yX3_labels (ws_ yX3_labels cX3_labels 1 (some .int)) ({ frames := 2, cells := 0, slots := 0, locals := 44 } : Room) (kPre D H [.ref a]) (kQi (fun (r : Int) H' => (r = st_lab S) ∧ (kO D H' a 2 [.ref ra, .ref sa, .int (kI ((sn : Nat) : Int)), .ref ka, .int (kI (kb (ik))), .ref ta, .int (kI ((tn : Nat) : Int)), .int (kI (0)), .int (kI (sp)), .int (kI (kb (iw))), .int (kI (le)), .int (kI (fi)), .int (kI (se))])) (fun q : Nat => q = a)) (0) (0) ((fun q : Nat => q = a)) := by
  refine Met.ofW (cc := cX3_labels) (maxL := 1) (ret := (some .int)) (by decide) rfl ?_
  intro p e s m args below meth c s₁ B hml hv
  obtain ⟨rfl, hH, hK⟩ := hv
  subst hH
  have hx := B.exec
  have hb := B.bytes
  have hr := B.returns
  have hts := atoms_spec (ws := ws_ yX3_labels cX3_labels 1 (some .int)) B.pre
  have hts : ∀ w ∈ lw_all, w.before _ s = true := fun w h => hts w (List.mem_cons_of_mem _ h)
  have hown : s.vm.findClass RX3 = some m.cls := findClass_of_methodNamed B.named
  have hlk := B.notSynchronized
  have hS : va_S (fun q : Nat => q = a) s.heap s.heap [] := va_S.rf
  have hB : ∀ q, (fun q : Nat => q = a) q → kBase D ≤ q := fun q h => by (try dsimp only at h); (try simp only [kNW] at h); have hks := hK.size; omega
  have hl := lv_entry ([.ref a]) (n := 1) (Nat.le_of_ble_eq_true rfl)
  rw [lg_entry_eq]
  generalize (lg_sl ([.ref a]) ++ List.replicate (1 - (lg_sl ([.ref a])).length) Slot.unset).toArray = ls at hl ⊢
  have hl : lv_has ls 1 [(0, .ref a)] := hl
  have hL8 := hok.1
  have hlen := hM.len
  refine lv_aload_n hx hb dX3_labels_0 rfl (lv_at hl 0 rfl) ?_
  refine kx_iconst hx hb dX3_labels_1 ?_
  refine kx_put (v := .int (kI (0))) (C := RX3) (T := TX3) (N := 13) hx hb hts in_X3 hown hK hO_a rfl 7 (by decide) tyX3 tyX3_ok nmX3 hS (by first | rfl | exact Or.inl rfl | exact Or.inr rfl | exact Or.inr (Or.inl rfl) | exact Or.inr (Or.inr rfl) | exact Or.inr (Or.inr (Or.inl rfl)) | exact Or.inr (Or.inr (Or.inr rfl)) | ((try dsimp only); (try simp only [kNW]); omega)) q2245 (fun _ h9 => h9) rfl rfl rfl rfl (Nat.le_of_ble_eq_true rfl) dX3_labels_2 (fun H_3 locs_4 hO_2 hU_1 hS_5 => ?_)
  have hO_2 : kO D H_3 a 2 [.ref ra, .ref sa, .int (kI ((sn : Nat) : Int)), .ref ka, .int (kI (kb (ik))), .ref ta, .int (kI ((tn : Nat) : Int)), .int (kI (0)), .int (kI (sp)), .int (kI (kb (iw))), .int (kI (le)), .int (kI (fi)), .int (kI (se))] := hO_2
  refine lv_aload_n hx hb dX3_labels_5 rfl (lv_at hl 0 rfl) ?_
  have h_6 := hA_ra.up hU_1 (by first | assumption | exact Ne.symm (by assumption) | omega)
  refine kx_ci0 (va_runV (As := []) (rest := []) ⟨hx, hb, hml, hown, hts⟩ (m_X3_labelled l D H_3 a ([.ref ra, .ref sa, .int (kI ((sn : Nat) : Int)), .ref ka, .int (kI (kb (ik))), .ref ta, .int (kI ((tn : Nat) : Int)), .int (kI (0)), .int (kI (sp)), .int (kI (kb (iw))), .int (kI (le)), .int (kI (fi)), .int (kI (se))]) ra g S gap hO_2 rfl h_6 (by first | assumption | omega) (by first | assumption | omega)) (cwV 0 hts (lw_V q2407 q2409 qs62 q89 q2410) rfl rfl rfl (by decide +kernel) ⟨Nat.le_of_ble_eq_true rfl, Nat.le_of_ble_eq_true rfl⟩) (kx_pv hK hS_5 hB (kx_rc hK hO_2 (C := RX3) (T := TX3) (N := 13) rfl)) rfl rfl hl.1 rfl (lv_room (Nat.le_of_ble_eq_true rfl)) dX3_labels_6 ⟨by first | exact Nat.le_of_ble_eq_true rfl | omega | (show _ ≤ _; omega) | (dsimp only [headSpec]; omega), by first | exact Nat.le_of_ble_eq_true rfl | omega | (show _ ≤ _; omega) | (dsimp only [headSpec]; omega)⟩) hS_5 (fun z_10 locs_7 hz_9 hS_8 => ?_)
  subst z_10
  exact kx_iret (z := st_lab S) hx hb hr hlk (⟨by first | exact hM.len | exact hM.gap | rfl, hO_2⟩) hS_8 dX3_labels_9

set_option maxHeartbeats 4000000 in
set_option maxRecDepth 100000 in
theorem m_X3_labelEnd (l : Launch) (D : kG) (H : Heap) (a : Nat) (fs : List Value) (ra : Nat) (g : Nat → Int) (S : Ls) (gap : Int) (ln : Nat) (hO_a : kO D H a 2 fs) (hf_a_0 : fs[0]? = some (.ref ra)) (hA_ra : kAi D H ra 514 g) (hM : MRow g S gap) (hok : LsOK S gap) (hln : ln < S.length) (hlb : ln_lb (st_ln S ln) ≠ -1) : Met l yX3_labelEnd (ws_ yX3_labelEnd cX3_labelEnd 2 (some .int)) ({ frames := 3, cells := 0, slots := 0, locals := 66 } : Room) (kPre D H [.ref a, .int (kI ((ln : Nat) : Int))]) (kQi (fun (r : Int) H' => H' = H ∧ r = ln_pos (st_ln S ln) ((ln_lb (st_ln S ln)).toNat + ln_size (st_ln S ln) - 1)) kNO) (0) (0) (kNO) := by
  refine Met.ofW (cc := cX3_labelEnd) (maxL := 2) (ret := (some .int)) (by decide) rfl ?_
  intro p e s m args below meth c s₁ B hml hv
  obtain ⟨rfl, hH, hK⟩ := hv
  subst hH
  have hx := B.exec
  have hb := B.bytes
  have hr := B.returns
  have hts := atoms_spec (ws := ws_ yX3_labelEnd cX3_labelEnd 2 (some .int)) B.pre
  have hts : ∀ w ∈ lw_all, w.before _ s = true := fun w h => hts w (List.mem_cons_of_mem _ h)
  have hown : s.vm.findClass RX3 = some m.cls := findClass_of_methodNamed B.named
  have hlk := B.notSynchronized
  have hS : va_S kNO s.heap s.heap [] := va_S.rf
  have hB : ∀ q, kNO q → kBase D ≤ q := fun _ h => h.elim
  have hl := lv_entry ([.ref a, .int (kI ((ln : Nat) : Int))]) (n := 2) (Nat.le_of_ble_eq_true rfl)
  rw [lg_entry_eq]
  generalize (lg_sl ([.ref a, .int (kI ((ln : Nat) : Int))]) ++ List.replicate (2 - (lg_sl ([.ref a, .int (kI ((ln : Nat) : Int))])).length) Slot.unset).toArray = ls at hl ⊢
  have hl : lv_has ls 2 [(0, .ref a), (1, .int (kI ((ln : Nat) : Int)))] := hl
  have hL := hok.ln hln
  have hL60 := hL.n
  have hL8 := hok.1
  have hpl := lb_place hL hlb
  have hsz := ln_size_23 (st_ln S ln)
  refine lv_aload_n hx hb dX3_labelEnd_0 rfl (lv_at hl 0 rfl) ?_
  refine lv_iload_n hx hb dX3_labelEnd_1 rfl (lv_at hl 1 rfl) ?_
  refine lv_aload_n hx hb dX3_labelEnd_2 rfl (lv_at hl 0 rfl) ?_
  refine lv_iload_n hx hb dX3_labelEnd_3 rfl (lv_at hl 1 rfl) ?_
  refine kx_iconst hx hb dX3_labelEnd_4 ?_
  refine kx_ci0 (va_runV (As := [.int (kI ((ln : Nat) : Int)), .int (kI (3))]) (rest := [.int (kI ((ln : Nat) : Int)), .ref a]) ⟨hx, hb, hml, hown, hts⟩ (of_lb l D s.heap a fs ra g S gap ln hO_a hf_a_0 hA_ra (by first | assumption | omega) (by first | assumption | omega) (by first | assumption | omega)) (cwV 2 hts (lw_V q2304 q2306 qs40 q89 q2307) rfl rfl rfl (by decide +kernel) ⟨Nat.le_of_ble_eq_true rfl, Nat.le_of_ble_eq_true rfl⟩) (kx_pv hK hS hB (kx_rc hK hO_a (C := RX3) (T := TX3) (N := 13) rfl)) rfl rfl hl.1 rfl (lv_room (Nat.le_of_ble_eq_true rfl)) dX3_labelEnd_5 ⟨by first | exact Nat.le_of_ble_eq_true rfl | omega | (show _ ≤ _; omega) | (dsimp only [headSpec]; omega), by first | exact Nat.le_of_ble_eq_true rfl | omega | (show _ ≤ _; omega) | (dsimp only [headSpec]; omega)⟩) hS (fun z_4 locs_1 hz_3 hS_2 => ?_)
  subst z_4
  refine lv_aload_n hx hb dX3_labelEnd_8 rfl (lv_at hl 0 rfl) ?_
  refine lv_iload_n hx hb dX3_labelEnd_9 rfl (lv_at hl 1 rfl) ?_
  refine kx_ci0 (va_runV (As := [.int (kI ((ln : Nat) : Int))]) (rest := [.int (kI (ln_lb (st_ln S ln))), .int (kI ((ln : Nat) : Int)), .ref a]) ⟨hx, hb, hml, hown, hts⟩ (m_X3_size l D s.heap a fs ra g S gap ln hO_a hf_a_0 hA_ra (by first | assumption | omega) (by first | assumption | omega) (by first | assumption | omega)) (cwV 1 hts (lw_V q2349 q2351 qs49 q89 q2352) rfl rfl rfl (by decide +kernel) ⟨Nat.le_of_ble_eq_true rfl, Nat.le_of_ble_eq_true rfl⟩) (kx_pv hK hS_2 hB (kx_rc hK hO_a (C := RX3) (T := TX3) (N := 13) rfl)) rfl rfl hl.1 rfl (lv_room (Nat.le_of_ble_eq_true rfl)) dX3_labelEnd_10 ⟨by first | exact Nat.le_of_ble_eq_true rfl | omega | (show _ ≤ _; omega) | (dsimp only [headSpec]; omega), by first | exact Nat.le_of_ble_eq_true rfl | omega | (show _ ≤ _; omega) | (dsimp only [headSpec]; omega)⟩) hS_2 (fun z_8 locs_5 hz_7 hS_6 => ?_)
  subst z_8
  refine kx_iadd hx hb dX3_labelEnd_13 ?_
  refine kx_iconst hx hb dX3_labelEnd_14 ?_
  refine kx_isub hx hb dX3_labelEnd_15 ?_
  refine kx_eqi ((((ln_lb (st_ln S ln)).toNat + ln_size (st_ln S ln) - 1 : Nat) : Int)) (by omega) ?_
  refine kx_ci0 (va_runV (As := [.int (kI ((ln : Nat) : Int)), .int (kI (((ln_lb (st_ln S ln)).toNat + ln_size (st_ln S ln) - 1 : Nat) : Int))]) (rest := []) ⟨hx, hb, hml, hown, hts⟩ (m_X3_at l D s.heap a fs ra g S gap ln ((ln_lb (st_ln S ln)).toNat + ln_size (st_ln S ln) - 1) hO_a hf_a_0 hA_ra (by first | assumption | omega) (by first | assumption | omega) (by first | assumption | omega) (by first | assumption | omega)) (cwV 2 hts (lw_V q2330 q2332 qs45 q89 q2333) rfl rfl rfl (by decide +kernel) ⟨Nat.le_of_ble_eq_true rfl, Nat.le_of_ble_eq_true rfl⟩) (kx_pv hK hS_6 hB (kx_rc hK hO_a (C := RX3) (T := TX3) (N := 13) rfl)) rfl rfl hl.1 rfl (lv_room (Nat.le_of_ble_eq_true rfl)) dX3_labelEnd_16 ⟨by first | exact Nat.le_of_ble_eq_true rfl | omega | (show _ ≤ _; omega) | (dsimp only [headSpec]; omega), by first | exact Nat.le_of_ble_eq_true rfl | omega | (show _ ≤ _; omega) | (dsimp only [headSpec]; omega)⟩) hS_6 (fun z_12 locs_9 hz_11 hS_10 => ?_)
  subst z_12
  exact kx_iret (z := ln_pos (st_ln S ln) ((ln_lb (st_ln S ln)).toNat + ln_size (st_ln S ln) - 1)) hx hb hr hlk (⟨rfl, by rfl⟩) hS_10 dX3_labelEnd_19

set_option maxHeartbeats 4000000 in
set_option maxRecDepth 100000 in
theorem m_X3_isLeft (l : Launch) (D : kG) (H : Heap) (a : Nat) (fs : List Value) (ra : Nat) (g : Nat → Int) (S : Ls) (gap : Int) (ln : Nat) (hO_a : kO D H a 2 fs) (hf_a_0 : fs[0]? = some (.ref ra)) (hA_ra : kAi D H ra 514 g) (hM : MRow g S gap) (hok : LsOK S gap) (hln : ln < S.length) : Met l yX3_isLeft (ws_ yX3_isLeft cX3_isLeft 2 (some .boolean)) ({ frames := 4, cells := 0, slots := 0, locals := 87 } : Room) (kPre D H [.ref a, .int (kI ((ln : Nat) : Int))]) (kQb (fun (r : Bool) H' => H' = H ∧ r = ln_left (st_ln S ln)) kNO) (0) (0) (kNO) := by
  refine Met.ofW (cc := cX3_isLeft) (maxL := 2) (ret := (some .boolean)) (by decide) rfl ?_
  intro p e s m args below meth c s₁ B hml hv
  obtain ⟨rfl, hH, hK⟩ := hv
  subst hH
  have hx := B.exec
  have hb := B.bytes
  have hr := B.returns
  have hts := atoms_spec (ws := ws_ yX3_isLeft cX3_isLeft 2 (some .boolean)) B.pre
  have hts : ∀ w ∈ lw_all, w.before _ s = true := fun w h => hts w (List.mem_cons_of_mem _ h)
  have hown : s.vm.findClass RX3 = some m.cls := findClass_of_methodNamed B.named
  have hlk := B.notSynchronized
  have hS : va_S kNO s.heap s.heap [] := va_S.rf
  have hB : ∀ q, kNO q → kBase D ≤ q := fun _ h => h.elim
  have hl := lv_entry ([.ref a, .int (kI ((ln : Nat) : Int))]) (n := 2) (Nat.le_of_ble_eq_true rfl)
  rw [lg_entry_eq]
  generalize (lg_sl ([.ref a, .int (kI ((ln : Nat) : Int))]) ++ List.replicate (2 - (lg_sl ([.ref a, .int (kI ((ln : Nat) : Int))])).length) Slot.unset).toArray = ls at hl ⊢
  have hl : lv_has ls 2 [(0, .ref a), (1, .int (kI ((ln : Nat) : Int)))] := hl
  have hL := hok.ln hln
  have hL60 := hL.n
  have hL8 := hok.1
  have hlbr := hL.lbr
  have hsz := ln_size_23 (st_ln S ln)
  refine lv_aload_n hx hb dX3_isLeft_0 rfl (lv_at hl 0 rfl) ?_
  refine lv_iload_n hx hb dX3_isLeft_1 rfl (lv_at hl 1 rfl) ?_
  refine kx_iconst hx hb dX3_isLeft_2 ?_
  refine kx_ci0 (va_runV (As := [.int (kI ((ln : Nat) : Int)), .int (kI (3))]) (rest := []) ⟨hx, hb, hml, hown, hts⟩ (of_lb l D s.heap a fs ra g S gap ln hO_a hf_a_0 hA_ra (by first | assumption | omega) (by first | assumption | omega) (by first | assumption | omega)) (cwV 2 hts (lw_V q2304 q2306 qs40 q89 q2307) rfl rfl rfl (by decide +kernel) ⟨Nat.le_of_ble_eq_true rfl, Nat.le_of_ble_eq_true rfl⟩) (kx_pv hK hS hB (kx_rc hK hO_a (C := RX3) (T := TX3) (N := 13) rfl)) rfl rfl hl.1 rfl (lv_room (Nat.le_of_ble_eq_true rfl)) dX3_isLeft_3 ⟨by first | exact Nat.le_of_ble_eq_true rfl | omega | (show _ ≤ _; omega) | (dsimp only [headSpec]; omega), by first | exact Nat.le_of_ble_eq_true rfl | omega | (show _ ≤ _; omega) | (dsimp only [headSpec]; omega)⟩) hS (fun z_4 locs_1 hz_3 hS_2 => ?_)
  subst z_4
  refine kx_iconst hx hb dX3_isLeft_6 ?_
  refine kx_icmp_eq (x := ln_lb (st_ln S ln)) (y := (-1)) (tgt := 39) hx hb dX3_isLeft_7 (by decide) (by omega) (by omega) (by omega) (by omega) (fun c7 => ?_) (fun c7 => ?_)
  · -- taken at 7
    refine kx_iconst hx hb dX3_isLeft_39 ?_
    exact kx_zret (z := false) hx hb hr hlk (⟨rfl, by unfold ln_left; grind⟩) hS_2 dX3_isLeft_40
  · -- not taken at 7
    have hpl := lb_place hL c7
    have hp1 := hL.pos (k := (ln_lb (st_ln S ln)).toNat) (by omega)
    have hp2 := hL.pos (k := (ln_lb (st_ln S ln)).toNat + ln_size (st_ln S ln) - 1) (by omega)
    refine lv_aload_n hx hb dX3_isLeft_10 rfl (lv_at hl 0 rfl) ?_
    refine lv_iload_n hx hb dX3_isLeft_11 rfl (lv_at hl 1 rfl) ?_
    refine kx_ci0 (va_runV (As := [.int (kI ((ln : Nat) : Int))]) (rest := []) ⟨hx, hb, hml, hown, hts⟩ (m_X3_labelEnd l D s.heap a fs ra g S gap ln hO_a hf_a_0 hA_ra (by first | assumption | omega) (by first | assumption | omega) (by first | assumption | omega) (by first | assumption | omega)) (cwV 1 hts (lw_V q2524 q2526 qs69 q89 q2527) rfl rfl rfl (by decide +kernel) ⟨Nat.le_of_ble_eq_true rfl, Nat.le_of_ble_eq_true rfl⟩) (kx_pv hK hS_2 hB (kx_rc hK hO_a (C := RX3) (T := TX3) (N := 13) rfl)) rfl rfl hl.1 rfl (lv_room (Nat.le_of_ble_eq_true rfl)) dX3_isLeft_12 ⟨by first | exact Nat.le_of_ble_eq_true rfl | omega | (show _ ≤ _; omega) | (dsimp only [headSpec]; omega), by first | exact Nat.le_of_ble_eq_true rfl | omega | (show _ ≤ _; omega) | (dsimp only [headSpec]; omega)⟩) hS_2 (fun z_8 locs_5 hz_7 hS_6 => ?_)
    subst z_8
    refine kx_bipush hx hb (by decide) dX3_isLeft_15 ?_
    refine kx_irem (x := ln_pos (st_ln S ln) ((ln_lb (st_ln S ln)).toNat + ln_size (st_ln S ln) - 1)) (y := 24) hx hb (by omega) (by omega) (by omega) (by omega) dX3_isLeft_17 ?_
    refine lv_aload_n hx hb dX3_isLeft_18 rfl (lv_at hl 0 rfl) ?_
    refine lv_iload_n hx hb dX3_isLeft_19 rfl (lv_at hl 1 rfl) ?_
    refine lv_aload_n hx hb dX3_isLeft_20 rfl (lv_at hl 0 rfl) ?_
    refine lv_iload_n hx hb dX3_isLeft_21 rfl (lv_at hl 1 rfl) ?_
    refine kx_iconst hx hb dX3_isLeft_22 ?_
    refine kx_ci0 (va_runV (As := [.int (kI ((ln : Nat) : Int)), .int (kI (3))]) (rest := [.int (kI ((ln : Nat) : Int)), .ref a, .int (kI ((ln_pos (st_ln S ln) ((ln_lb (st_ln S ln)).toNat + ln_size (st_ln S ln) - 1) % 24)))]) ⟨hx, hb, hml, hown, hts⟩ (of_lb l D s.heap a fs ra g S gap ln hO_a hf_a_0 hA_ra (by first | assumption | omega) (by first | assumption | omega) (by first | assumption | omega)) (cwV 2 hts (lw_V q2304 q2306 qs40 q89 q2307) rfl rfl rfl (by decide +kernel) ⟨Nat.le_of_ble_eq_true rfl, Nat.le_of_ble_eq_true rfl⟩) (kx_pv hK hS_6 hB (kx_rc hK hO_a (C := RX3) (T := TX3) (N := 13) rfl)) rfl rfl hl.1 rfl (lv_room (Nat.le_of_ble_eq_true rfl)) dX3_isLeft_23 ⟨by first | exact Nat.le_of_ble_eq_true rfl | omega | (show _ ≤ _; omega) | (dsimp only [headSpec]; omega), by first | exact Nat.le_of_ble_eq_true rfl | omega | (show _ ≤ _; omega) | (dsimp only [headSpec]; omega)⟩) hS_6 (fun z_12 locs_9 hz_11 hS_10 => ?_)
    subst z_12
    refine kx_eqi ((((ln_lb (st_ln S ln)).toNat : Nat) : Int)) (by omega) ?_
    refine kx_ci0 (va_runV (As := [.int (kI ((ln : Nat) : Int)), .int (kI (((ln_lb (st_ln S ln)).toNat : Nat) : Int))]) (rest := [.int (kI ((ln_pos (st_ln S ln) ((ln_lb (st_ln S ln)).toNat + ln_size (st_ln S ln) - 1) % 24)))]) ⟨hx, hb, hml, hown, hts⟩ (m_X3_at l D s.heap a fs ra g S gap ln ((ln_lb (st_ln S ln)).toNat) hO_a hf_a_0 hA_ra (by first | assumption | omega) (by first | assumption | omega) (by first | assumption | omega) (by first | assumption | omega)) (cwV 2 hts (lw_V q2330 q2332 qs45 q89 q2333) rfl rfl rfl (by decide +kernel) ⟨Nat.le_of_ble_eq_true rfl, Nat.le_of_ble_eq_true rfl⟩) (kx_pv hK hS_10 hB (kx_rc hK hO_a (C := RX3) (T := TX3) (N := 13) rfl)) rfl rfl hl.1 rfl (lv_room (Nat.le_of_ble_eq_true rfl)) dX3_isLeft_26 ⟨by first | exact Nat.le_of_ble_eq_true rfl | omega | (show _ ≤ _; omega) | (dsimp only [headSpec]; omega), by first | exact Nat.le_of_ble_eq_true rfl | omega | (show _ ≤ _; omega) | (dsimp only [headSpec]; omega)⟩) hS_10 (fun z_16 locs_13 hz_15 hS_14 => ?_)
    subst z_16
    refine kx_bipush hx hb (by decide) dX3_isLeft_29 ?_
    refine kx_irem (x := ln_pos (st_ln S ln) ((ln_lb (st_ln S ln)).toNat)) (y := 24) hx hb (by omega) (by omega) (by omega) (by omega) dX3_isLeft_31 ?_
    refine kx_icmp_ge (x := (ln_pos (st_ln S ln) ((ln_lb (st_ln S ln)).toNat + ln_size (st_ln S ln) - 1) % 24)) (y := (ln_pos (st_ln S ln) ((ln_lb (st_ln S ln)).toNat) % 24)) (tgt := 39) hx hb dX3_isLeft_32 (by decide) (by omega) (by omega) (by omega) (by omega) (fun c_32_17 => ?_) (fun c_32_17 => ?_)
    · -- taken at 32
      refine kx_iconst hx hb dX3_isLeft_39 ?_
      exact kx_zret (z := false) hx hb hr hlk (⟨rfl, by unfold ln_left; grind⟩) hS_14 dX3_isLeft_40
    · -- not taken at 32
      refine kx_iconst hx hb dX3_isLeft_35 ?_
      refine lv_goto (tgt := 40) hx hb dX3_isLeft_36 (by decide) ?_
      exact kx_zret (z := true) hx hb hr hlk (⟨rfl, by unfold ln_left; grind⟩) hS_14 dX3_isLeft_40

set_option maxHeartbeats 4000000 in
set_option maxRecDepth 100000 in
theorem m_X3_isTurned (l : Launch) (D : kG) (H : Heap) (a : Nat) (ra : Nat) (sa : Nat) (ka : Nat) (ta : Nat) (sn : Nat) (ik : Bool) (tn : Nat) (th : Int) (sp : Int) (iw : Bool) (le : Int) (fi : Int) (se : Int) (g : Nat → Int) (S : Ls) (gap : Int) (ln : Nat) (hO_a : kO D H a 2 [.ref ra, .ref sa, .int (kI ((sn : Nat) : Int)), .ref ka, .int (kI (kb (ik))), .ref ta, .int (kI ((tn : Nat) : Int)), .int (kI (th)), .int (kI (sp)), .int (kI (kb (iw))), .int (kI (le)), .int (kI (fi)), .int (kI (se))]) (hA_ra : kAi D H ra 514 g) (hM : MRow g S gap) (hok : LsOK S gap) (ne_a_ra : a ≠ ra) (bs_a : kBase D ≤ a) (hln : ln < S.length) : Met l yX3_isTurned (ws_ yX3_isTurned cX3_isTurned 2 (some .boolean)) ({ frames := 5, cells := 0, slots := 0, locals := 108 } : Room) (kPre D H [.ref a, .int (kI ((ln : Nat) : Int))]) (kQb (fun (r : Bool) H' => (r = ln_left (st_ln S ln)) ∧ (kO D H' a 2 [.ref ra, .ref sa, .int (kI ((sn : Nat) : Int)), .ref ka, .int (kI (kb (ik))), .ref ta, .int (kI ((tn : Nat) : Int)), .int (kI (0)), .int (kI (sp)), .int (kI (kb (iw))), .int (kI (le)), .int (kI (fi)), .int (kI (se))])) (fun q : Nat => q = a)) (0) (0) ((fun q : Nat => q = a)) := by
  refine Met.ofW (cc := cX3_isTurned) (maxL := 2) (ret := (some .boolean)) (by decide) rfl ?_
  intro p e s m args below meth c s₁ B hml hv
  obtain ⟨rfl, hH, hK⟩ := hv
  subst hH
  have hx := B.exec
  have hb := B.bytes
  have hr := B.returns
  have hts := atoms_spec (ws := ws_ yX3_isTurned cX3_isTurned 2 (some .boolean)) B.pre
  have hts : ∀ w ∈ lw_all, w.before _ s = true := fun w h => hts w (List.mem_cons_of_mem _ h)
  have hown : s.vm.findClass RX3 = some m.cls := findClass_of_methodNamed B.named
  have hlk := B.notSynchronized
  have hS : va_S (fun q : Nat => q = a) s.heap s.heap [] := va_S.rf
  have hB : ∀ q, (fun q : Nat => q = a) q → kBase D ≤ q := fun q h => by (try dsimp only at h); (try simp only [kNW] at h); have hks := hK.size; omega
  have hl := lv_entry ([.ref a, .int (kI ((ln : Nat) : Int))]) (n := 2) (Nat.le_of_ble_eq_true rfl)
  rw [lg_entry_eq]
  generalize (lg_sl ([.ref a, .int (kI ((ln : Nat) : Int))]) ++ List.replicate (2 - (lg_sl ([.ref a, .int (kI ((ln : Nat) : Int))])).length) Slot.unset).toArray = ls at hl ⊢
  have hl : lv_has ls 2 [(0, .ref a), (1, .int (kI ((ln : Nat) : Int)))] := hl
  have hL := hok.ln hln
  have hL60 := hL.n
  have hL8 := hok.1
  refine lv_aload_n hx hb dX3_isTurned_0 rfl (lv_at hl 0 rfl) ?_
  refine lv_iload_n hx hb dX3_isTurned_1 rfl (lv_at hl 1 rfl) ?_
  refine kx_cb (va_runV (As := [.int (kI ((ln : Nat) : Int))]) (rest := []) ⟨hx, hb, hml, hown, hts⟩ (m_X3_knows l D s.heap a ra sa ka ta sn ik tn th sp iw le fi se g S gap ln hO_a hA_ra (by first | assumption | omega) (by first | assumption | omega) (by first | assumption | omega) (by first | assumption | omega) (by first | assumption | omega)) (cwV 1 hts (lw_V q2479 q2481 qs66 q89 q2482) rfl rfl rfl (by decide +kernel) ⟨Nat.le_of_ble_eq_true rfl, Nat.le_of_ble_eq_true rfl⟩) (kx_pv hK hS hB (kx_rc hK hO_a (C := RX3) (T := TX3) (N := 13) rfl)) rfl rfl hl.1 rfl (lv_room (Nat.le_of_ble_eq_true rfl)) dX3_isTurned_2 ⟨by first | exact Nat.le_of_ble_eq_true rfl | omega | (show _ ≤ _; omega) | (dsimp only [headSpec]; omega), by first | exact Nat.le_of_ble_eq_true rfl | omega | (show _ ≤ _; omega) | (dsimp only [headSpec]; omega)⟩) hS (fun q _ h => by (try dsimp only at h); (try dsimp only); (try simp only [kNW] at h); (try simp only [kNW]); omega) (fun q h => by (try dsimp only at h); (try dsimp only); (try simp only [kNW] at h); (try simp only [kNW]); omega) (fun z_6 H_4 locs_1 hz_3 hF_5 hS_2 => ?_)
  refine W.widen (k := 0) (n := 0) (Nat.le_of_ble_eq_true rfl) (Nat.le_of_ble_eq_true rfl) ?_
  obtain ⟨hv_7, ho_8⟩ := hz_3
  subst z_6
  refine kx_ifz (tgt := 20) hx hb dX3_isTurned_5 (by decide) (fun c_5_9 => ?_) (fun c_5_9 => ?_)
  · -- taken at 5
    exact absurd c_5_9 (by decide)
  · -- not taken at 5
    refine lv_aload_n hx hb dX3_isTurned_8 rfl (lv_at hl 0 rfl) ?_
    refine lv_iload_n hx hb dX3_isTurned_9 rfl (lv_at hl 1 rfl) ?_
    have h_10 := hA_ra.fr hF_5 (fun h => by (try dsimp only at h); (try simp only [kNW] at h); omega)
    refine kx_cb0 (va_runV (As := [.int (kI ((ln : Nat) : Int))]) (rest := []) ⟨hx, hb, hml, hown, hts⟩ (m_X3_isLeft l D H_4 a ([.ref ra, .ref sa, .int (kI ((sn : Nat) : Int)), .ref ka, .int (kI (kb (ik))), .ref ta, .int (kI ((tn : Nat) : Int)), .int (kI (0)), .int (kI (sp)), .int (kI (kb (iw))), .int (kI (le)), .int (kI (fi)), .int (kI (se))]) ra g S gap ln ho_8 rfl h_10 (by first | assumption | omega) (by first | assumption | omega) (by first | assumption | omega)) (cwV 1 hts (lw_V q2520 q2522 qs68 q89 q2523) rfl rfl rfl (by decide +kernel) ⟨Nat.le_of_ble_eq_true rfl, Nat.le_of_ble_eq_true rfl⟩) (kx_pv hK hS_2 hB (kx_rc hK ho_8 (C := RX3) (T := TX3) (N := 13) rfl)) rfl rfl hl.1 rfl (lv_room (Nat.le_of_ble_eq_true rfl)) dX3_isTurned_10 ⟨by first | exact Nat.le_of_ble_eq_true rfl | omega | (show _ ≤ _; omega) | (dsimp only [headSpec]; omega), by first | exact Nat.le_of_ble_eq_true rfl | omega | (show _ ≤ _; omega) | (dsimp only [headSpec]; omega)⟩) hS_2 (fun z_14 locs_11 hz_13 hS_12 => ?_)
    subst z_14
    refine kx_ifz (tgt := 20) hx hb dX3_isTurned_13 (by decide) (fun c_13_15 => ?_) (fun c_13_15 => ?_)
    · -- taken at 13
      refine kx_iconst hx hb dX3_isTurned_20 ?_
      exact kx_zret (z := false) hx hb hr hlk (⟨by simp [*], ho_8⟩) hS_12 dX3_isTurned_21
    · -- not taken at 13
      refine kx_iconst hx hb dX3_isTurned_16 ?_
      refine lv_goto (tgt := 21) hx hb dX3_isTurned_17 (by decide) ?_
      exact kx_zret (z := true) hx hb hr hlk (⟨by simp [*], ho_8⟩) hS_12 dX3_isTurned_21

set_option maxHeartbeats 4000000 in
set_option maxRecDepth 100000 in
theorem m_X3_isTurned_no (l : Launch) (D : kG) (H : Heap) (a : Nat) (ra : Nat) (sa : Nat) (ka : Nat) (ta : Nat) (sn : Nat) (ik : Bool) (tn : Nat) (th : Int) (sp : Int) (iw : Bool) (le : Int) (fi : Int) (se : Int) (g : Nat → Int) (S : Ls) (gap : Int) (x : Int) (hO_a : kO D H a 2 [.ref ra, .ref sa, .int (kI ((sn : Nat) : Int)), .ref ka, .int (kI (kb (ik))), .ref ta, .int (kI ((tn : Nat) : Int)), .int (kI (th)), .int (kI (sp)), .int (kI (kb (iw))), .int (kI (le)), .int (kI (fi)), .int (kI (se))]) (hA_ra : kAi D H ra 514 g) (hM : MRow g S gap) (hok : LsOK S gap) (ne_a_ra : a ≠ ra) (bs_a : kBase D ≤ a) (hr_x : -2147483648 ≤ x ∧ x ≤ 2147483647) (hno : ¬ (0 ≤ x ∧ x < S.length)) : Met l yX3_isTurned (ws_ yX3_isTurned cX3_isTurned 2 (some .boolean)) ({ frames := 3, cells := 0, slots := 0, locals := 64 } : Room) (kPre D H [.ref a, .int (kI (x))]) (kQb (fun (r : Bool) H' => (r = false) ∧ (kO D H' a 2 [.ref ra, .ref sa, .int (kI ((sn : Nat) : Int)), .ref ka, .int (kI (kb (ik))), .ref ta, .int (kI ((tn : Nat) : Int)), .int (kI (1)), .int (kI (sp)), .int (kI (kb (iw))), .int (kI (le)), .int (kI (fi)), .int (kI (se))])) (fun q : Nat => q = a)) (0) (0) ((fun q : Nat => q = a)) := by
  refine Met.ofW (cc := cX3_isTurned) (maxL := 2) (ret := (some .boolean)) (by decide) rfl ?_
  intro p e s m args below meth c s₁ B hml hv
  obtain ⟨rfl, hH, hK⟩ := hv
  subst hH
  have hx := B.exec
  have hb := B.bytes
  have hr := B.returns
  have hts := atoms_spec (ws := ws_ yX3_isTurned cX3_isTurned 2 (some .boolean)) B.pre
  have hts : ∀ w ∈ lw_all, w.before _ s = true := fun w h => hts w (List.mem_cons_of_mem _ h)
  have hown : s.vm.findClass RX3 = some m.cls := findClass_of_methodNamed B.named
  have hlk := B.notSynchronized
  have hS : va_S (fun q : Nat => q = a) s.heap s.heap [] := va_S.rf
  have hB : ∀ q, (fun q : Nat => q = a) q → kBase D ≤ q := fun q h => by (try dsimp only at h); (try simp only [kNW] at h); have hks := hK.size; omega
  have hl := lv_entry ([.ref a, .int (kI (x))]) (n := 2) (Nat.le_of_ble_eq_true rfl)
  rw [lg_entry_eq]
  generalize (lg_sl ([.ref a, .int (kI (x))]) ++ List.replicate (2 - (lg_sl ([.ref a, .int (kI (x))])).length) Slot.unset).toArray = ls at hl ⊢
  have hl : lv_has ls 2 [(0, .ref a), (1, .int (kI (x)))] := hl
  have hL8 := hok.1
  have hlen := hM.len
  refine lv_aload_n hx hb dX3_isTurned_0 rfl (lv_at hl 0 rfl) ?_
  refine lv_iload_n hx hb dX3_isTurned_1 rfl (lv_at hl 1 rfl) ?_
  refine kx_cb (va_runV (As := [.int (kI (x))]) (rest := []) ⟨hx, hb, hml, hown, hts⟩ (m_X3_knows_no l D s.heap a ra sa ka ta sn ik tn th sp iw le fi se g S gap x hO_a hA_ra (by first | assumption | omega) (by first | assumption | omega) (by first | assumption | omega) (by first | assumption | omega) (by first | assumption | omega) (by first | assumption | omega)) (cwV 1 hts (lw_V q2479 q2481 qs66 q89 q2482) rfl rfl rfl (by decide +kernel) ⟨Nat.le_of_ble_eq_true rfl, Nat.le_of_ble_eq_true rfl⟩) (kx_pv hK hS hB (kx_rc hK hO_a (C := RX3) (T := TX3) (N := 13) rfl)) rfl rfl hl.1 rfl (lv_room (Nat.le_of_ble_eq_true rfl)) dX3_isTurned_2 ⟨by first | exact Nat.le_of_ble_eq_true rfl | omega | (show _ ≤ _; omega) | (dsimp only [headSpec]; omega), by first | exact Nat.le_of_ble_eq_true rfl | omega | (show _ ≤ _; omega) | (dsimp only [headSpec]; omega)⟩) hS (fun q _ h => by (try dsimp only at h); (try dsimp only); (try simp only [kNW] at h); (try simp only [kNW]); omega) (fun q h => by (try dsimp only at h); (try dsimp only); (try simp only [kNW] at h); (try simp only [kNW]); omega) (fun z_6 H_4 locs_1 hz_3 hF_5 hS_2 => ?_)
  refine W.widen (k := 0) (n := 0) (Nat.le_of_ble_eq_true rfl) (Nat.le_of_ble_eq_true rfl) ?_
  obtain ⟨hv_7, ho_8⟩ := hz_3
  subst z_6
  refine kx_ifz (tgt := 20) hx hb dX3_isTurned_5 (by decide) (fun c_5_9 => ?_) (fun c_5_9 => ?_)
  · -- taken at 5
    refine kx_iconst hx hb dX3_isTurned_20 ?_
    exact kx_zret (z := false) hx hb hr hlk (⟨by rfl, ho_8⟩) hS_2 dX3_isTurned_21
  · -- not taken at 5
    exact absurd c_5_9 (by decide)

set_option maxHeartbeats 4000000 in
set_option maxRecDepth 100000 in
theorem m_X3_readFrom (l : Launch) (D : kG) (H : Heap) (a : Nat) (ra : Nat) (sa : Nat) (ka : Nat) (ta : Nat) (sn : Nat) (ik : Bool) (tn : Nat) (th : Int) (sp : Int) (iw : Bool) (le : Int) (fi : Int) (se : Int) (g : Nat → Int) (S : Ls) (gap : Int) (ln : Nat) (hO_a : kO D H a 2 [.ref ra, .ref sa, .int (kI ((sn : Nat) : Int)), .ref ka, .int (kI (kb (ik))), .ref ta, .int (kI ((tn : Nat) : Int)), .int (kI (th)), .int (kI (sp)), .int (kI (kb (iw))), .int (kI (le)), .int (kI (fi)), .int (kI (se))]) (hA_ra : kAi D H ra 514 g) (hM : MRow g S gap) (hok : LsOK S gap) (ne_a_ra : a ≠ ra) (bs_a : kBase D ≤ a) (hln : ln < S.length) : Met l yX3_readFrom (ws_ yX3_readFrom cX3_readFrom 2 (some .int)) ({ frames := 5, cells := 0, slots := 0, locals := 108 } : Room) (kPre D H [.ref a, .int (kI ((ln : Nat) : Int))]) (kQi (fun (r : Int) H' => (r = (if ln_lb (st_ln S ln) = -1 then -1 else if ln_left (st_ln S ln) = true then ln_pos (st_ln S ln) ((ln_lb (st_ln S ln)).toNat + ln_size (st_ln S ln) - 1) else ln_pos (st_ln S ln) (ln_lb (st_ln S ln)).toNat)) ∧ (kO D H' a 2 [.ref ra, .ref sa, .int (kI ((sn : Nat) : Int)), .ref ka, .int (kI (kb (ik))), .ref ta, .int (kI ((tn : Nat) : Int)), .int (kI (0)), .int (kI (sp)), .int (kI (kb (iw))), .int (kI (le)), .int (kI (fi)), .int (kI (se))])) (fun q : Nat => q = a)) (0) (0) ((fun q : Nat => q = a)) := by
  refine Met.ofW (cc := cX3_readFrom) (maxL := 2) (ret := (some .int)) (by decide) rfl ?_
  intro p e s m args below meth c s₁ B hml hv
  obtain ⟨rfl, hH, hK⟩ := hv
  subst hH
  have hx := B.exec
  have hb := B.bytes
  have hr := B.returns
  have hts := atoms_spec (ws := ws_ yX3_readFrom cX3_readFrom 2 (some .int)) B.pre
  have hts : ∀ w ∈ lw_all, w.before _ s = true := fun w h => hts w (List.mem_cons_of_mem _ h)
  have hown : s.vm.findClass RX3 = some m.cls := findClass_of_methodNamed B.named
  have hlk := B.notSynchronized
  have hS : va_S (fun q : Nat => q = a) s.heap s.heap [] := va_S.rf
  have hB : ∀ q, (fun q : Nat => q = a) q → kBase D ≤ q := fun q h => by (try dsimp only at h); (try simp only [kNW] at h); have hks := hK.size; omega
  have hl := lv_entry ([.ref a, .int (kI ((ln : Nat) : Int))]) (n := 2) (Nat.le_of_ble_eq_true rfl)
  rw [lg_entry_eq]
  generalize (lg_sl ([.ref a, .int (kI ((ln : Nat) : Int))]) ++ List.replicate (2 - (lg_sl ([.ref a, .int (kI ((ln : Nat) : Int))])).length) Slot.unset).toArray = ls at hl ⊢
  have hl : lv_has ls 2 [(0, .ref a), (1, .int (kI ((ln : Nat) : Int)))] := hl
  have hL := hok.ln hln
  have hL60 := hL.n
  have hL8 := hok.1
  have hlbr := hL.lbr
  have hsz := ln_size_23 (st_ln S ln)
  refine lv_aload_n hx hb dX3_readFrom_0 rfl (lv_at hl 0 rfl) ?_
  refine lv_iload_n hx hb dX3_readFrom_1 rfl (lv_at hl 1 rfl) ?_
  refine kx_cb (va_runV (As := [.int (kI ((ln : Nat) : Int))]) (rest := []) ⟨hx, hb, hml, hown, hts⟩ (m_X3_knows l D s.heap a ra sa ka ta sn ik tn th sp iw le fi se g S gap ln hO_a hA_ra (by first | assumption | omega) (by first | assumption | omega) (by first | assumption | omega) (by first | assumption | omega) (by first | assumption | omega)) (cwV 1 hts (lw_V q2479 q2481 qs66 q89 q2482) rfl rfl rfl (by decide +kernel) ⟨Nat.le_of_ble_eq_true rfl, Nat.le_of_ble_eq_true rfl⟩) (kx_pv hK hS hB (kx_rc hK hO_a (C := RX3) (T := TX3) (N := 13) rfl)) rfl rfl hl.1 rfl (lv_room (Nat.le_of_ble_eq_true rfl)) dX3_readFrom_2 ⟨by first | exact Nat.le_of_ble_eq_true rfl | omega | (show _ ≤ _; omega) | (dsimp only [headSpec]; omega), by first | exact Nat.le_of_ble_eq_true rfl | omega | (show _ ≤ _; omega) | (dsimp only [headSpec]; omega)⟩) hS (fun q _ h => by (try dsimp only at h); (try dsimp only); (try simp only [kNW] at h); (try simp only [kNW]); omega) (fun q h => by (try dsimp only at h); (try dsimp only); (try simp only [kNW] at h); (try simp only [kNW]); omega) (fun z_6 H_4 locs_1 hz_3 hF_5 hS_2 => ?_)
  refine W.widen (k := 0) (n := 0) (Nat.le_of_ble_eq_true rfl) (Nat.le_of_ble_eq_true rfl) ?_
  obtain ⟨hv_7, ho_8⟩ := hz_3
  subst z_6
  refine kx_ifnz (tgt := 10) hx hb dX3_readFrom_5 (by decide) (fun c_5_9 => ?_) (fun c_5_9 => ?_)
  · -- taken at 5
    refine lv_aload_n hx hb dX3_readFrom_10 rfl (lv_at hl 0 rfl) ?_
    refine lv_iload_n hx hb dX3_readFrom_11 rfl (lv_at hl 1 rfl) ?_
    refine kx_iconst hx hb dX3_readFrom_12 ?_
    have h_10 := hA_ra.fr hF_5 (fun h => by (try dsimp only at h); (try simp only [kNW] at h); omega)
    refine kx_ci0 (va_runV (As := [.int (kI ((ln : Nat) : Int)), .int (kI (3))]) (rest := []) ⟨hx, hb, hml, hown, hts⟩ (of_lb l D H_4 a ([.ref ra, .ref sa, .int (kI ((sn : Nat) : Int)), .ref ka, .int (kI (kb (ik))), .ref ta, .int (kI ((tn : Nat) : Int)), .int (kI (0)), .int (kI (sp)), .int (kI (kb (iw))), .int (kI (le)), .int (kI (fi)), .int (kI (se))]) ra g S gap ln ho_8 rfl h_10 (by first | assumption | omega) (by first | assumption | omega) (by first | assumption | omega)) (cwV 2 hts (lw_V q2304 q2306 qs40 q89 q2307) rfl rfl rfl (by decide +kernel) ⟨Nat.le_of_ble_eq_true rfl, Nat.le_of_ble_eq_true rfl⟩) (kx_pv hK hS_2 hB (kx_rc hK ho_8 (C := RX3) (T := TX3) (N := 13) rfl)) rfl rfl hl.1 rfl (lv_room (Nat.le_of_ble_eq_true rfl)) dX3_readFrom_13 ⟨by first | exact Nat.le_of_ble_eq_true rfl | omega | (show _ ≤ _; omega) | (dsimp only [headSpec]; omega), by first | exact Nat.le_of_ble_eq_true rfl | omega | (show _ ≤ _; omega) | (dsimp only [headSpec]; omega)⟩) hS_2 (fun z_14 locs_11 hz_13 hS_12 => ?_)
    subst z_14
    refine kx_iconst hx hb dX3_readFrom_16 ?_
    refine kx_icmp_ne (x := ln_lb (st_ln S ln)) (y := (-1)) (tgt := 24) hx hb dX3_readFrom_17 (by decide) (by omega) (by omega) (by omega) (by omega) (fun c17 => ?_) (fun c17 => ?_)
    · -- taken at 17
      have hpl := lb_place hL c17
      refine lv_aload_n hx hb dX3_readFrom_24 rfl (lv_at hl 0 rfl) ?_
      refine lv_iload_n hx hb dX3_readFrom_25 rfl (lv_at hl 1 rfl) ?_
      refine kx_cb0 (va_runV (As := [.int (kI ((ln : Nat) : Int))]) (rest := []) ⟨hx, hb, hml, hown, hts⟩ (m_X3_isLeft l D H_4 a ([.ref ra, .ref sa, .int (kI ((sn : Nat) : Int)), .ref ka, .int (kI (kb (ik))), .ref ta, .int (kI ((tn : Nat) : Int)), .int (kI (0)), .int (kI (sp)), .int (kI (kb (iw))), .int (kI (le)), .int (kI (fi)), .int (kI (se))]) ra g S gap ln ho_8 rfl h_10 (by first | assumption | omega) (by first | assumption | omega) (by first | assumption | omega)) (cwV 1 hts (lw_V q2520 q2522 qs68 q89 q2523) rfl rfl rfl (by decide +kernel) ⟨Nat.le_of_ble_eq_true rfl, Nat.le_of_ble_eq_true rfl⟩) (kx_pv hK hS_12 hB (kx_rc hK ho_8 (C := RX3) (T := TX3) (N := 13) rfl)) rfl rfl hl.1 rfl (lv_room (Nat.le_of_ble_eq_true rfl)) dX3_readFrom_26 ⟨by first | exact Nat.le_of_ble_eq_true rfl | omega | (show _ ≤ _; omega) | (dsimp only [headSpec]; omega), by first | exact Nat.le_of_ble_eq_true rfl | omega | (show _ ≤ _; omega) | (dsimp only [headSpec]; omega)⟩) hS_12 (fun z_18 locs_15 hz_17 hS_16 => ?_)
      subst z_18
      refine kx_ifz (tgt := 40) hx hb dX3_readFrom_29 (by decide) (fun c_29_19 => ?_) (fun c_29_19 => ?_)
      · -- taken at 29
        refine lv_aload_n hx hb dX3_readFrom_40 rfl (lv_at hl 0 rfl) ?_
        refine lv_iload_n hx hb dX3_readFrom_41 rfl (lv_at hl 1 rfl) ?_
        refine lv_aload_n hx hb dX3_readFrom_42 rfl (lv_at hl 0 rfl) ?_
        refine lv_iload_n hx hb dX3_readFrom_43 rfl (lv_at hl 1 rfl) ?_
        refine kx_iconst hx hb dX3_readFrom_44 ?_
        refine kx_ci0 (va_runV (As := [.int (kI ((ln : Nat) : Int)), .int (kI (3))]) (rest := [.int (kI ((ln : Nat) : Int)), .ref a]) ⟨hx, hb, hml, hown, hts⟩ (of_lb l D H_4 a ([.ref ra, .ref sa, .int (kI ((sn : Nat) : Int)), .ref ka, .int (kI (kb (ik))), .ref ta, .int (kI ((tn : Nat) : Int)), .int (kI (0)), .int (kI (sp)), .int (kI (kb (iw))), .int (kI (le)), .int (kI (fi)), .int (kI (se))]) ra g S gap ln ho_8 rfl h_10 (by first | assumption | omega) (by first | assumption | omega) (by first | assumption | omega)) (cwV 2 hts (lw_V q2304 q2306 qs40 q89 q2307) rfl rfl rfl (by decide +kernel) ⟨Nat.le_of_ble_eq_true rfl, Nat.le_of_ble_eq_true rfl⟩) (kx_pv hK hS_16 hB (kx_rc hK ho_8 (C := RX3) (T := TX3) (N := 13) rfl)) rfl rfl hl.1 rfl (lv_room (Nat.le_of_ble_eq_true rfl)) dX3_readFrom_45 ⟨by first | exact Nat.le_of_ble_eq_true rfl | omega | (show _ ≤ _; omega) | (dsimp only [headSpec]; omega), by first | exact Nat.le_of_ble_eq_true rfl | omega | (show _ ≤ _; omega) | (dsimp only [headSpec]; omega)⟩) hS_16 (fun z_23 locs_20 hz_22 hS_21 => ?_)
        subst z_23
        refine kx_eqi ((((ln_lb (st_ln S ln)).toNat : Nat) : Int)) (by omega) ?_
        refine kx_ci0 (va_runV (As := [.int (kI ((ln : Nat) : Int)), .int (kI (((ln_lb (st_ln S ln)).toNat : Nat) : Int))]) (rest := []) ⟨hx, hb, hml, hown, hts⟩ (m_X3_at l D H_4 a ([.ref ra, .ref sa, .int (kI ((sn : Nat) : Int)), .ref ka, .int (kI (kb (ik))), .ref ta, .int (kI ((tn : Nat) : Int)), .int (kI (0)), .int (kI (sp)), .int (kI (kb (iw))), .int (kI (le)), .int (kI (fi)), .int (kI (se))]) ra g S gap ln ((ln_lb (st_ln S ln)).toNat) ho_8 rfl h_10 (by first | assumption | omega) (by first | assumption | omega) (by first | assumption | omega) (by first | assumption | omega)) (cwV 2 hts (lw_V q2330 q2332 qs45 q89 q2333) rfl rfl rfl (by decide +kernel) ⟨Nat.le_of_ble_eq_true rfl, Nat.le_of_ble_eq_true rfl⟩) (kx_pv hK hS_21 hB (kx_rc hK ho_8 (C := RX3) (T := TX3) (N := 13) rfl)) rfl rfl hl.1 rfl (lv_room (Nat.le_of_ble_eq_true rfl)) dX3_readFrom_48 ⟨by first | exact Nat.le_of_ble_eq_true rfl | omega | (show _ ≤ _; omega) | (dsimp only [headSpec]; omega), by first | exact Nat.le_of_ble_eq_true rfl | omega | (show _ ≤ _; omega) | (dsimp only [headSpec]; omega)⟩) hS_21 (fun z_27 locs_24 hz_26 hS_25 => ?_)
        subst z_27
        exact kx_iret (z := ln_pos (st_ln S ln) ((ln_lb (st_ln S ln)).toNat)) hx hb hr hlk (⟨by first | (rw [if_pos (by assumption)]; done) | (rw [if_neg (by assumption), if_pos (by assumption)]; done) | (rw [if_neg (by assumption), if_neg (by simp [*])]; done), ho_8⟩) hS_25 dX3_readFrom_51
      · -- not taken at 29
        refine lv_aload_n hx hb dX3_readFrom_32 rfl (lv_at hl 0 rfl) ?_
        refine lv_iload_n hx hb dX3_readFrom_33 rfl (lv_at hl 1 rfl) ?_
        refine kx_ci0 (va_runV (As := [.int (kI ((ln : Nat) : Int))]) (rest := []) ⟨hx, hb, hml, hown, hts⟩ (m_X3_labelEnd l D H_4 a ([.ref ra, .ref sa, .int (kI ((sn : Nat) : Int)), .ref ka, .int (kI (kb (ik))), .ref ta, .int (kI ((tn : Nat) : Int)), .int (kI (0)), .int (kI (sp)), .int (kI (kb (iw))), .int (kI (le)), .int (kI (fi)), .int (kI (se))]) ra g S gap ln ho_8 rfl h_10 (by first | assumption | omega) (by first | assumption | omega) (by first | assumption | omega) (by first | assumption | omega)) (cwV 1 hts (lw_V q2524 q2526 qs69 q89 q2527) rfl rfl rfl (by decide +kernel) ⟨Nat.le_of_ble_eq_true rfl, Nat.le_of_ble_eq_true rfl⟩) (kx_pv hK hS_16 hB (kx_rc hK ho_8 (C := RX3) (T := TX3) (N := 13) rfl)) rfl rfl hl.1 rfl (lv_room (Nat.le_of_ble_eq_true rfl)) dX3_readFrom_34 ⟨by first | exact Nat.le_of_ble_eq_true rfl | omega | (show _ ≤ _; omega) | (dsimp only [headSpec]; omega), by first | exact Nat.le_of_ble_eq_true rfl | omega | (show _ ≤ _; omega) | (dsimp only [headSpec]; omega)⟩) hS_16 (fun z_31 locs_28 hz_30 hS_29 => ?_)
        subst z_31
        refine lv_goto (tgt := 51) hx hb dX3_readFrom_37 (by decide) ?_
        exact kx_iret (z := ln_pos (st_ln S ln) ((ln_lb (st_ln S ln)).toNat + ln_size (st_ln S ln) - 1)) hx hb hr hlk (⟨by first | (rw [if_pos (by assumption)]; done) | (rw [if_neg (by assumption), if_pos (by assumption)]; done) | (rw [if_neg (by assumption), if_neg (by simp [*])]; done), ho_8⟩) hS_29 dX3_readFrom_51
    · -- not taken at 17
      refine kx_iconst hx hb dX3_readFrom_20 ?_
      refine lv_goto (tgt := 51) hx hb dX3_readFrom_21 (by decide) ?_
      exact kx_iret (z := (-1)) hx hb hr hlk (⟨by first | (rw [if_pos (by assumption)]; done) | (rw [if_neg (by assumption), if_pos (by assumption)]; done) | (rw [if_neg (by assumption), if_neg (by simp [*])]; done), ho_8⟩) hS_12 dX3_readFrom_51
  · -- not taken at 5
    exact absurd c_5_9 (by decide)

set_option maxHeartbeats 4000000 in
set_option maxRecDepth 100000 in
theorem m_X3_readFrom_no (l : Launch) (D : kG) (H : Heap) (a : Nat) (ra : Nat) (sa : Nat) (ka : Nat) (ta : Nat) (sn : Nat) (ik : Bool) (tn : Nat) (th : Int) (sp : Int) (iw : Bool) (le : Int) (fi : Int) (se : Int) (g : Nat → Int) (S : Ls) (gap : Int) (x : Int) (hO_a : kO D H a 2 [.ref ra, .ref sa, .int (kI ((sn : Nat) : Int)), .ref ka, .int (kI (kb (ik))), .ref ta, .int (kI ((tn : Nat) : Int)), .int (kI (th)), .int (kI (sp)), .int (kI (kb (iw))), .int (kI (le)), .int (kI (fi)), .int (kI (se))]) (hA_ra : kAi D H ra 514 g) (hM : MRow g S gap) (hok : LsOK S gap) (ne_a_ra : a ≠ ra) (bs_a : kBase D ≤ a) (hr_x : -2147483648 ≤ x ∧ x ≤ 2147483647) (hno : ¬ (0 ≤ x ∧ x < S.length)) : Met l yX3_readFrom (ws_ yX3_readFrom cX3_readFrom 2 (some .int)) ({ frames := 3, cells := 0, slots := 0, locals := 64 } : Room) (kPre D H [.ref a, .int (kI (x))]) (kQi (fun (r : Int) H' => (r = 0) ∧ (kO D H' a 2 [.ref ra, .ref sa, .int (kI ((sn : Nat) : Int)), .ref ka, .int (kI (kb (ik))), .ref ta, .int (kI ((tn : Nat) : Int)), .int (kI (1)), .int (kI (sp)), .int (kI (kb (iw))), .int (kI (le)), .int (kI (fi)), .int (kI (se))])) (fun q : Nat => q = a)) (0) (0) ((fun q : Nat => q = a)) := by
  refine Met.ofW (cc := cX3_readFrom) (maxL := 2) (ret := (some .int)) (by decide) rfl ?_
  intro p e s m args below meth c s₁ B hml hv
  obtain ⟨rfl, hH, hK⟩ := hv
  subst hH
  have hx := B.exec
  have hb := B.bytes
  have hr := B.returns
  have hts := atoms_spec (ws := ws_ yX3_readFrom cX3_readFrom 2 (some .int)) B.pre
  have hts : ∀ w ∈ lw_all, w.before _ s = true := fun w h => hts w (List.mem_cons_of_mem _ h)
  have hown : s.vm.findClass RX3 = some m.cls := findClass_of_methodNamed B.named
  have hlk := B.notSynchronized
  have hS : va_S (fun q : Nat => q = a) s.heap s.heap [] := va_S.rf
  have hB : ∀ q, (fun q : Nat => q = a) q → kBase D ≤ q := fun q h => by (try dsimp only at h); (try simp only [kNW] at h); have hks := hK.size; omega
  have hl := lv_entry ([.ref a, .int (kI (x))]) (n := 2) (Nat.le_of_ble_eq_true rfl)
  rw [lg_entry_eq]
  generalize (lg_sl ([.ref a, .int (kI (x))]) ++ List.replicate (2 - (lg_sl ([.ref a, .int (kI (x))])).length) Slot.unset).toArray = ls at hl ⊢
  have hl : lv_has ls 2 [(0, .ref a), (1, .int (kI (x)))] := hl
  have hL8 := hok.1
  have hlen := hM.len
  refine lv_aload_n hx hb dX3_readFrom_0 rfl (lv_at hl 0 rfl) ?_
  refine lv_iload_n hx hb dX3_readFrom_1 rfl (lv_at hl 1 rfl) ?_
  refine kx_cb (va_runV (As := [.int (kI (x))]) (rest := []) ⟨hx, hb, hml, hown, hts⟩ (m_X3_knows_no l D s.heap a ra sa ka ta sn ik tn th sp iw le fi se g S gap x hO_a hA_ra (by first | assumption | omega) (by first | assumption | omega) (by first | assumption | omega) (by first | assumption | omega) (by first | assumption | omega) (by first | assumption | omega)) (cwV 1 hts (lw_V q2479 q2481 qs66 q89 q2482) rfl rfl rfl (by decide +kernel) ⟨Nat.le_of_ble_eq_true rfl, Nat.le_of_ble_eq_true rfl⟩) (kx_pv hK hS hB (kx_rc hK hO_a (C := RX3) (T := TX3) (N := 13) rfl)) rfl rfl hl.1 rfl (lv_room (Nat.le_of_ble_eq_true rfl)) dX3_readFrom_2 ⟨by first | exact Nat.le_of_ble_eq_true rfl | omega | (show _ ≤ _; omega) | (dsimp only [headSpec]; omega), by first | exact Nat.le_of_ble_eq_true rfl | omega | (show _ ≤ _; omega) | (dsimp only [headSpec]; omega)⟩) hS (fun q _ h => by (try dsimp only at h); (try dsimp only); (try simp only [kNW] at h); (try simp only [kNW]); omega) (fun q h => by (try dsimp only at h); (try dsimp only); (try simp only [kNW] at h); (try simp only [kNW]); omega) (fun z_6 H_4 locs_1 hz_3 hF_5 hS_2 => ?_)
  refine W.widen (k := 0) (n := 0) (Nat.le_of_ble_eq_true rfl) (Nat.le_of_ble_eq_true rfl) ?_
  obtain ⟨hv_7, ho_8⟩ := hz_3
  subst z_6
  refine kx_ifnz (tgt := 10) hx hb dX3_readFrom_5 (by decide) (fun c_5_9 => ?_) (fun c_5_9 => ?_)
  · -- taken at 5
    exact absurd c_5_9 (by decide)
  · -- not taken at 5
    refine kx_iconst hx hb dX3_readFrom_8 ?_
    exact kx_iret (z := 0) hx hb hr hlk (⟨by rfl, ho_8⟩) hS_2 dX3_readFrom_9

set_option maxHeartbeats 4000000 in
set_option maxRecDepth 100000 in
theorem m_X3_placesOf (l : Launch) (D : kG) (H : Heap) (a : Nat) (ra : Nat) (sa : Nat) (ka : Nat) (ta : Nat) (sn : Nat) (ik : Bool) (tn : Nat) (th : Int) (sp : Int) (iw : Bool) (le : Int) (fi : Int) (se : Int) (g : Nat → Int) (S : Ls) (gap : Int) (ln : Nat) (hO_a : kO D H a 2 [.ref ra, .ref sa, .int (kI ((sn : Nat) : Int)), .ref ka, .int (kI (kb (ik))), .ref ta, .int (kI ((tn : Nat) : Int)), .int (kI (th)), .int (kI (sp)), .int (kI (kb (iw))), .int (kI (le)), .int (kI (fi)), .int (kI (se))]) (hA_ra : kAi D H ra 514 g) (hM : MRow g S gap) (hok : LsOK S gap) (ne_a_ra : a ≠ ra) (bs_a : kBase D ≤ a) (hln : ln < S.length) : Met l yX3_placesOf (ws_ yX3_placesOf cX3_placesOf 5 (some .int)) ({ frames := 8, cells := 0, slots := 0, locals := 179 } : Room) (kPre D H [.ref a, .int (kI ((ln : Nat) : Int))]) (kQi (fun (r : Int) H' => (r = st_places S gap ln) ∧ (kO D H' a 2 [.ref ra, .ref sa, .int (kI ((sn : Nat) : Int)), .ref ka, .int (kI (kb (ik))), .ref ta, .int (kI ((tn : Nat) : Int)), .int (kI (0)), .int (kI (sp)), .int (kI (kb (iw))), .int (kI (le)), .int (kI (fi)), .int (kI (se))])) (fun q : Nat => q = a)) (0) (0) ((fun q : Nat => q = a)) := by
  refine Met.ofW (cc := cX3_placesOf) (maxL := 5) (ret := (some .int)) (by decide) rfl ?_
  intro p e s m args below meth c s₁ B hml hv
  obtain ⟨rfl, hH, hK⟩ := hv
  subst hH
  have hx := B.exec
  have hb := B.bytes
  have hr := B.returns
  have hts := atoms_spec (ws := ws_ yX3_placesOf cX3_placesOf 5 (some .int)) B.pre
  have hts : ∀ w ∈ lw_all, w.before _ s = true := fun w h => hts w (List.mem_cons_of_mem _ h)
  have hown : s.vm.findClass RX3 = some m.cls := findClass_of_methodNamed B.named
  have hlk := B.notSynchronized
  have hS : va_S (fun q : Nat => q = a) s.heap s.heap [] := va_S.rf
  have hB : ∀ q, (fun q : Nat => q = a) q → kBase D ≤ q := fun q h => by (try dsimp only at h); (try simp only [kNW] at h); have hks := hK.size; omega
  have hl := lv_entry ([.ref a, .int (kI ((ln : Nat) : Int))]) (n := 5) (Nat.le_of_ble_eq_true rfl)
  rw [lg_entry_eq]
  generalize (lg_sl ([.ref a, .int (kI ((ln : Nat) : Int))]) ++ List.replicate (5 - (lg_sl ([.ref a, .int (kI ((ln : Nat) : Int))])).length) Slot.unset).toArray = ls at hl ⊢
  have hl : lv_has ls 5 [(0, .ref a), (1, .int (kI ((ln : Nat) : Int)))] := hl
  have hL := hok.ln hln
  have hL60 := hL.n
  have hL8 := hok.1
  refine kx_iconst hx hb dX3_placesOf_0 ?_
  refine lv_istore_n (lv' := [(2, .int (kI (0))), (0, .ref a), (1, .int (kI ((ln : Nat) : Int)))]) hx hb dX3_placesOf_1 rfl hl (by decide) rfl (fun ls hl => ?_)
  refine lv_aload_n hx hb dX3_placesOf_2 rfl (lv_at hl 1 rfl) ?_
  refine lv_iload_n hx hb dX3_placesOf_3 rfl (lv_at hl 2 rfl) ?_
  refine kx_cb (va_runV (As := [.int (kI ((ln : Nat) : Int))]) (rest := []) ⟨hx, hb, hml, hown, hts⟩ (m_X3_knows l D s.heap a ra sa ka ta sn ik tn th sp iw le fi se g S gap ln hO_a hA_ra (by first | assumption | omega) (by first | assumption | omega) (by first | assumption | omega) (by first | assumption | omega) (by first | assumption | omega)) (cwV 1 hts (lw_V q2479 q2481 qs66 q89 q2482) rfl rfl rfl (by decide +kernel) ⟨Nat.le_of_ble_eq_true rfl, Nat.le_of_ble_eq_true rfl⟩) (kx_pv hK hS hB (kx_rc hK hO_a (C := RX3) (T := TX3) (N := 13) rfl)) rfl rfl hl.1 rfl (lv_room (Nat.le_of_ble_eq_true rfl)) dX3_placesOf_4 ⟨by first | exact Nat.le_of_ble_eq_true rfl | omega | (show _ ≤ _; omega) | (dsimp only [headSpec]; omega), by first | exact Nat.le_of_ble_eq_true rfl | omega | (show _ ≤ _; omega) | (dsimp only [headSpec]; omega)⟩) hS (fun q _ h => by (try dsimp only at h); (try dsimp only); (try simp only [kNW] at h); (try simp only [kNW]); omega) (fun q h => by (try dsimp only at h); (try dsimp only); (try simp only [kNW] at h); (try simp only [kNW]); omega) (fun z_6 H_4 locs_1 hz_3 hF_5 hS_2 => ?_)
  refine W.widen (k := 0) (n := 0) (Nat.le_of_ble_eq_true rfl) (Nat.le_of_ble_eq_true rfl) ?_
  obtain ⟨hv_7, ho_8⟩ := hz_3
  subst z_6
  refine lv_istore_n (lv' := [(3, .int (kI (kb (true)))), (2, .int (kI (0))), (0, .ref a), (1, .int (kI ((ln : Nat) : Int)))]) hx hb dX3_placesOf_7 rfl hl (by decide) rfl (fun ls hl => ?_)
  refine kx_iconst hx hb dX3_placesOf_8 ?_
  refine lv_istore (lv' := [(4, .int (kI (0))), (3, .int (kI (kb (true)))), (2, .int (kI (0))), (0, .ref a), (1, .int (kI ((ln : Nat) : Int)))]) hx hb dX3_placesOf_9 hl (by decide) rfl (fun ls hl => ?_)
  have lp_11_x_9 : ∀ (n_11 : Nat) (k : Nat) (sm : Int) (H : Heap) (hO_a : kO D H a 2 [.ref ra, .ref sa, .int (kI ((sn : Nat) : Int)), .ref ka, .int (kI (kb (ik))), .ref ta, .int (kI ((tn : Nat) : Int)), .int (kI (0)), .int (kI (sp)), .int (kI (kb (iw))), .int (kI (le)), .int (kI (fi)), .int (kI (se))]) (hA_ra : kAi D H ra 514 g) (hk : k ≤ ln_n (st_ln S ln) + 1) (hsm : sm = st_placesTo S gap ln k) (locs : List Loc) (hS : va_S (fun q : Nat => q = a) s.heap H locs) (hm_11 : ln_n (st_ln S ln) + 1 - k < n_11) (ls : Array Slot), lv_has ls 5 [(0, .ref a), (1, .int (kI ((ln : Nat) : Int))), (2, .int (kI (sm))), (3, .int (kI (kb (true)))), (4, .int (kI ((k : Nat) : Int)))] → W p l e (headSpec (ws_ yX3_placesOf cX3_placesOf 5 (some .int)) ({ frames := 8, cells := 0, slots := 0, locals := 179 } : Room)).room s m ([.ref a, .int (kI ((ln : Nat) : Int))] : List Value).toArray below meth c H locs (0) (0) (MQ below (kQi (fun (r : Int) H' => (r = st_places S gap ln) ∧ (kO D H' a 2 [.ref ra, .ref sa, .int (kI ((sn : Nat) : Int)), .ref ka, .int (kI (kb (ik))), .ref ta, .int (kI ((tn : Nat) : Int)), .int (kI (0)), .int (kI (sp)), .int (kI (kb (iw))), .int (kI (le)), .int (kI (fi)), .int (kI (se))])) (fun q : Nat => q = a)) ([.ref a, .int (kI ((ln : Nat) : Int))] : List Value).toArray s (0) (0) ((fun q : Nat => q = a))) (F0 m 11 ls []) := by
    intro n_11
    induction n_11 with
    | zero => intro k sm H hO_a hA_ra hk hsm locs hS hm_11; exact absurd hm_11 (Nat.not_lt_zero _)
    | succ n_11 ih_11 =>
      intro k sm H hO_a hA_ra hk hsm locs hS hm_11 ls hl
      refine lv_iload hx hb dX3_placesOf_11 (lv_at hl 4 rfl) ?_
      refine lv_iload_n hx hb dX3_placesOf_13 rfl (lv_at hl 3 rfl) ?_
      refine kx_ifz (tgt := 26) hx hb dX3_placesOf_14 (by decide) (fun c_14_10 => ?_) (fun c_14_10 => ?_)
      · -- taken at 14
        exact absurd c_14_10 (by decide)
      · -- not taken at 14
        refine lv_aload_n hx hb dX3_placesOf_17 rfl (lv_at hl 0 rfl) ?_
        refine lv_iload_n hx hb dX3_placesOf_18 rfl (lv_at hl 1 rfl) ?_
        refine kx_iconst hx hb dX3_placesOf_19 ?_
        refine kx_ci0 (va_runV (As := [.int (kI ((ln : Nat) : Int)), .int (kI (2))]) (rest := [.int (kI ((k : Nat) : Int))]) ⟨hx, hb, hml, hown, hts⟩ (of_n l D H a ([.ref ra, .ref sa, .int (kI ((sn : Nat) : Int)), .ref ka, .int (kI (kb (ik))), .ref ta, .int (kI ((tn : Nat) : Int)), .int (kI (0)), .int (kI (sp)), .int (kI (kb (iw))), .int (kI (le)), .int (kI (fi)), .int (kI (se))]) ra g S gap ln hO_a rfl hA_ra (by first | assumption | omega) (by first | assumption | omega) (by first | assumption | omega)) (cwV 2 hts (lw_V q2304 q2306 qs40 q89 q2307) rfl rfl rfl (by decide +kernel) ⟨Nat.le_of_ble_eq_true rfl, Nat.le_of_ble_eq_true rfl⟩) (kx_pv hK hS hB (kx_rc hK hO_a (C := RX3) (T := TX3) (N := 13) rfl)) rfl rfl hl.1 rfl (lv_room (Nat.le_of_ble_eq_true rfl)) dX3_placesOf_20 ⟨by first | exact Nat.le_of_ble_eq_true rfl | omega | (show _ ≤ _; omega) | (dsimp only [headSpec]; omega), by first | exact Nat.le_of_ble_eq_true rfl | omega | (show _ ≤ _; omega) | (dsimp only [headSpec]; omega)⟩) hS (fun z_14 locs_11 hz_13 hS_12 => ?_)
        subst z_14
        refine lv_goto (tgt := 27) hx hb dX3_placesOf_23 (by decide) ?_
        refine kx_icmp_gt (x := ((k : Nat) : Int)) (y := ((ln_n (st_ln S ln) : Nat) : Int)) (tgt := 54) hx hb dX3_placesOf_27 (by decide) (by omega) (by omega) (by omega) (by omega) (fun c_27_15 => ?_) (fun c_27_15 => ?_)
        · -- taken at 27
          refine lv_iload_n hx hb dX3_placesOf_54 rfl (lv_at hl 2 rfl) ?_
          exact kx_iret (z := sm) hx hb hr hlk (⟨by rw [hsm, st_places, show k = ln_n (st_ln S ln) + 1 by omega], hO_a⟩) hS_12 dX3_placesOf_55
        · -- not taken at 27
          refine lv_iload_n hx hb dX3_placesOf_30 rfl (lv_at hl 2 rfl) ?_
          refine lv_aload_n hx hb dX3_placesOf_31 rfl (lv_at hl 0 rfl) ?_
          refine lv_iload_n hx hb dX3_placesOf_32 rfl (lv_at hl 1 rfl) ?_
          refine lv_iload hx hb dX3_placesOf_33 (lv_at hl 4 rfl) ?_
          refine kx_ci0 (va_runV (As := [.int (kI ((ln : Nat) : Int)), .int (kI ((k : Nat) : Int))]) (rest := [.int (kI (sm))]) ⟨hx, hb, hml, hown, hts⟩ (m_X3_whyNoLabel l D H a ([.ref ra, .ref sa, .int (kI ((sn : Nat) : Int)), .ref ka, .int (kI (kb (ik))), .ref ta, .int (kI ((tn : Nat) : Int)), .int (kI (0)), .int (kI (sp)), .int (kI (kb (iw))), .int (kI (le)), .int (kI (fi)), .int (kI (se))]) ra g S gap ln k hO_a rfl hA_ra (by first | assumption | omega) (by first | assumption | omega) (by first | assumption | omega) (by first | assumption | omega)) (cwV 2 hts (lw_V q2341 q2343 qs47 q89 q2344) rfl rfl rfl (by decide +kernel) ⟨Nat.le_of_ble_eq_true rfl, Nat.le_of_ble_eq_true rfl⟩) (kx_pv hK hS_12 hB (kx_rc hK hO_a (C := RX3) (T := TX3) (N := 13) rfl)) rfl rfl hl.1 rfl (lv_room (Nat.le_of_ble_eq_true rfl)) dX3_placesOf_35 ⟨by first | exact Nat.le_of_ble_eq_true rfl | omega | (show _ ≤ _; omega) | (dsimp only [headSpec]; omega), by first | exact Nat.le_of_ble_eq_true rfl | omega | (show _ ≤ _; omega) | (dsimp only [headSpec]; omega)⟩) hS_12 (fun z_19 locs_16 hz_18 hS_17 => ?_)
          subst z_19
          refine kx_if_ne (x := st_whyL S gap ln k) (tgt := 45) hx hb dX3_placesOf_38 (by decide) (by have := st_whyL_rng S gap ln k; omega) (by have := st_whyL_rng S gap ln k; omega) (fun c_38_20 => ?_) (fun c_38_20 => ?_)
          · -- taken at 38
            refine kx_iconst hx hb dX3_placesOf_45 ?_
            refine kx_iadd hx hb dX3_placesOf_46 ?_
            refine lv_istore_n (lv' := [(2, .int (kI ((sm + 0)))), (0, .ref a), (1, .int (kI ((ln : Nat) : Int))), (3, .int (kI (kb (true)))), (4, .int (kI ((k : Nat) : Int)))]) hx hb dX3_placesOf_47 rfl hl (by decide) rfl (fun ls hl => ?_)
            refine lv_iinc (v := kI (((k + 1 : Nat) : Int))) (lv' := [(4, .int (kI ((k + 1 : Nat) : Int))), (2, .int (kI ((sm + 0)))), (0, .ref a), (1, .int (kI ((ln : Nat) : Int))), (3, .int (kI (kb (true))))]) hx hb dX3_placesOf_48 hl (k := 4) rfl (kI_incN _ _) (by decide) rfl (fun ls hl => ?_)
            refine lv_goto (tgt := 11) hx hb dX3_placesOf_51 (by decide) ?_
            exact ih_11  (k + 1) ((sm + 0)) H hO_a hA_ra (by first | assumption | omega | (simp_all; done) | grind) (by rw [st_placesTo, ← hsm]; first | (rw [if_pos (by assumption)]; done) | (rw [if_neg (by assumption)]; done)) _ hS_17 (by omega) ls (lv_sub hl [2, 3, 1, 4, 0] rfl)
          · -- not taken at 38
            refine kx_iconst hx hb dX3_placesOf_41 ?_
            refine lv_goto (tgt := 46) hx hb dX3_placesOf_42 (by decide) ?_
            refine kx_iadd hx hb dX3_placesOf_46 ?_
            refine lv_istore_n (lv' := [(2, .int (kI ((sm + 1)))), (0, .ref a), (1, .int (kI ((ln : Nat) : Int))), (3, .int (kI (kb (true)))), (4, .int (kI ((k : Nat) : Int)))]) hx hb dX3_placesOf_47 rfl hl (by decide) rfl (fun ls hl => ?_)
            refine lv_iinc (v := kI (((k + 1 : Nat) : Int))) (lv' := [(4, .int (kI ((k + 1 : Nat) : Int))), (2, .int (kI ((sm + 1)))), (0, .ref a), (1, .int (kI ((ln : Nat) : Int))), (3, .int (kI (kb (true))))]) hx hb dX3_placesOf_48 hl (k := 4) rfl (kI_incN _ _) (by decide) rfl (fun ls hl => ?_)
            refine lv_goto (tgt := 11) hx hb dX3_placesOf_51 (by decide) ?_
            exact ih_11  (k + 1) ((sm + 1)) H hO_a hA_ra (by first | assumption | omega | (simp_all; done) | grind) (by rw [st_placesTo, ← hsm]; first | (rw [if_pos (by assumption)]; done) | (rw [if_neg (by assumption)]; done)) _ hS_17 (by omega) ls (lv_sub hl [2, 3, 1, 4, 0] rfl)
  have h_21 := hA_ra.fr hF_5 (fun h => by (try dsimp only at h); (try simp only [kNW] at h); omega)
  exact lp_11_x_9 (ln_n (st_ln S ln) + 1 - 0 + 1) 0 0 H_4 ho_8 h_21 (by first | assumption | omega | (simp_all; done) | grind) (rfl) _ hS_2 (Nat.lt_succ_self _) ls (lv_sub hl [3, 4, 2, 1, 0] rfl)

set_option maxHeartbeats 4000000 in
set_option maxRecDepth 100000 in
theorem m_X3_placesOf_no (l : Launch) (D : kG) (H : Heap) (a : Nat) (ra : Nat) (sa : Nat) (ka : Nat) (ta : Nat) (sn : Nat) (ik : Bool) (tn : Nat) (th : Int) (sp : Int) (iw : Bool) (le : Int) (fi : Int) (se : Int) (g : Nat → Int) (S : Ls) (gap : Int) (x : Int) (hO_a : kO D H a 2 [.ref ra, .ref sa, .int (kI ((sn : Nat) : Int)), .ref ka, .int (kI (kb (ik))), .ref ta, .int (kI ((tn : Nat) : Int)), .int (kI (th)), .int (kI (sp)), .int (kI (kb (iw))), .int (kI (le)), .int (kI (fi)), .int (kI (se))]) (hA_ra : kAi D H ra 514 g) (hM : MRow g S gap) (hok : LsOK S gap) (ne_a_ra : a ≠ ra) (bs_a : kBase D ≤ a) (hr_x : -2147483648 ≤ x ∧ x ≤ 2147483647) (hno : ¬ (0 ≤ x ∧ x < S.length)) : Met l yX3_placesOf (ws_ yX3_placesOf cX3_placesOf 5 (some .int)) ({ frames := 3, cells := 0, slots := 0, locals := 64 } : Room) (kPre D H [.ref a, .int (kI (x))]) (kQi (fun (r : Int) H' => (r = 0) ∧ (kO D H' a 2 [.ref ra, .ref sa, .int (kI ((sn : Nat) : Int)), .ref ka, .int (kI (kb (ik))), .ref ta, .int (kI ((tn : Nat) : Int)), .int (kI (1)), .int (kI (sp)), .int (kI (kb (iw))), .int (kI (le)), .int (kI (fi)), .int (kI (se))])) (fun q : Nat => q = a)) (0) (0) ((fun q : Nat => q = a)) := by
  refine Met.ofW (cc := cX3_placesOf) (maxL := 5) (ret := (some .int)) (by decide) rfl ?_
  intro p e s m args below meth c s₁ B hml hv
  obtain ⟨rfl, hH, hK⟩ := hv
  subst hH
  have hx := B.exec
  have hb := B.bytes
  have hr := B.returns
  have hts := atoms_spec (ws := ws_ yX3_placesOf cX3_placesOf 5 (some .int)) B.pre
  have hts : ∀ w ∈ lw_all, w.before _ s = true := fun w h => hts w (List.mem_cons_of_mem _ h)
  have hown : s.vm.findClass RX3 = some m.cls := findClass_of_methodNamed B.named
  have hlk := B.notSynchronized
  have hS : va_S (fun q : Nat => q = a) s.heap s.heap [] := va_S.rf
  have hB : ∀ q, (fun q : Nat => q = a) q → kBase D ≤ q := fun q h => by (try dsimp only at h); (try simp only [kNW] at h); have hks := hK.size; omega
  have hl := lv_entry ([.ref a, .int (kI (x))]) (n := 5) (Nat.le_of_ble_eq_true rfl)
  rw [lg_entry_eq]
  generalize (lg_sl ([.ref a, .int (kI (x))]) ++ List.replicate (5 - (lg_sl ([.ref a, .int (kI (x))])).length) Slot.unset).toArray = ls at hl ⊢
  have hl : lv_has ls 5 [(0, .ref a), (1, .int (kI (x)))] := hl
  have hL8 := hok.1
  have hlen := hM.len
  refine kx_iconst hx hb dX3_placesOf_0 ?_
  refine lv_istore_n (lv' := [(2, .int (kI (0))), (0, .ref a), (1, .int (kI (x)))]) hx hb dX3_placesOf_1 rfl hl (by decide) rfl (fun ls hl => ?_)
  refine lv_aload_n hx hb dX3_placesOf_2 rfl (lv_at hl 1 rfl) ?_
  refine lv_iload_n hx hb dX3_placesOf_3 rfl (lv_at hl 2 rfl) ?_
  refine kx_cb (va_runV (As := [.int (kI (x))]) (rest := []) ⟨hx, hb, hml, hown, hts⟩ (m_X3_knows_no l D s.heap a ra sa ka ta sn ik tn th sp iw le fi se g S gap x hO_a hA_ra (by first | assumption | omega) (by first | assumption | omega) (by first | assumption | omega) (by first | assumption | omega) (by first | assumption | omega) (by first | assumption | omega)) (cwV 1 hts (lw_V q2479 q2481 qs66 q89 q2482) rfl rfl rfl (by decide +kernel) ⟨Nat.le_of_ble_eq_true rfl, Nat.le_of_ble_eq_true rfl⟩) (kx_pv hK hS hB (kx_rc hK hO_a (C := RX3) (T := TX3) (N := 13) rfl)) rfl rfl hl.1 rfl (lv_room (Nat.le_of_ble_eq_true rfl)) dX3_placesOf_4 ⟨by first | exact Nat.le_of_ble_eq_true rfl | omega | (show _ ≤ _; omega) | (dsimp only [headSpec]; omega), by first | exact Nat.le_of_ble_eq_true rfl | omega | (show _ ≤ _; omega) | (dsimp only [headSpec]; omega)⟩) hS (fun q _ h => by (try dsimp only at h); (try dsimp only); (try simp only [kNW] at h); (try simp only [kNW]); omega) (fun q h => by (try dsimp only at h); (try dsimp only); (try simp only [kNW] at h); (try simp only [kNW]); omega) (fun z_6 H_4 locs_1 hz_3 hF_5 hS_2 => ?_)
  refine W.widen (k := 0) (n := 0) (Nat.le_of_ble_eq_true rfl) (Nat.le_of_ble_eq_true rfl) ?_
  obtain ⟨hv_7, ho_8⟩ := hz_3
  subst z_6
  refine lv_istore_n (lv' := [(3, .int (kI (kb (false)))), (2, .int (kI (0))), (0, .ref a), (1, .int (kI (x)))]) hx hb dX3_placesOf_7 rfl hl (by decide) rfl (fun ls hl => ?_)
  refine kx_iconst hx hb dX3_placesOf_8 ?_
  refine lv_istore (lv' := [(4, .int (kI (0))), (3, .int (kI (kb (false)))), (2, .int (kI (0))), (0, .ref a), (1, .int (kI (x)))]) hx hb dX3_placesOf_9 hl (by decide) rfl (fun ls hl => ?_)
  refine lv_iload hx hb dX3_placesOf_11 (lv_at hl 0 rfl) ?_
  refine lv_iload_n hx hb dX3_placesOf_13 rfl (lv_at hl 1 rfl) ?_
  refine kx_ifz (tgt := 26) hx hb dX3_placesOf_14 (by decide) (fun c_14_9 => ?_) (fun c_14_9 => ?_)
  · -- taken at 14
    refine kx_iconst hx hb dX3_placesOf_26 ?_
    refine kx_icmp_gt (x := 0) (y := (-1)) (tgt := 54) hx hb dX3_placesOf_27 (by decide) (by omega) (by omega) (by omega) (by omega) (fun c_27_10 => ?_) (fun c_27_10 => ?_)
    · -- taken at 27
      refine lv_iload_n hx hb dX3_placesOf_54 rfl (lv_at hl 2 rfl) ?_
      exact kx_iret (z := 0) hx hb hr hlk (⟨by rfl, ho_8⟩) hS_2 dX3_placesOf_55
    · -- not taken at 27
      exfalso; omega
  · -- not taken at 14
    exact absurd c_14_9 (by decide)

set_option maxHeartbeats 4000000 in
set_option maxRecDepth 100000 in
theorem m_X3_pointsWithin (l : Launch) (D : kG) (H : Heap) (a : Nat) (ra : Nat) (sa : Nat) (ka : Nat) (ta : Nat) (sn : Nat) (ik : Bool) (tn : Nat) (th : Int) (sp : Int) (iw : Bool) (le : Int) (fi : Int) (se : Int) (g : Nat → Int) (S : Ls) (gap : Int) (ln : Nat) (hO_a : kO D H a 2 [.ref ra, .ref sa, .int (kI ((sn : Nat) : Int)), .ref ka, .int (kI (kb (ik))), .ref ta, .int (kI ((tn : Nat) : Int)), .int (kI (th)), .int (kI (sp)), .int (kI (kb (iw))), .int (kI (le)), .int (kI (fi)), .int (kI (se))]) (hA_ra : kAi D H ra 514 g) (hM : MRow g S gap) (hok : LsOK S gap) (ne_a_ra : a ≠ ra) (bs_a : kBase D ≤ a) (hln : ln < S.length) : Met l yX3_pointsWithin (ws_ yX3_pointsWithin cX3_pointsWithin 5 (some .int)) ({ frames := 6, cells := 0, slots := 0, locals := 136 } : Room) (kPre D H [.ref a, .int (kI ((ln : Nat) : Int))]) (kQi (fun (r : Int) H' => (r = st_ptsTo S ln 384) ∧ (kO D H' a 2 [.ref ra, .ref sa, .int (kI ((sn : Nat) : Int)), .ref ka, .int (kI (kb (ik))), .ref ta, .int (kI ((tn : Nat) : Int)), .int (kI (0)), .int (kI (sp)), .int (kI (kb (iw))), .int (kI (le)), .int (kI (fi)), .int (kI (se))])) (fun q : Nat => q = a)) (0) (0) ((fun q : Nat => q = a)) := by
  refine Met.ofW (cc := cX3_pointsWithin) (maxL := 5) (ret := (some .int)) (by decide) rfl ?_
  intro p e s m args below meth c s₁ B hml hv
  obtain ⟨rfl, hH, hK⟩ := hv
  subst hH
  have hx := B.exec
  have hb := B.bytes
  have hr := B.returns
  have hts := atoms_spec (ws := ws_ yX3_pointsWithin cX3_pointsWithin 5 (some .int)) B.pre
  have hts : ∀ w ∈ lw_all, w.before _ s = true := fun w h => hts w (List.mem_cons_of_mem _ h)
  have hown : s.vm.findClass RX3 = some m.cls := findClass_of_methodNamed B.named
  have hlk := B.notSynchronized
  have hS : va_S (fun q : Nat => q = a) s.heap s.heap [] := va_S.rf
  have hB : ∀ q, (fun q : Nat => q = a) q → kBase D ≤ q := fun q h => by (try dsimp only at h); (try simp only [kNW] at h); have hks := hK.size; omega
  have hl := lv_entry ([.ref a, .int (kI ((ln : Nat) : Int))]) (n := 5) (Nat.le_of_ble_eq_true rfl)
  rw [lg_entry_eq]
  generalize (lg_sl ([.ref a, .int (kI ((ln : Nat) : Int))]) ++ List.replicate (5 - (lg_sl ([.ref a, .int (kI ((ln : Nat) : Int))])).length) Slot.unset).toArray = ls at hl ⊢
  have hl : lv_has ls 5 [(0, .ref a), (1, .int (kI ((ln : Nat) : Int)))] := hl
  have hL := hok.ln hln
  have hL60 := hL.n
  have hL8 := hok.1
  refine kx_iconst hx hb dX3_pointsWithin_0 ?_
  refine lv_istore_n (lv' := [(2, .int (kI (0))), (0, .ref a), (1, .int (kI ((ln : Nat) : Int)))]) hx hb dX3_pointsWithin_1 rfl hl (by decide) rfl (fun ls hl => ?_)
  refine lv_aload_n hx hb dX3_pointsWithin_2 rfl (lv_at hl 1 rfl) ?_
  refine lv_iload_n hx hb dX3_pointsWithin_3 rfl (lv_at hl 2 rfl) ?_
  refine kx_cb (va_runV (As := [.int (kI ((ln : Nat) : Int))]) (rest := []) ⟨hx, hb, hml, hown, hts⟩ (m_X3_knows l D s.heap a ra sa ka ta sn ik tn th sp iw le fi se g S gap ln hO_a hA_ra (by first | assumption | omega) (by first | assumption | omega) (by first | assumption | omega) (by first | assumption | omega) (by first | assumption | omega)) (cwV 1 hts (lw_V q2479 q2481 qs66 q89 q2482) rfl rfl rfl (by decide +kernel) ⟨Nat.le_of_ble_eq_true rfl, Nat.le_of_ble_eq_true rfl⟩) (kx_pv hK hS hB (kx_rc hK hO_a (C := RX3) (T := TX3) (N := 13) rfl)) rfl rfl hl.1 rfl (lv_room (Nat.le_of_ble_eq_true rfl)) dX3_pointsWithin_4 ⟨by first | exact Nat.le_of_ble_eq_true rfl | omega | (show _ ≤ _; omega) | (dsimp only [headSpec]; omega), by first | exact Nat.le_of_ble_eq_true rfl | omega | (show _ ≤ _; omega) | (dsimp only [headSpec]; omega)⟩) hS (fun q _ h => by (try dsimp only at h); (try dsimp only); (try simp only [kNW] at h); (try simp only [kNW]); omega) (fun q h => by (try dsimp only at h); (try dsimp only); (try simp only [kNW] at h); (try simp only [kNW]); omega) (fun z_6 H_4 locs_1 hz_3 hF_5 hS_2 => ?_)
  refine W.widen (k := 0) (n := 0) (Nat.le_of_ble_eq_true rfl) (Nat.le_of_ble_eq_true rfl) ?_
  obtain ⟨hv_7, ho_8⟩ := hz_3
  subst z_6
  refine lv_istore_n (lv' := [(3, .int (kI (kb (true)))), (2, .int (kI (0))), (0, .ref a), (1, .int (kI ((ln : Nat) : Int)))]) hx hb dX3_pointsWithin_7 rfl hl (by decide) rfl (fun ls hl => ?_)
  refine kx_iconst hx hb dX3_pointsWithin_8 ?_
  refine lv_istore (lv' := [(4, .int (kI (0))), (3, .int (kI (kb (true)))), (2, .int (kI (0))), (0, .ref a), (1, .int (kI ((ln : Nat) : Int)))]) hx hb dX3_pointsWithin_9 hl (by decide) rfl (fun ls hl => ?_)
  have lp_11_x_9 : ∀ (n_11 : Nat) (k : Nat) (sm : Int) (H : Heap) (hO_a : kO D H a 2 [.ref ra, .ref sa, .int (kI ((sn : Nat) : Int)), .ref ka, .int (kI (kb (ik))), .ref ta, .int (kI ((tn : Nat) : Int)), .int (kI (0)), .int (kI (sp)), .int (kI (kb (iw))), .int (kI (le)), .int (kI (fi)), .int (kI (se))]) (hA_ra : kAi D H ra 514 g) (hk : k ≤ 384) (hsm : sm = st_ptsTo S ln k) (locs : List Loc) (hS : va_S (fun q : Nat => q = a) s.heap H locs) (hm_11 : 384 - k < n_11) (ls : Array Slot), lv_has ls 5 [(0, .ref a), (1, .int (kI ((ln : Nat) : Int))), (2, .int (kI (sm))), (3, .int (kI (kb (true)))), (4, .int (kI ((k : Nat) : Int)))] → W p l e (headSpec (ws_ yX3_pointsWithin cX3_pointsWithin 5 (some .int)) ({ frames := 6, cells := 0, slots := 0, locals := 136 } : Room)).room s m ([.ref a, .int (kI ((ln : Nat) : Int))] : List Value).toArray below meth c H locs (0) (0) (MQ below (kQi (fun (r : Int) H' => (r = st_ptsTo S ln 384) ∧ (kO D H' a 2 [.ref ra, .ref sa, .int (kI ((sn : Nat) : Int)), .ref ka, .int (kI (kb (ik))), .ref ta, .int (kI ((tn : Nat) : Int)), .int (kI (0)), .int (kI (sp)), .int (kI (kb (iw))), .int (kI (le)), .int (kI (fi)), .int (kI (se))])) (fun q : Nat => q = a)) ([.ref a, .int (kI ((ln : Nat) : Int))] : List Value).toArray s (0) (0) ((fun q : Nat => q = a))) (F0 m 11 ls []) := by
    intro n_11
    induction n_11 with
    | zero => intro k sm H hO_a hA_ra hk hsm locs hS hm_11; exact absurd hm_11 (Nat.not_lt_zero _)
    | succ n_11 ih_11 =>
      intro k sm H hO_a hA_ra hk hsm locs hS hm_11 ls hl
      refine lv_iload hx hb dX3_pointsWithin_11 (lv_at hl 4 rfl) ?_
      refine kx_sipush hx hb (by decide) dX3_pointsWithin_13 ?_
      refine kx_icmp_ge (x := ((k : Nat) : Int)) (y := 384) (tgt := 47) hx hb dX3_pointsWithin_16 (by decide) (by omega) (by omega) (by omega) (by omega) (fun c_16_10 => ?_) (fun c_16_10 => ?_)
      · -- taken at 16
        refine lv_iload_n hx hb dX3_pointsWithin_47 rfl (lv_at hl 2 rfl) ?_
        exact kx_iret (z := sm) hx hb hr hlk (⟨by rw [hsm, show k = 384 by omega], hO_a⟩) hS dX3_pointsWithin_48
      · -- not taken at 16
        refine lv_iload_n hx hb dX3_pointsWithin_19 rfl (lv_at hl 3 rfl) ?_
        refine kx_ifz (tgt := 47) hx hb dX3_pointsWithin_20 (by decide) (fun c_20_11 => ?_) (fun c_20_11 => ?_)
        · -- taken at 20
          exact absurd c_20_11 (by decide)
        · -- not taken at 20
          refine lv_iload_n hx hb dX3_pointsWithin_23 rfl (lv_at hl 2 rfl) ?_
          refine lv_aload_n hx hb dX3_pointsWithin_24 rfl (lv_at hl 0 rfl) ?_
          refine lv_iload_n hx hb dX3_pointsWithin_25 rfl (lv_at hl 1 rfl) ?_
          refine lv_iload hx hb dX3_pointsWithin_26 (lv_at hl 4 rfl) ?_
          refine kx_cb0 (va_runV (As := [.int (kI ((ln : Nat) : Int)), .int (kI ((k : Nat) : Int))]) (rest := [.int (kI (sm))]) ⟨hx, hb, hml, hown, hts⟩ (m_X3_contains l D H a ([.ref ra, .ref sa, .int (kI ((sn : Nat) : Int)), .ref ka, .int (kI (kb (ik))), .ref ta, .int (kI ((tn : Nat) : Int)), .int (kI (0)), .int (kI (sp)), .int (kI (kb (iw))), .int (kI (le)), .int (kI (fi)), .int (kI (se))]) ra g S gap ln (((k : Nat) : Int)) hO_a rfl hA_ra (by first | assumption | omega) (by first | assumption | omega) (by first | assumption | omega) (by first | assumption | omega)) (cwV 2 hts (lw_V q2560 q2562 qs70 q89 q2563) rfl rfl rfl (by decide +kernel) ⟨Nat.le_of_ble_eq_true rfl, Nat.le_of_ble_eq_true rfl⟩) (kx_pv hK hS hB (kx_rc hK hO_a (C := RX3) (T := TX3) (N := 13) rfl)) rfl rfl hl.1 rfl (lv_room (Nat.le_of_ble_eq_true rfl)) dX3_pointsWithin_28 ⟨by first | exact Nat.le_of_ble_eq_true rfl | omega | (show _ ≤ _; omega) | (dsimp only [headSpec]; omega), by first | exact Nat.le_of_ble_eq_true rfl | omega | (show _ ≤ _; omega) | (dsimp only [headSpec]; omega)⟩) hS (fun z_15 locs_12 hz_14 hS_13 => ?_)
          subst z_15
          refine kx_ifz (tgt := 38) hx hb dX3_pointsWithin_31 (by decide) (fun c_31_16 => ?_) (fun c_31_16 => ?_)
          · -- taken at 31
            refine kx_iconst hx hb dX3_pointsWithin_38 ?_
            refine kx_iadd hx hb dX3_pointsWithin_39 ?_
            refine lv_istore_n (lv' := [(2, .int (kI ((sm + 0)))), (0, .ref a), (1, .int (kI ((ln : Nat) : Int))), (3, .int (kI (kb (true)))), (4, .int (kI ((k : Nat) : Int)))]) hx hb dX3_pointsWithin_40 rfl hl (by decide) rfl (fun ls hl => ?_)
            refine lv_iinc (v := kI (((k + 1 : Nat) : Int))) (lv' := [(4, .int (kI ((k + 1 : Nat) : Int))), (2, .int (kI ((sm + 0)))), (0, .ref a), (1, .int (kI ((ln : Nat) : Int))), (3, .int (kI (kb (true))))]) hx hb dX3_pointsWithin_41 hl (k := 4) rfl (kI_incN _ _) (by decide) rfl (fun ls hl => ?_)
            refine lv_goto (tgt := 11) hx hb dX3_pointsWithin_44 (by decide) ?_
            exact ih_11  (k + 1) ((sm + 0)) H hO_a hA_ra (by first | assumption | omega | (simp_all; done) | grind) (by rw [st_ptsTo, ← hsm]; first | (rw [if_pos (by assumption)]; done) | (rw [if_neg (by simp [*])]; done)) _ hS_13 (by omega) ls (lv_sub hl [2, 3, 1, 4, 0] rfl)
          · -- not taken at 31
            refine kx_iconst hx hb dX3_pointsWithin_34 ?_
            refine lv_goto (tgt := 39) hx hb dX3_pointsWithin_35 (by decide) ?_
            refine kx_iadd hx hb dX3_pointsWithin_39 ?_
            refine lv_istore_n (lv' := [(2, .int (kI ((sm + 1)))), (0, .ref a), (1, .int (kI ((ln : Nat) : Int))), (3, .int (kI (kb (true)))), (4, .int (kI ((k : Nat) : Int)))]) hx hb dX3_pointsWithin_40 rfl hl (by decide) rfl (fun ls hl => ?_)
            refine lv_iinc (v := kI (((k + 1 : Nat) : Int))) (lv' := [(4, .int (kI ((k + 1 : Nat) : Int))), (2, .int (kI ((sm + 1)))), (0, .ref a), (1, .int (kI ((ln : Nat) : Int))), (3, .int (kI (kb (true))))]) hx hb dX3_pointsWithin_41 hl (k := 4) rfl (kI_incN _ _) (by decide) rfl (fun ls hl => ?_)
            refine lv_goto (tgt := 11) hx hb dX3_pointsWithin_44 (by decide) ?_
            exact ih_11  (k + 1) ((sm + 1)) H hO_a hA_ra (by first | assumption | omega | (simp_all; done) | grind) (by rw [st_ptsTo, ← hsm]; first | (rw [if_pos (by assumption)]; done) | (rw [if_neg (by simp [*])]; done)) _ hS_13 (by omega) ls (lv_sub hl [2, 3, 1, 4, 0] rfl)
  have h_17 := hA_ra.fr hF_5 (fun h => by (try dsimp only at h); (try simp only [kNW] at h); omega)
  exact lp_11_x_9 (384 - 0 + 1) 0 0 H_4 ho_8 h_17 (by first | assumption | omega | (simp_all; done) | grind) (rfl) _ hS_2 (Nat.lt_succ_self _) ls (lv_sub hl [3, 4, 2, 1, 0] rfl)

set_option maxHeartbeats 4000000 in
set_option maxRecDepth 100000 in
theorem m_X3_pointsWithin_no (l : Launch) (D : kG) (H : Heap) (a : Nat) (ra : Nat) (sa : Nat) (ka : Nat) (ta : Nat) (sn : Nat) (ik : Bool) (tn : Nat) (th : Int) (sp : Int) (iw : Bool) (le : Int) (fi : Int) (se : Int) (g : Nat → Int) (S : Ls) (gap : Int) (x : Int) (hO_a : kO D H a 2 [.ref ra, .ref sa, .int (kI ((sn : Nat) : Int)), .ref ka, .int (kI (kb (ik))), .ref ta, .int (kI ((tn : Nat) : Int)), .int (kI (th)), .int (kI (sp)), .int (kI (kb (iw))), .int (kI (le)), .int (kI (fi)), .int (kI (se))]) (hA_ra : kAi D H ra 514 g) (hM : MRow g S gap) (hok : LsOK S gap) (ne_a_ra : a ≠ ra) (bs_a : kBase D ≤ a) (hr_x : -2147483648 ≤ x ∧ x ≤ 2147483647) (hno : ¬ (0 ≤ x ∧ x < S.length)) : Met l yX3_pointsWithin (ws_ yX3_pointsWithin cX3_pointsWithin 5 (some .int)) ({ frames := 3, cells := 0, slots := 0, locals := 64 } : Room) (kPre D H [.ref a, .int (kI (x))]) (kQi (fun (r : Int) H' => (r = 0) ∧ (kO D H' a 2 [.ref ra, .ref sa, .int (kI ((sn : Nat) : Int)), .ref ka, .int (kI (kb (ik))), .ref ta, .int (kI ((tn : Nat) : Int)), .int (kI (1)), .int (kI (sp)), .int (kI (kb (iw))), .int (kI (le)), .int (kI (fi)), .int (kI (se))])) (fun q : Nat => q = a)) (0) (0) ((fun q : Nat => q = a)) := by
  refine Met.ofW (cc := cX3_pointsWithin) (maxL := 5) (ret := (some .int)) (by decide) rfl ?_
  intro p e s m args below meth c s₁ B hml hv
  obtain ⟨rfl, hH, hK⟩ := hv
  subst hH
  have hx := B.exec
  have hb := B.bytes
  have hr := B.returns
  have hts := atoms_spec (ws := ws_ yX3_pointsWithin cX3_pointsWithin 5 (some .int)) B.pre
  have hts : ∀ w ∈ lw_all, w.before _ s = true := fun w h => hts w (List.mem_cons_of_mem _ h)
  have hown : s.vm.findClass RX3 = some m.cls := findClass_of_methodNamed B.named
  have hlk := B.notSynchronized
  have hS : va_S (fun q : Nat => q = a) s.heap s.heap [] := va_S.rf
  have hB : ∀ q, (fun q : Nat => q = a) q → kBase D ≤ q := fun q h => by (try dsimp only at h); (try simp only [kNW] at h); have hks := hK.size; omega
  have hl := lv_entry ([.ref a, .int (kI (x))]) (n := 5) (Nat.le_of_ble_eq_true rfl)
  rw [lg_entry_eq]
  generalize (lg_sl ([.ref a, .int (kI (x))]) ++ List.replicate (5 - (lg_sl ([.ref a, .int (kI (x))])).length) Slot.unset).toArray = ls at hl ⊢
  have hl : lv_has ls 5 [(0, .ref a), (1, .int (kI (x)))] := hl
  have hL8 := hok.1
  have hlen := hM.len
  refine kx_iconst hx hb dX3_pointsWithin_0 ?_
  refine lv_istore_n (lv' := [(2, .int (kI (0))), (0, .ref a), (1, .int (kI (x)))]) hx hb dX3_pointsWithin_1 rfl hl (by decide) rfl (fun ls hl => ?_)
  refine lv_aload_n hx hb dX3_pointsWithin_2 rfl (lv_at hl 1 rfl) ?_
  refine lv_iload_n hx hb dX3_pointsWithin_3 rfl (lv_at hl 2 rfl) ?_
  refine kx_cb (va_runV (As := [.int (kI (x))]) (rest := []) ⟨hx, hb, hml, hown, hts⟩ (m_X3_knows_no l D s.heap a ra sa ka ta sn ik tn th sp iw le fi se g S gap x hO_a hA_ra (by first | assumption | omega) (by first | assumption | omega) (by first | assumption | omega) (by first | assumption | omega) (by first | assumption | omega) (by first | assumption | omega)) (cwV 1 hts (lw_V q2479 q2481 qs66 q89 q2482) rfl rfl rfl (by decide +kernel) ⟨Nat.le_of_ble_eq_true rfl, Nat.le_of_ble_eq_true rfl⟩) (kx_pv hK hS hB (kx_rc hK hO_a (C := RX3) (T := TX3) (N := 13) rfl)) rfl rfl hl.1 rfl (lv_room (Nat.le_of_ble_eq_true rfl)) dX3_pointsWithin_4 ⟨by first | exact Nat.le_of_ble_eq_true rfl | omega | (show _ ≤ _; omega) | (dsimp only [headSpec]; omega), by first | exact Nat.le_of_ble_eq_true rfl | omega | (show _ ≤ _; omega) | (dsimp only [headSpec]; omega)⟩) hS (fun q _ h => by (try dsimp only at h); (try dsimp only); (try simp only [kNW] at h); (try simp only [kNW]); omega) (fun q h => by (try dsimp only at h); (try dsimp only); (try simp only [kNW] at h); (try simp only [kNW]); omega) (fun z_6 H_4 locs_1 hz_3 hF_5 hS_2 => ?_)
  refine W.widen (k := 0) (n := 0) (Nat.le_of_ble_eq_true rfl) (Nat.le_of_ble_eq_true rfl) ?_
  obtain ⟨hv_7, ho_8⟩ := hz_3
  subst z_6
  refine lv_istore_n (lv' := [(3, .int (kI (kb (false)))), (2, .int (kI (0))), (0, .ref a), (1, .int (kI (x)))]) hx hb dX3_pointsWithin_7 rfl hl (by decide) rfl (fun ls hl => ?_)
  refine kx_iconst hx hb dX3_pointsWithin_8 ?_
  refine lv_istore (lv' := [(4, .int (kI (0))), (3, .int (kI (kb (false)))), (2, .int (kI (0))), (0, .ref a), (1, .int (kI (x)))]) hx hb dX3_pointsWithin_9 hl (by decide) rfl (fun ls hl => ?_)
  refine lv_iload hx hb dX3_pointsWithin_11 (lv_at hl 0 rfl) ?_
  refine kx_sipush hx hb (by decide) dX3_pointsWithin_13 ?_
  refine kx_icmp_ge (x := 0) (y := 384) (tgt := 47) hx hb dX3_pointsWithin_16 (by decide) (by omega) (by omega) (by omega) (by omega) (fun c_16_9 => ?_) (fun c_16_9 => ?_)
  · -- taken at 16
    exfalso; omega
  · -- not taken at 16
    refine lv_iload_n hx hb dX3_pointsWithin_19 rfl (lv_at hl 1 rfl) ?_
    refine kx_ifz (tgt := 47) hx hb dX3_pointsWithin_20 (by decide) (fun c_20_10 => ?_) (fun c_20_10 => ?_)
    · -- taken at 20
      refine lv_iload_n hx hb dX3_pointsWithin_47 rfl (lv_at hl 2 rfl) ?_
      exact kx_iret (z := 0) hx hb hr hlk (⟨by rfl, ho_8⟩) hS_2 dX3_pointsWithin_48
    · -- not taken at 20
      exact absurd c_20_10 (by decide)

set_option maxHeartbeats 4000000 in
set_option maxRecDepth 100000 in
theorem m_X3_isSteady (l : Launch) (D : kG) (H : Heap) (a : Nat) (ra : Nat) (sa : Nat) (ka : Nat) (ta : Nat) (sn : Nat) (ik : Bool) (tn : Nat) (th : Int) (sp : Int) (iw : Bool) (le : Int) (fi : Int) (se : Int) (g : Nat → Int) (S : Ls) (gap : Int) (ln : Nat) (hO_a : kO D H a 2 [.ref ra, .ref sa, .int (kI ((sn : Nat) : Int)), .ref ka, .int (kI (kb (ik))), .ref ta, .int (kI ((tn : Nat) : Int)), .int (kI (th)), .int (kI (sp)), .int (kI (kb (iw))), .int (kI (le)), .int (kI (fi)), .int (kI (se))]) (hA_ra : kAi D H ra 514 g) (hM : MRow g S gap) (hok : LsOK S gap) (ne_a_ra : a ≠ ra) (bs_a : kBase D ≤ a) (hln : ln < S.length) : Met l yX3_isSteady (ws_ yX3_isSteady cX3_isSteady 3 (some .boolean)) ({ frames := 7, cells := 0, slots := 0, locals := 160 } : Room) (kPre D H [.ref a, .int (kI ((ln : Nat) : Int))]) (kQb (fun (r : Bool) H' => (r = st_steady S ln) ∧ (kO D H' a 2 [.ref ra, .ref sa, .int (kI ((sn : Nat) : Int)), .ref ka, .int (kI (kb (ik))), .ref ta, .int (kI ((tn : Nat) : Int)), .int (kI (0)), .int (kI (sp)), .int (kI (kb (iw))), .int (kI (le)), .int (kI (fi)), .int (kI (se))])) (fun q : Nat => q = a)) (0) (0) ((fun q : Nat => q = a)) := by
  refine Met.ofW (cc := cX3_isSteady) (maxL := 3) (ret := (some .boolean)) (by decide) rfl ?_
  intro p e s m args below meth c s₁ B hml hv
  obtain ⟨rfl, hH, hK⟩ := hv
  subst hH
  have hx := B.exec
  have hb := B.bytes
  have hr := B.returns
  have hts := atoms_spec (ws := ws_ yX3_isSteady cX3_isSteady 3 (some .boolean)) B.pre
  have hts : ∀ w ∈ lw_all, w.before _ s = true := fun w h => hts w (List.mem_cons_of_mem _ h)
  have hown : s.vm.findClass RX3 = some m.cls := findClass_of_methodNamed B.named
  have hlk := B.notSynchronized
  have hS : va_S (fun q : Nat => q = a) s.heap s.heap [] := va_S.rf
  have hB : ∀ q, (fun q : Nat => q = a) q → kBase D ≤ q := fun q h => by (try dsimp only at h); (try simp only [kNW] at h); have hks := hK.size; omega
  have hl := lv_entry ([.ref a, .int (kI ((ln : Nat) : Int))]) (n := 3) (Nat.le_of_ble_eq_true rfl)
  rw [lg_entry_eq]
  generalize (lg_sl ([.ref a, .int (kI ((ln : Nat) : Int))]) ++ List.replicate (3 - (lg_sl ([.ref a, .int (kI ((ln : Nat) : Int))])).length) Slot.unset).toArray = ls at hl ⊢
  have hl : lv_has ls 3 [(0, .ref a), (1, .int (kI ((ln : Nat) : Int)))] := hl
  have hL := hok.ln hln
  have hL60 := hL.n
  have hL8 := hok.1
  have hlv := hL.lv
  have hrr := st_roundTo_rng S ln S.length
  have hrd : st_round S ln = st_roundTo S ln S.length := rfl
  refine lv_aload_n hx hb dX3_isSteady_0 rfl (lv_at hl 0 rfl) ?_
  refine lv_iload_n hx hb dX3_isSteady_1 rfl (lv_at hl 1 rfl) ?_
  refine kx_cb (va_runV (As := [.int (kI ((ln : Nat) : Int))]) (rest := []) ⟨hx, hb, hml, hown, hts⟩ (m_X3_knows l D s.heap a ra sa ka ta sn ik tn th sp iw le fi se g S gap ln hO_a hA_ra (by first | assumption | omega) (by first | assumption | omega) (by first | assumption | omega) (by first | assumption | omega) (by first | assumption | omega)) (cwV 1 hts (lw_V q2479 q2481 qs66 q89 q2482) rfl rfl rfl (by decide +kernel) ⟨Nat.le_of_ble_eq_true rfl, Nat.le_of_ble_eq_true rfl⟩) (kx_pv hK hS hB (kx_rc hK hO_a (C := RX3) (T := TX3) (N := 13) rfl)) rfl rfl hl.1 rfl (lv_room (Nat.le_of_ble_eq_true rfl)) dX3_isSteady_2 ⟨by first | exact Nat.le_of_ble_eq_true rfl | omega | (show _ ≤ _; omega) | (dsimp only [headSpec]; omega), by first | exact Nat.le_of_ble_eq_true rfl | omega | (show _ ≤ _; omega) | (dsimp only [headSpec]; omega)⟩) hS (fun q _ h => by (try dsimp only at h); (try dsimp only); (try simp only [kNW] at h); (try simp only [kNW]); omega) (fun q h => by (try dsimp only at h); (try dsimp only); (try simp only [kNW] at h); (try simp only [kNW]); omega) (fun z_6 H_4 locs_1 hz_3 hF_5 hS_2 => ?_)
  refine W.widen (k := 0) (n := 0) (Nat.le_of_ble_eq_true rfl) (Nat.le_of_ble_eq_true rfl) ?_
  obtain ⟨hv_7, ho_8⟩ := hz_3
  subst z_6
  refine kx_ifnz (tgt := 10) hx hb dX3_isSteady_5 (by decide) (fun c_5_9 => ?_) (fun c_5_9 => ?_)
  · -- taken at 5
    refine lv_aload_n hx hb dX3_isSteady_10 rfl (lv_at hl 0 rfl) ?_
    refine lv_iload_n hx hb dX3_isSteady_11 rfl (lv_at hl 1 rfl) ?_
    have h_10 := hA_ra.fr hF_5 (fun h => by (try dsimp only at h); (try simp only [kNW] at h); omega)
    refine kx_ci0 (va_runV (As := [.int (kI ((ln : Nat) : Int))]) (rest := []) ⟨hx, hb, hml, hown, hts⟩ (m_X3_round l D H_4 a ([.ref ra, .ref sa, .int (kI ((sn : Nat) : Int)), .ref ka, .int (kI (kb (ik))), .ref ta, .int (kI ((tn : Nat) : Int)), .int (kI (0)), .int (kI (sp)), .int (kI (kb (iw))), .int (kI (le)), .int (kI (fi)), .int (kI (se))]) ra g S gap ln ho_8 rfl h_10 (by first | assumption | omega) (by first | assumption | omega) (by first | assumption | omega)) (cwV 1 hts (lw_V q2577 q2579 qs71 q89 q2580) rfl rfl rfl (by decide +kernel) ⟨Nat.le_of_ble_eq_true rfl, Nat.le_of_ble_eq_true rfl⟩) (kx_pv hK hS_2 hB (kx_rc hK ho_8 (C := RX3) (T := TX3) (N := 13) rfl)) rfl rfl hl.1 rfl (lv_room (Nat.le_of_ble_eq_true rfl)) dX3_isSteady_12 ⟨by first | exact Nat.le_of_ble_eq_true rfl | omega | (show _ ≤ _; omega) | (dsimp only [headSpec]; omega), by first | exact Nat.le_of_ble_eq_true rfl | omega | (show _ ≤ _; omega) | (dsimp only [headSpec]; omega)⟩) hS_2 (fun z_14 locs_11 hz_13 hS_12 => ?_)
    subst z_14
    refine lv_istore_n (lv' := [(2, .int (kI (st_round S ln))), (0, .ref a), (1, .int (kI ((ln : Nat) : Int)))]) hx hb dX3_isSteady_15 rfl hl (by decide) rfl (fun ls hl => ?_)
    refine lv_iload_n hx hb dX3_isSteady_16 rfl (lv_at hl 0 rfl) ?_
    refine kx_iconst hx hb dX3_isSteady_17 ?_
    refine kx_icmp_eq (x := st_round S ln) (y := (-1)) (tgt := 40) hx hb dX3_isSteady_18 (by decide) (by omega) (by omega) (by omega) (by omega) (fun c_18_15 => ?_) (fun c_18_15 => ?_)
    · -- taken at 18
      refine kx_iconst hx hb dX3_isSteady_40 ?_
      refine lv_goto (tgt := 45) hx hb dX3_isSteady_41 (by decide) ?_
      exact kx_zret (z := true) hx hb hr hlk (⟨by unfold st_steady; grind, ho_8⟩) hS_12 dX3_isSteady_45
    · -- not taken at 18
      refine lv_aload_n hx hb dX3_isSteady_21 rfl (lv_at hl 1 rfl) ?_
      refine lv_iload_n hx hb dX3_isSteady_22 rfl (lv_at hl 2 rfl) ?_
      refine kx_iconst hx hb dX3_isSteady_23 ?_
      refine kx_ci0 (va_runV (As := [.int (kI ((ln : Nat) : Int)), .int (kI (0))]) (rest := []) ⟨hx, hb, hml, hown, hts⟩ (of_lv l D H_4 a ([.ref ra, .ref sa, .int (kI ((sn : Nat) : Int)), .ref ka, .int (kI (kb (ik))), .ref ta, .int (kI ((tn : Nat) : Int)), .int (kI (0)), .int (kI (sp)), .int (kI (kb (iw))), .int (kI (le)), .int (kI (fi)), .int (kI (se))]) ra g S gap ln ho_8 rfl h_10 (by first | assumption | omega) (by first | assumption | omega) (by first | assumption | omega)) (cwV 2 hts (lw_V q2304 q2306 qs40 q89 q2307) rfl rfl rfl (by decide +kernel) ⟨Nat.le_of_ble_eq_true rfl, Nat.le_of_ble_eq_true rfl⟩) (kx_pv hK hS_12 hB (kx_rc hK ho_8 (C := RX3) (T := TX3) (N := 13) rfl)) rfl rfl hl.1 rfl (lv_room (Nat.le_of_ble_eq_true rfl)) dX3_isSteady_24 ⟨by first | exact Nat.le_of_ble_eq_true rfl | omega | (show _ ≤ _; omega) | (dsimp only [headSpec]; omega), by first | exact Nat.le_of_ble_eq_true rfl | omega | (show _ ≤ _; omega) | (dsimp only [headSpec]; omega)⟩) hS_12 (fun z_19 locs_16 hz_18 hS_17 => ?_)
      subst z_19
      refine lv_aload_n hx hb dX3_isSteady_27 rfl (lv_at hl 1 rfl) ?_
      refine lv_iload_n hx hb dX3_isSteady_28 rfl (lv_at hl 0 rfl) ?_
      refine kx_eqi ((((st_round S ln).toNat : Nat) : Int)) (by omega) ?_
      have hlv2 := (hok.ln (k := (st_round S ln).toNat) (by omega)).lv
      have hap : 0 ≤ apart (ln_lv (st_ln S ln)) (ln_lv (st_ln S (st_round S ln).toNat)) ∧ apart (ln_lv (st_ln S ln)) (ln_lv (st_ln S (st_round S ln).toNat)) ≤ 99 := by unfold apart; split <;> omega
      refine kx_iconst hx hb dX3_isSteady_29 ?_
      refine kx_ci0 (va_runV (As := [.int (kI (((st_round S ln).toNat : Nat) : Int)), .int (kI (0))]) (rest := [.int (kI (ln_lv (st_ln S ln)))]) ⟨hx, hb, hml, hown, hts⟩ (of_lv l D H_4 a ([.ref ra, .ref sa, .int (kI ((sn : Nat) : Int)), .ref ka, .int (kI (kb (ik))), .ref ta, .int (kI ((tn : Nat) : Int)), .int (kI (0)), .int (kI (sp)), .int (kI (kb (iw))), .int (kI (le)), .int (kI (fi)), .int (kI (se))]) ra g S gap ((st_round S ln).toNat) ho_8 rfl h_10 (by first | assumption | omega) (by first | assumption | omega) (by first | assumption | omega)) (cwV 2 hts (lw_V q2304 q2306 qs40 q89 q2307) rfl rfl rfl (by decide +kernel) ⟨Nat.le_of_ble_eq_true rfl, Nat.le_of_ble_eq_true rfl⟩) (kx_pv hK hS_17 hB (kx_rc hK ho_8 (C := RX3) (T := TX3) (N := 13) rfl)) rfl rfl hl.1 rfl (lv_room (Nat.le_of_ble_eq_true rfl)) dX3_isSteady_30 ⟨by first | exact Nat.le_of_ble_eq_true rfl | omega | (show _ ≤ _; omega) | (dsimp only [headSpec]; omega), by first | exact Nat.le_of_ble_eq_true rfl | omega | (show _ ≤ _; omega) | (dsimp only [headSpec]; omega)⟩) hS_17 (fun z_23 locs_20 hz_22 hS_21 => ?_)
      subst z_23
      refine kx_ci0 (va_runS (As := [.int (kI (ln_lv (st_ln S ln))), .int (kI (ln_lv (st_ln S ((st_round S ln).toNat))))]) (rest := []) ⟨hx, hb, hml, hown, hts⟩ (m_X3_apart l D H_4 (ln_lv (st_ln S ln)) (ln_lv (st_ln S ((st_round S ln).toNat)))  (by first | assumption | omega) (by first | assumption | omega)) (va_cwS 2 hts (lw_S q2364 q2365 q89 q2366) rfl rfl rfl (by decide +kernel) ⟨Nat.le_of_ble_eq_true rfl, Nat.le_of_ble_eq_true rfl⟩) (kx_ps hK hS_21 hB) rfl rfl hl.1 rfl (lv_room (Nat.le_of_ble_eq_true rfl)) dX3_isSteady_33 ⟨by first | exact Nat.le_of_ble_eq_true rfl | omega | (show _ ≤ _; omega) | (dsimp only [headSpec]; omega), by first | exact Nat.le_of_ble_eq_true rfl | omega | (show _ ≤ _; omega) | (dsimp only [headSpec]; omega)⟩) hS_21 (fun z_27 locs_24 hz_26 hS_25 => ?_)
      subst z_27
      refine kx_iconst hx hb dX3_isSteady_36 ?_
      refine kx_icmp_ne (x := apart (ln_lv (st_ln S ln)) (ln_lv (st_ln S ((st_round S ln).toNat)))) (y := 5) (tgt := 44) hx hb dX3_isSteady_37 (by decide) (by omega) (by omega) (by omega) (by omega) (fun c_37_28 => ?_) (fun c_37_28 => ?_)
      · -- taken at 37
        refine kx_iconst hx hb dX3_isSteady_44 ?_
        exact kx_zret (z := false) hx hb hr hlk (⟨by unfold st_steady; grind, ho_8⟩) hS_25 dX3_isSteady_45
      · -- not taken at 37
        refine kx_iconst hx hb dX3_isSteady_40 ?_
        refine lv_goto (tgt := 45) hx hb dX3_isSteady_41 (by decide) ?_
        exact kx_zret (z := true) hx hb hr hlk (⟨by unfold st_steady; grind, ho_8⟩) hS_25 dX3_isSteady_45
  · -- not taken at 5
    exact absurd c_5_9 (by decide)

set_option maxHeartbeats 4000000 in
set_option maxRecDepth 100000 in
theorem m_X3_isSteady_no (l : Launch) (D : kG) (H : Heap) (a : Nat) (ra : Nat) (sa : Nat) (ka : Nat) (ta : Nat) (sn : Nat) (ik : Bool) (tn : Nat) (th : Int) (sp : Int) (iw : Bool) (le : Int) (fi : Int) (se : Int) (g : Nat → Int) (S : Ls) (gap : Int) (x : Int) (hO_a : kO D H a 2 [.ref ra, .ref sa, .int (kI ((sn : Nat) : Int)), .ref ka, .int (kI (kb (ik))), .ref ta, .int (kI ((tn : Nat) : Int)), .int (kI (th)), .int (kI (sp)), .int (kI (kb (iw))), .int (kI (le)), .int (kI (fi)), .int (kI (se))]) (hA_ra : kAi D H ra 514 g) (hM : MRow g S gap) (hok : LsOK S gap) (ne_a_ra : a ≠ ra) (bs_a : kBase D ≤ a) (hr_x : -2147483648 ≤ x ∧ x ≤ 2147483647) (hno : ¬ (0 ≤ x ∧ x < S.length)) : Met l yX3_isSteady (ws_ yX3_isSteady cX3_isSteady 3 (some .boolean)) ({ frames := 3, cells := 0, slots := 0, locals := 64 } : Room) (kPre D H [.ref a, .int (kI (x))]) (kQb (fun (r : Bool) H' => (r = false) ∧ (kO D H' a 2 [.ref ra, .ref sa, .int (kI ((sn : Nat) : Int)), .ref ka, .int (kI (kb (ik))), .ref ta, .int (kI ((tn : Nat) : Int)), .int (kI (1)), .int (kI (sp)), .int (kI (kb (iw))), .int (kI (le)), .int (kI (fi)), .int (kI (se))])) (fun q : Nat => q = a)) (0) (0) ((fun q : Nat => q = a)) := by
  refine Met.ofW (cc := cX3_isSteady) (maxL := 3) (ret := (some .boolean)) (by decide) rfl ?_
  intro p e s m args below meth c s₁ B hml hv
  obtain ⟨rfl, hH, hK⟩ := hv
  subst hH
  have hx := B.exec
  have hb := B.bytes
  have hr := B.returns
  have hts := atoms_spec (ws := ws_ yX3_isSteady cX3_isSteady 3 (some .boolean)) B.pre
  have hts : ∀ w ∈ lw_all, w.before _ s = true := fun w h => hts w (List.mem_cons_of_mem _ h)
  have hown : s.vm.findClass RX3 = some m.cls := findClass_of_methodNamed B.named
  have hlk := B.notSynchronized
  have hS : va_S (fun q : Nat => q = a) s.heap s.heap [] := va_S.rf
  have hB : ∀ q, (fun q : Nat => q = a) q → kBase D ≤ q := fun q h => by (try dsimp only at h); (try simp only [kNW] at h); have hks := hK.size; omega
  have hl := lv_entry ([.ref a, .int (kI (x))]) (n := 3) (Nat.le_of_ble_eq_true rfl)
  rw [lg_entry_eq]
  generalize (lg_sl ([.ref a, .int (kI (x))]) ++ List.replicate (3 - (lg_sl ([.ref a, .int (kI (x))])).length) Slot.unset).toArray = ls at hl ⊢
  have hl : lv_has ls 3 [(0, .ref a), (1, .int (kI (x)))] := hl
  have hL8 := hok.1
  have hlen := hM.len
  refine lv_aload_n hx hb dX3_isSteady_0 rfl (lv_at hl 0 rfl) ?_
  refine lv_iload_n hx hb dX3_isSteady_1 rfl (lv_at hl 1 rfl) ?_
  refine kx_cb (va_runV (As := [.int (kI (x))]) (rest := []) ⟨hx, hb, hml, hown, hts⟩ (m_X3_knows_no l D s.heap a ra sa ka ta sn ik tn th sp iw le fi se g S gap x hO_a hA_ra (by first | assumption | omega) (by first | assumption | omega) (by first | assumption | omega) (by first | assumption | omega) (by first | assumption | omega) (by first | assumption | omega)) (cwV 1 hts (lw_V q2479 q2481 qs66 q89 q2482) rfl rfl rfl (by decide +kernel) ⟨Nat.le_of_ble_eq_true rfl, Nat.le_of_ble_eq_true rfl⟩) (kx_pv hK hS hB (kx_rc hK hO_a (C := RX3) (T := TX3) (N := 13) rfl)) rfl rfl hl.1 rfl (lv_room (Nat.le_of_ble_eq_true rfl)) dX3_isSteady_2 ⟨by first | exact Nat.le_of_ble_eq_true rfl | omega | (show _ ≤ _; omega) | (dsimp only [headSpec]; omega), by first | exact Nat.le_of_ble_eq_true rfl | omega | (show _ ≤ _; omega) | (dsimp only [headSpec]; omega)⟩) hS (fun q _ h => by (try dsimp only at h); (try dsimp only); (try simp only [kNW] at h); (try simp only [kNW]); omega) (fun q h => by (try dsimp only at h); (try dsimp only); (try simp only [kNW] at h); (try simp only [kNW]); omega) (fun z_6 H_4 locs_1 hz_3 hF_5 hS_2 => ?_)
  refine W.widen (k := 0) (n := 0) (Nat.le_of_ble_eq_true rfl) (Nat.le_of_ble_eq_true rfl) ?_
  obtain ⟨hv_7, ho_8⟩ := hz_3
  subst z_6
  refine kx_ifnz (tgt := 10) hx hb dX3_isSteady_5 (by decide) (fun c_5_9 => ?_) (fun c_5_9 => ?_)
  · -- taken at 5
    exact absurd c_5_9 (by decide)
  · -- not taken at 5
    refine kx_iconst hx hb dX3_isSteady_8 ?_
    exact kx_zret (z := false) hx hb hr hlk (⟨by rfl, ho_8⟩) hS_2 dX3_isSteady_9

set_option maxHeartbeats 4000000 in
set_option maxRecDepth 100000 in
theorem m_X3_isWithinByRays (l : Launch) (D : kG) (H : Heap) (a : Nat) (ra : Nat) (sa : Nat) (ka : Nat) (ta : Nat) (sn : Nat) (ik : Bool) (tn : Nat) (th : Int) (sp : Int) (iw : Bool) (le : Int) (fi : Int) (se : Int) (g : Nat → Int) (S : Ls) (gap : Int) (ln : Nat) (y : Int) (hO_a : kO D H a 2 [.ref ra, .ref sa, .int (kI ((sn : Nat) : Int)), .ref ka, .int (kI (kb (ik))), .ref ta, .int (kI ((tn : Nat) : Int)), .int (kI (th)), .int (kI (sp)), .int (kI (kb (iw))), .int (kI (le)), .int (kI (fi)), .int (kI (se))]) (hA_ra : kAi D H ra 514 g) (hM : MRow g S gap) (hok : LsOK S gap) (ne_a_ra : a ≠ ra) (bs_a : kBase D ≤ a) (hln : ln < S.length) (hy3 : 0 ≤ y ∧ y ≤ 383) : Met l yX3_isWithinByRays (ws_ yX3_isWithinByRays cX3_isWithinByRays 3 (some .boolean)) ({ frames := 6, cells := 0, slots := 0, locals := 136 } : Room) (kPre D H [.ref a, .int (kI ((ln : Nat) : Int)), .int (kI (y))]) (kQb (fun (r : Bool) H' => (r = st_cont S ln y) ∧ (kO D H' a 2 [.ref ra, .ref sa, .int (kI ((sn : Nat) : Int)), .ref ka, .int (kI (kb (ik))), .ref ta, .int (kI ((tn : Nat) : Int)), .int (kI (0)), .int (kI (sp)), .int (kI (kb (iw))), .int (kI (le)), .int (kI (fi)), .int (kI (se))])) (fun q : Nat => q = a)) (0) (0) ((fun q : Nat => q = a)) := by
  refine Met.ofW (cc := cX3_isWithinByRays) (maxL := 3) (ret := (some .boolean)) (by decide) rfl ?_
  intro p e s m args below meth c s₁ B hml hv
  obtain ⟨rfl, hH, hK⟩ := hv
  subst hH
  have hx := B.exec
  have hb := B.bytes
  have hr := B.returns
  have hts := atoms_spec (ws := ws_ yX3_isWithinByRays cX3_isWithinByRays 3 (some .boolean)) B.pre
  have hts : ∀ w ∈ lw_all, w.before _ s = true := fun w h => hts w (List.mem_cons_of_mem _ h)
  have hown : s.vm.findClass RX3 = some m.cls := findClass_of_methodNamed B.named
  have hlk := B.notSynchronized
  have hS : va_S (fun q : Nat => q = a) s.heap s.heap [] := va_S.rf
  have hB : ∀ q, (fun q : Nat => q = a) q → kBase D ≤ q := fun q h => by (try dsimp only at h); (try simp only [kNW] at h); have hks := hK.size; omega
  have hl := lv_entry ([.ref a, .int (kI ((ln : Nat) : Int)), .int (kI (y))]) (n := 3) (Nat.le_of_ble_eq_true rfl)
  rw [lg_entry_eq]
  generalize (lg_sl ([.ref a, .int (kI ((ln : Nat) : Int)), .int (kI (y))]) ++ List.replicate (3 - (lg_sl ([.ref a, .int (kI ((ln : Nat) : Int)), .int (kI (y))])).length) Slot.unset).toArray = ls at hl ⊢
  have hl : lv_has ls 3 [(0, .ref a), (1, .int (kI ((ln : Nat) : Int))), (2, .int (kI (y)))] := hl
  have hL8 := hok.1
  have hlen := hM.len
  refine lv_aload_n hx hb dX3_isWithinByRays_0 rfl (lv_at hl 0 rfl) ?_
  refine lv_aload_n hx hb dX3_isWithinByRays_1 rfl (lv_at hl 0 rfl) ?_
  refine lv_iload_n hx hb dX3_isWithinByRays_2 rfl (lv_at hl 1 rfl) ?_
  refine kx_cb0 (va_runV (As := [.int (kI ((ln : Nat) : Int))]) (rest := [.ref a]) ⟨hx, hb, hml, hown, hts⟩ (m_X3_isLine l D s.heap a ([.ref ra, .ref sa, .int (kI ((sn : Nat) : Int)), .ref ka, .int (kI (kb (ik))), .ref ta, .int (kI ((tn : Nat) : Int)), .int (kI (th)), .int (kI (sp)), .int (kI (kb (iw))), .int (kI (le)), .int (kI (fi)), .int (kI (se))]) ra g S gap ((ln : Int)) hO_a rfl hA_ra (by first | assumption | omega) (by first | assumption | omega) (by first | assumption | omega)) (cwV 1 hts (lw_V q2314 q2316 qs41 q89 q2317) rfl rfl rfl (by decide +kernel) ⟨Nat.le_of_ble_eq_true rfl, Nat.le_of_ble_eq_true rfl⟩) (kx_pv hK hS hB (kx_rc hK hO_a (C := RX3) (T := TX3) (N := 13) rfl)) rfl rfl hl.1 rfl (lv_room (Nat.le_of_ble_eq_true rfl)) dX3_isWithinByRays_3 ⟨by first | exact Nat.le_of_ble_eq_true rfl | omega | (show _ ≤ _; omega) | (dsimp only [headSpec]; omega), by first | exact Nat.le_of_ble_eq_true rfl | omega | (show _ ≤ _; omega) | (dsimp only [headSpec]; omega)⟩) hS (fun z_4 locs_1 hz_3 hS_2 => ?_)
  subst z_4
  refine kx_ifz (tgt := 20) hx hb dX3_isWithinByRays_6 (by decide) (fun c_6_5 => ?_) (fun c_6_5 => ?_)
  · -- taken at 6
    have c_6_5 := of_decide_eq_false c_6_5
    exfalso; omega
  · -- not taken at 6
    have c_6_5 := of_decide_eq_true c_6_5
    refine lv_iload_n hx hb dX3_isWithinByRays_9 rfl (lv_at hl 2 rfl) ?_
    refine kx_cb0 (va_runS (As := [.int (kI (y))]) (rest := [.ref a]) ⟨hx, hb, hml, hown, hts⟩ (m_X3_isPoint l D s.heap y  (by first | assumption | omega)) (va_cwS 1 hts (lw_S q2294 q2295 q89 q2296) rfl rfl rfl (by decide +kernel) ⟨Nat.le_of_ble_eq_true rfl, Nat.le_of_ble_eq_true rfl⟩) (kx_ps hK hS_2 hB) rfl rfl hl.1 rfl (lv_room (Nat.le_of_ble_eq_true rfl)) dX3_isWithinByRays_10 ⟨by first | exact Nat.le_of_ble_eq_true rfl | omega | (show _ ≤ _; omega) | (dsimp only [headSpec]; omega), by first | exact Nat.le_of_ble_eq_true rfl | omega | (show _ ≤ _; omega) | (dsimp only [headSpec]; omega)⟩) hS_2 (fun z_9 locs_6 hz_8 hS_7 => ?_)
    subst z_9
    refine kx_ifz (tgt := 20) hx hb dX3_isWithinByRays_13 (by decide) (fun c_13_10 => ?_) (fun c_13_10 => ?_)
    · -- taken at 13
      have c_13_10 := of_decide_eq_false c_13_10
      exfalso; omega
    · -- not taken at 13
      have c_13_10 := of_decide_eq_true c_13_10
      refine kx_iconst hx hb dX3_isWithinByRays_16 ?_
      refine lv_goto (tgt := 21) hx hb dX3_isWithinByRays_17 (by decide) ?_
      refine kx_put (v := .int (kI (0))) (C := RX3) (T := TX3) (N := 13) hx hb hts in_X3 hown hK hO_a rfl 7 (by decide) tyX3 tyX3_ok nmX3 hS_7 (by first | rfl | exact Or.inl rfl | exact Or.inr rfl | exact Or.inr (Or.inl rfl) | exact Or.inr (Or.inr rfl) | exact Or.inr (Or.inr (Or.inl rfl)) | exact Or.inr (Or.inr (Or.inr rfl)) | ((try dsimp only); (try simp only [kNW]); omega)) q2245 (fun _ h9 => h9) rfl rfl rfl rfl (Nat.le_of_ble_eq_true rfl) dX3_isWithinByRays_21 (fun H_13 locs_14 hO_12 hU_11 hS_15 => ?_)
      have hO_12 : kO D H_13 a 2 [.ref ra, .ref sa, .int (kI ((sn : Nat) : Int)), .ref ka, .int (kI (kb (ik))), .ref ta, .int (kI ((tn : Nat) : Int)), .int (kI (0)), .int (kI (sp)), .int (kI (kb (iw))), .int (kI (le)), .int (kI (fi)), .int (kI (se))] := hO_12
      refine lv_aload_n hx hb dX3_isWithinByRays_24 rfl (lv_at hl 0 rfl) ?_
      refine kx_get (v := .int (kI (0))) (C := RX3) (T := TX3) (N := 13) hx hb hts in_X3 hown hK hO_12 rfl 7 (by decide) q2245 (fun _ h9 => h9) rfl dX3_isWithinByRays_25 ?_
      refine kx_if_ne (x := 0) (tgt := 44) hx hb dX3_isWithinByRays_28 (by decide) (by omega) (by omega) (fun c_28_16 => ?_) (fun c_28_16 => ?_)
      · -- taken at 28
        exfalso; omega
      · -- not taken at 28
        refine lv_aload_n hx hb dX3_isWithinByRays_31 rfl (lv_at hl 0 rfl) ?_
        refine lv_iload_n hx hb dX3_isWithinByRays_32 rfl (lv_at hl 1 rfl) ?_
        refine lv_iload_n hx hb dX3_isWithinByRays_33 rfl (lv_at hl 2 rfl) ?_
        have h_17 := hA_ra.up hU_11 (by first | assumption | exact Ne.symm (by assumption) | omega)
        refine kx_cb0 (va_runV (As := [.int (kI ((ln : Nat) : Int)), .int (kI (y))]) (rest := []) ⟨hx, hb, hml, hown, hts⟩ (m_X3_contains l D H_13 a ([.ref ra, .ref sa, .int (kI ((sn : Nat) : Int)), .ref ka, .int (kI (kb (ik))), .ref ta, .int (kI ((tn : Nat) : Int)), .int (kI (0)), .int (kI (sp)), .int (kI (kb (iw))), .int (kI (le)), .int (kI (fi)), .int (kI (se))]) ra g S gap ln y hO_12 rfl h_17 (by first | assumption | omega) (by first | assumption | omega) (by first | assumption | omega) (by first | assumption | omega)) (cwV 2 hts (lw_V q2560 q2562 qs70 q89 q2563) rfl rfl rfl (by decide +kernel) ⟨Nat.le_of_ble_eq_true rfl, Nat.le_of_ble_eq_true rfl⟩) (kx_pv hK hS_15 hB (kx_rc hK hO_12 (C := RX3) (T := TX3) (N := 13) rfl)) rfl rfl hl.1 rfl (lv_room (Nat.le_of_ble_eq_true rfl)) dX3_isWithinByRays_34 ⟨by first | exact Nat.le_of_ble_eq_true rfl | omega | (show _ ≤ _; omega) | (dsimp only [headSpec]; omega), by first | exact Nat.le_of_ble_eq_true rfl | omega | (show _ ≤ _; omega) | (dsimp only [headSpec]; omega)⟩) hS_15 (fun z_21 locs_18 hz_20 hS_19 => ?_)
        subst z_21
        refine kx_ifz (tgt := 44) hx hb dX3_isWithinByRays_37 (by decide) (fun c_37_22 => ?_) (fun c_37_22 => ?_)
        · -- taken at 37
          refine kx_iconst hx hb dX3_isWithinByRays_44 ?_
          exact kx_zret (z := false) hx hb hr hlk (⟨by simp [*], hO_12⟩) hS_19 dX3_isWithinByRays_45
        · -- not taken at 37
          refine kx_iconst hx hb dX3_isWithinByRays_40 ?_
          refine lv_goto (tgt := 45) hx hb dX3_isWithinByRays_41 (by decide) ?_
          exact kx_zret (z := true) hx hb hr hlk (⟨by simp [*], hO_12⟩) hS_19 dX3_isWithinByRays_45

set_option maxHeartbeats 4000000 in
set_option maxRecDepth 100000 in
theorem m_X3_isWithinByRays_no (l : Launch) (D : kG) (H : Heap) (a : Nat) (ra : Nat) (sa : Nat) (ka : Nat) (ta : Nat) (sn : Nat) (ik : Bool) (tn : Nat) (th : Int) (sp : Int) (iw : Bool) (le : Int) (fi : Int) (se : Int) (g : Nat → Int) (S : Ls) (gap : Int) (x : Int) (y : Int) (hO_a : kO D H a 2 [.ref ra, .ref sa, .int (kI ((sn : Nat) : Int)), .ref ka, .int (kI (kb (ik))), .ref ta, .int (kI ((tn : Nat) : Int)), .int (kI (th)), .int (kI (sp)), .int (kI (kb (iw))), .int (kI (le)), .int (kI (fi)), .int (kI (se))]) (hA_ra : kAi D H ra 514 g) (hM : MRow g S gap) (hok : LsOK S gap) (ne_a_ra : a ≠ ra) (bs_a : kBase D ≤ a) (hr_x : -2147483648 ≤ x ∧ x ≤ 2147483647) (hr_y : -2147483648 ≤ y ∧ y ≤ 2147483647) (hno : ¬ ((0 ≤ x ∧ x < S.length) ∧ 0 ≤ y ∧ y ≤ 383)) : Met l yX3_isWithinByRays (ws_ yX3_isWithinByRays cX3_isWithinByRays 3 (some .boolean)) ({ frames := 2, cells := 0, slots := 0, locals := 43 } : Room) (kPre D H [.ref a, .int (kI (x)), .int (kI (y))]) (kQb (fun (r : Bool) H' => (r = false) ∧ (kO D H' a 2 [.ref ra, .ref sa, .int (kI ((sn : Nat) : Int)), .ref ka, .int (kI (kb (ik))), .ref ta, .int (kI ((tn : Nat) : Int)), .int (kI (1)), .int (kI (sp)), .int (kI (kb (iw))), .int (kI (le)), .int (kI (fi)), .int (kI (se))])) (fun q : Nat => q = a)) (0) (0) ((fun q : Nat => q = a)) := by
  refine Met.ofW (cc := cX3_isWithinByRays) (maxL := 3) (ret := (some .boolean)) (by decide) rfl ?_
  intro p e s m args below meth c s₁ B hml hv
  obtain ⟨rfl, hH, hK⟩ := hv
  subst hH
  have hx := B.exec
  have hb := B.bytes
  have hr := B.returns
  have hts := atoms_spec (ws := ws_ yX3_isWithinByRays cX3_isWithinByRays 3 (some .boolean)) B.pre
  have hts : ∀ w ∈ lw_all, w.before _ s = true := fun w h => hts w (List.mem_cons_of_mem _ h)
  have hown : s.vm.findClass RX3 = some m.cls := findClass_of_methodNamed B.named
  have hlk := B.notSynchronized
  have hS : va_S (fun q : Nat => q = a) s.heap s.heap [] := va_S.rf
  have hB : ∀ q, (fun q : Nat => q = a) q → kBase D ≤ q := fun q h => by (try dsimp only at h); (try simp only [kNW] at h); have hks := hK.size; omega
  have hl := lv_entry ([.ref a, .int (kI (x)), .int (kI (y))]) (n := 3) (Nat.le_of_ble_eq_true rfl)
  rw [lg_entry_eq]
  generalize (lg_sl ([.ref a, .int (kI (x)), .int (kI (y))]) ++ List.replicate (3 - (lg_sl ([.ref a, .int (kI (x)), .int (kI (y))])).length) Slot.unset).toArray = ls at hl ⊢
  have hl : lv_has ls 3 [(0, .ref a), (1, .int (kI (x))), (2, .int (kI (y)))] := hl
  have hL8 := hok.1
  have hlen := hM.len
  refine lv_aload_n hx hb dX3_isWithinByRays_0 rfl (lv_at hl 0 rfl) ?_
  refine lv_aload_n hx hb dX3_isWithinByRays_1 rfl (lv_at hl 0 rfl) ?_
  refine lv_iload_n hx hb dX3_isWithinByRays_2 rfl (lv_at hl 1 rfl) ?_
  refine kx_cb0 (va_runV (As := [.int (kI (x))]) (rest := [.ref a]) ⟨hx, hb, hml, hown, hts⟩ (m_X3_isLine l D s.heap a ([.ref ra, .ref sa, .int (kI ((sn : Nat) : Int)), .ref ka, .int (kI (kb (ik))), .ref ta, .int (kI ((tn : Nat) : Int)), .int (kI (th)), .int (kI (sp)), .int (kI (kb (iw))), .int (kI (le)), .int (kI (fi)), .int (kI (se))]) ra g S gap x hO_a rfl hA_ra (by first | assumption | omega) (by first | assumption | omega) (by first | assumption | omega)) (cwV 1 hts (lw_V q2314 q2316 qs41 q89 q2317) rfl rfl rfl (by decide +kernel) ⟨Nat.le_of_ble_eq_true rfl, Nat.le_of_ble_eq_true rfl⟩) (kx_pv hK hS hB (kx_rc hK hO_a (C := RX3) (T := TX3) (N := 13) rfl)) rfl rfl hl.1 rfl (lv_room (Nat.le_of_ble_eq_true rfl)) dX3_isWithinByRays_3 ⟨by first | exact Nat.le_of_ble_eq_true rfl | omega | (show _ ≤ _; omega) | (dsimp only [headSpec]; omega), by first | exact Nat.le_of_ble_eq_true rfl | omega | (show _ ≤ _; omega) | (dsimp only [headSpec]; omega)⟩) hS (fun z_4 locs_1 hz_3 hS_2 => ?_)
  subst z_4
  refine kx_ifz (tgt := 20) hx hb dX3_isWithinByRays_6 (by decide) (fun c_6_5 => ?_) (fun c_6_5 => ?_)
  · -- taken at 6
    have c_6_5 := of_decide_eq_false c_6_5
    refine kx_iconst hx hb dX3_isWithinByRays_20 ?_
    refine kx_put (v := .int (kI (1))) (C := RX3) (T := TX3) (N := 13) hx hb hts in_X3 hown hK hO_a rfl 7 (by decide) tyX3 tyX3_ok nmX3 hS_2 (by first | rfl | exact Or.inl rfl | exact Or.inr rfl | exact Or.inr (Or.inl rfl) | exact Or.inr (Or.inr rfl) | exact Or.inr (Or.inr (Or.inl rfl)) | exact Or.inr (Or.inr (Or.inr rfl)) | ((try dsimp only); (try simp only [kNW]); omega)) q2245 (fun _ h9 => h9) rfl rfl rfl rfl (Nat.le_of_ble_eq_true rfl) dX3_isWithinByRays_21 (fun H_8 locs_9 hO_7 hU_6 hS_10 => ?_)
    have hO_7 : kO D H_8 a 2 [.ref ra, .ref sa, .int (kI ((sn : Nat) : Int)), .ref ka, .int (kI (kb (ik))), .ref ta, .int (kI ((tn : Nat) : Int)), .int (kI (1)), .int (kI (sp)), .int (kI (kb (iw))), .int (kI (le)), .int (kI (fi)), .int (kI (se))] := hO_7
    refine lv_aload_n hx hb dX3_isWithinByRays_24 rfl (lv_at hl 0 rfl) ?_
    refine kx_get (v := .int (kI (1))) (C := RX3) (T := TX3) (N := 13) hx hb hts in_X3 hown hK hO_7 rfl 7 (by decide) q2245 (fun _ h9 => h9) rfl dX3_isWithinByRays_25 ?_
    refine kx_if_ne (x := 1) (tgt := 44) hx hb dX3_isWithinByRays_28 (by decide) (by omega) (by omega) (fun c_28_11 => ?_) (fun c_28_11 => ?_)
    · -- taken at 28
      refine kx_iconst hx hb dX3_isWithinByRays_44 ?_
      exact kx_zret (z := false) hx hb hr hlk (⟨by rfl, hO_7⟩) hS_10 dX3_isWithinByRays_45
    · -- not taken at 28
      exfalso; omega
  · -- not taken at 6
    have c_6_5 := of_decide_eq_true c_6_5
    refine lv_iload_n hx hb dX3_isWithinByRays_9 rfl (lv_at hl 2 rfl) ?_
    refine kx_cb0 (va_runS (As := [.int (kI (y))]) (rest := [.ref a]) ⟨hx, hb, hml, hown, hts⟩ (m_X3_isPoint l D s.heap y  (by first | assumption | omega)) (va_cwS 1 hts (lw_S q2294 q2295 q89 q2296) rfl rfl rfl (by decide +kernel) ⟨Nat.le_of_ble_eq_true rfl, Nat.le_of_ble_eq_true rfl⟩) (kx_ps hK hS_2 hB) rfl rfl hl.1 rfl (lv_room (Nat.le_of_ble_eq_true rfl)) dX3_isWithinByRays_10 ⟨by first | exact Nat.le_of_ble_eq_true rfl | omega | (show _ ≤ _; omega) | (dsimp only [headSpec]; omega), by first | exact Nat.le_of_ble_eq_true rfl | omega | (show _ ≤ _; omega) | (dsimp only [headSpec]; omega)⟩) hS_2 (fun z_15 locs_12 hz_14 hS_13 => ?_)
    subst z_15
    refine kx_ifz (tgt := 20) hx hb dX3_isWithinByRays_13 (by decide) (fun c_13_16 => ?_) (fun c_13_16 => ?_)
    · -- taken at 13
      have c_13_16 := of_decide_eq_false c_13_16
      refine kx_iconst hx hb dX3_isWithinByRays_20 ?_
      refine kx_put (v := .int (kI (1))) (C := RX3) (T := TX3) (N := 13) hx hb hts in_X3 hown hK hO_a rfl 7 (by decide) tyX3 tyX3_ok nmX3 hS_13 (by first | rfl | exact Or.inl rfl | exact Or.inr rfl | exact Or.inr (Or.inl rfl) | exact Or.inr (Or.inr rfl) | exact Or.inr (Or.inr (Or.inl rfl)) | exact Or.inr (Or.inr (Or.inr rfl)) | ((try dsimp only); (try simp only [kNW]); omega)) q2245 (fun _ h9 => h9) rfl rfl rfl rfl (Nat.le_of_ble_eq_true rfl) dX3_isWithinByRays_21 (fun H_19 locs_20 hO_18 hU_17 hS_21 => ?_)
      have hO_18 : kO D H_19 a 2 [.ref ra, .ref sa, .int (kI ((sn : Nat) : Int)), .ref ka, .int (kI (kb (ik))), .ref ta, .int (kI ((tn : Nat) : Int)), .int (kI (1)), .int (kI (sp)), .int (kI (kb (iw))), .int (kI (le)), .int (kI (fi)), .int (kI (se))] := hO_18
      refine lv_aload_n hx hb dX3_isWithinByRays_24 rfl (lv_at hl 0 rfl) ?_
      refine kx_get (v := .int (kI (1))) (C := RX3) (T := TX3) (N := 13) hx hb hts in_X3 hown hK hO_18 rfl 7 (by decide) q2245 (fun _ h9 => h9) rfl dX3_isWithinByRays_25 ?_
      refine kx_if_ne (x := 1) (tgt := 44) hx hb dX3_isWithinByRays_28 (by decide) (by omega) (by omega) (fun c_28_22 => ?_) (fun c_28_22 => ?_)
      · -- taken at 28
        refine kx_iconst hx hb dX3_isWithinByRays_44 ?_
        exact kx_zret (z := false) hx hb hr hlk (⟨by rfl, hO_18⟩) hS_21 dX3_isWithinByRays_45
      · -- not taken at 28
        exfalso; omega
    · -- not taken at 13
      have c_13_16 := of_decide_eq_true c_13_16
      exfalso; exact hno ⟨by assumption, by omega⟩

set_option maxHeartbeats 4000000 in
set_option maxRecDepth 100000 in
theorem m_X3_isWithinBySpreading (l : Launch) (D : kG) (H : Heap) (a : Nat) (ra : Nat) (sa : Nat) (ka : Nat) (ta : Nat) (sn : Nat) (ik : Bool) (tn : Nat) (th : Int) (sp : Int) (iw : Bool) (le : Int) (fi : Int) (se : Int) (g : Nat → Int) (S : Ls) (gap : Int) (ln : Nat) (y : Int) (hO_a : kO D H a 2 [.ref ra, .ref sa, .int (kI ((sn : Nat) : Int)), .ref ka, .int (kI (kb (ik))), .ref ta, .int (kI ((tn : Nat) : Int)), .int (kI (th)), .int (kI (sp)), .int (kI (kb (iw))), .int (kI (le)), .int (kI (fi)), .int (kI (se))]) (hA_ra : kAi D H ra 514 g) (hM : MRow g S gap) (hok : LsOK S gap) (ne_a_ra : a ≠ ra) (bs_a : kBase D ≤ a) (hln : ln < S.length) (hy3 : 0 ≤ y ∧ y ≤ 383) : Met l yX3_isWithinBySpreading (ws_ yX3_isWithinBySpreading cX3_isWithinBySpreading 3 (some .boolean)) ({ frames := 7, cells := 0, slots := 0, locals := 158 } : Room) (kPre D H [.ref a, .int (kI ((ln : Nat) : Int)), .int (kI (y))]) (kQb (fun (r : Bool) H' => (r = st_cont S ln y) ∧ (kO D H' a 2 [.ref ra, .ref sa, .int (kI ((sn : Nat) : Int)), .ref ka, .int (kI (kb (ik))), .ref ta, .int (kI ((tn : Nat) : Int)), .int (kI (0)), .int (kI (sp)), .int (kI (kb (iw))), .int (kI (le)), .int (kI (fi)), .int (kI (se))])) (fun q : Nat => q = a)) (0) (0) ((fun q : Nat => q = a)) := by
  refine Met.ofW (cc := cX3_isWithinBySpreading) (maxL := 3) (ret := (some .boolean)) (by decide) rfl ?_
  intro p e s m args below meth c s₁ B hml hv
  obtain ⟨rfl, hH, hK⟩ := hv
  subst hH
  have hx := B.exec
  have hb := B.bytes
  have hr := B.returns
  have hts := atoms_spec (ws := ws_ yX3_isWithinBySpreading cX3_isWithinBySpreading 3 (some .boolean)) B.pre
  have hts : ∀ w ∈ lw_all, w.before _ s = true := fun w h => hts w (List.mem_cons_of_mem _ h)
  have hown : s.vm.findClass RX3 = some m.cls := findClass_of_methodNamed B.named
  have hlk := B.notSynchronized
  have hS : va_S (fun q : Nat => q = a) s.heap s.heap [] := va_S.rf
  have hB : ∀ q, (fun q : Nat => q = a) q → kBase D ≤ q := fun q h => by (try dsimp only at h); (try simp only [kNW] at h); have hks := hK.size; omega
  have hl := lv_entry ([.ref a, .int (kI ((ln : Nat) : Int)), .int (kI (y))]) (n := 3) (Nat.le_of_ble_eq_true rfl)
  rw [lg_entry_eq]
  generalize (lg_sl ([.ref a, .int (kI ((ln : Nat) : Int)), .int (kI (y))]) ++ List.replicate (3 - (lg_sl ([.ref a, .int (kI ((ln : Nat) : Int)), .int (kI (y))])).length) Slot.unset).toArray = ls at hl ⊢
  have hl : lv_has ls 3 [(0, .ref a), (1, .int (kI ((ln : Nat) : Int))), (2, .int (kI (y)))] := hl
  have hL8 := hok.1
  have hlen := hM.len
  refine lv_aload_n hx hb dX3_isWithinBySpreading_0 rfl (lv_at hl 0 rfl) ?_
  refine lv_iload_n hx hb dX3_isWithinBySpreading_1 rfl (lv_at hl 1 rfl) ?_
  refine lv_iload_n hx hb dX3_isWithinBySpreading_2 rfl (lv_at hl 2 rfl) ?_
  refine kx_cb (va_runV (As := [.int (kI ((ln : Nat) : Int)), .int (kI (y))]) (rest := []) ⟨hx, hb, hml, hown, hts⟩ (m_X3_isWithinByRays l D s.heap a ra sa ka ta sn ik tn th sp iw le fi se g S gap ln y hO_a hA_ra (by first | assumption | omega) (by first | assumption | omega) (by first | assumption | omega) (by first | assumption | omega) (by first | assumption | omega) (by first | assumption | omega)) (cwV 2 hts (lw_V q2568 q2557 q2558 q89 q2559) rfl rfl rfl (by decide +kernel) ⟨Nat.le_of_ble_eq_true rfl, Nat.le_of_ble_eq_true rfl⟩) (kx_pv hK hS hB (kx_rc hK hO_a (C := RX3) (T := TX3) (N := 13) rfl)) rfl rfl hl.1 rfl (lv_room (Nat.le_of_ble_eq_true rfl)) dX3_isWithinBySpreading_3 ⟨by first | exact Nat.le_of_ble_eq_true rfl | omega | (show _ ≤ _; omega) | (dsimp only [headSpec]; omega), by first | exact Nat.le_of_ble_eq_true rfl | omega | (show _ ≤ _; omega) | (dsimp only [headSpec]; omega)⟩) hS (fun q _ h => by (try dsimp only at h); (try dsimp only); (try simp only [kNW] at h); (try simp only [kNW]); omega) (fun q h => by (try dsimp only at h); (try dsimp only); (try simp only [kNW] at h); (try simp only [kNW]); omega) (fun z_6 H_4 locs_1 hz_3 hF_5 hS_2 => ?_)
  refine W.widen (k := 0) (n := 0) (Nat.le_of_ble_eq_true rfl) (Nat.le_of_ble_eq_true rfl) ?_
  obtain ⟨hv_7, ho_8⟩ := hz_3
  subst z_6
  exact kx_zret (z := st_cont S ln y) hx hb hr hlk (⟨by rfl, ho_8⟩) hS_2 dX3_isWithinBySpreading_6

set_option maxHeartbeats 4000000 in
set_option maxRecDepth 100000 in
theorem m_X3_isWithinBySpreading_no (l : Launch) (D : kG) (H : Heap) (a : Nat) (ra : Nat) (sa : Nat) (ka : Nat) (ta : Nat) (sn : Nat) (ik : Bool) (tn : Nat) (th : Int) (sp : Int) (iw : Bool) (le : Int) (fi : Int) (se : Int) (g : Nat → Int) (S : Ls) (gap : Int) (x : Int) (y : Int) (hO_a : kO D H a 2 [.ref ra, .ref sa, .int (kI ((sn : Nat) : Int)), .ref ka, .int (kI (kb (ik))), .ref ta, .int (kI ((tn : Nat) : Int)), .int (kI (th)), .int (kI (sp)), .int (kI (kb (iw))), .int (kI (le)), .int (kI (fi)), .int (kI (se))]) (hA_ra : kAi D H ra 514 g) (hM : MRow g S gap) (hok : LsOK S gap) (ne_a_ra : a ≠ ra) (bs_a : kBase D ≤ a) (hr_x : -2147483648 ≤ x ∧ x ≤ 2147483647) (hr_y : -2147483648 ≤ y ∧ y ≤ 2147483647) (hno : ¬ ((0 ≤ x ∧ x < S.length) ∧ 0 ≤ y ∧ y ≤ 383)) : Met l yX3_isWithinBySpreading (ws_ yX3_isWithinBySpreading cX3_isWithinBySpreading 3 (some .boolean)) ({ frames := 3, cells := 0, slots := 0, locals := 65 } : Room) (kPre D H [.ref a, .int (kI (x)), .int (kI (y))]) (kQb (fun (r : Bool) H' => (r = false) ∧ (kO D H' a 2 [.ref ra, .ref sa, .int (kI ((sn : Nat) : Int)), .ref ka, .int (kI (kb (ik))), .ref ta, .int (kI ((tn : Nat) : Int)), .int (kI (1)), .int (kI (sp)), .int (kI (kb (iw))), .int (kI (le)), .int (kI (fi)), .int (kI (se))])) (fun q : Nat => q = a)) (0) (0) ((fun q : Nat => q = a)) := by
  refine Met.ofW (cc := cX3_isWithinBySpreading) (maxL := 3) (ret := (some .boolean)) (by decide) rfl ?_
  intro p e s m args below meth c s₁ B hml hv
  obtain ⟨rfl, hH, hK⟩ := hv
  subst hH
  have hx := B.exec
  have hb := B.bytes
  have hr := B.returns
  have hts := atoms_spec (ws := ws_ yX3_isWithinBySpreading cX3_isWithinBySpreading 3 (some .boolean)) B.pre
  have hts : ∀ w ∈ lw_all, w.before _ s = true := fun w h => hts w (List.mem_cons_of_mem _ h)
  have hown : s.vm.findClass RX3 = some m.cls := findClass_of_methodNamed B.named
  have hlk := B.notSynchronized
  have hS : va_S (fun q : Nat => q = a) s.heap s.heap [] := va_S.rf
  have hB : ∀ q, (fun q : Nat => q = a) q → kBase D ≤ q := fun q h => by (try dsimp only at h); (try simp only [kNW] at h); have hks := hK.size; omega
  have hl := lv_entry ([.ref a, .int (kI (x)), .int (kI (y))]) (n := 3) (Nat.le_of_ble_eq_true rfl)
  rw [lg_entry_eq]
  generalize (lg_sl ([.ref a, .int (kI (x)), .int (kI (y))]) ++ List.replicate (3 - (lg_sl ([.ref a, .int (kI (x)), .int (kI (y))])).length) Slot.unset).toArray = ls at hl ⊢
  have hl : lv_has ls 3 [(0, .ref a), (1, .int (kI (x))), (2, .int (kI (y)))] := hl
  have hL8 := hok.1
  have hlen := hM.len
  refine lv_aload_n hx hb dX3_isWithinBySpreading_0 rfl (lv_at hl 0 rfl) ?_
  refine lv_iload_n hx hb dX3_isWithinBySpreading_1 rfl (lv_at hl 1 rfl) ?_
  refine lv_iload_n hx hb dX3_isWithinBySpreading_2 rfl (lv_at hl 2 rfl) ?_
  refine kx_cb (va_runV (As := [.int (kI (x)), .int (kI (y))]) (rest := []) ⟨hx, hb, hml, hown, hts⟩ (m_X3_isWithinByRays_no l D s.heap a ra sa ka ta sn ik tn th sp iw le fi se g S gap x y hO_a hA_ra (by first | assumption | omega) (by first | assumption | omega) (by first | assumption | omega) (by first | assumption | omega) (by first | assumption | omega) (by first | assumption | omega) (by first | assumption | omega)) (cwV 2 hts (lw_V q2568 q2557 q2558 q89 q2559) rfl rfl rfl (by decide +kernel) ⟨Nat.le_of_ble_eq_true rfl, Nat.le_of_ble_eq_true rfl⟩) (kx_pv hK hS hB (kx_rc hK hO_a (C := RX3) (T := TX3) (N := 13) rfl)) rfl rfl hl.1 rfl (lv_room (Nat.le_of_ble_eq_true rfl)) dX3_isWithinBySpreading_3 ⟨by first | exact Nat.le_of_ble_eq_true rfl | omega | (show _ ≤ _; omega) | (dsimp only [headSpec]; omega), by first | exact Nat.le_of_ble_eq_true rfl | omega | (show _ ≤ _; omega) | (dsimp only [headSpec]; omega)⟩) hS (fun q _ h => by (try dsimp only at h); (try dsimp only); (try simp only [kNW] at h); (try simp only [kNW]); omega) (fun q h => by (try dsimp only at h); (try dsimp only); (try simp only [kNW] at h); (try simp only [kNW]); omega) (fun z_6 H_4 locs_1 hz_3 hF_5 hS_2 => ?_)
  refine W.widen (k := 0) (n := 0) (Nat.le_of_ble_eq_true rfl) (Nat.le_of_ble_eq_true rfl) ?_
  obtain ⟨hv_7, ho_8⟩ := hz_3
  subst z_6
  exact kx_zret (z := false) hx hb hr hlk (⟨by rfl, ho_8⟩) hS_2 dX3_isWithinBySpreading_6

set_option maxHeartbeats 4000000 in
set_option maxRecDepth 100000 in
theorem m_X3_lineByLevel (l : Launch) (D : kG) (H : Heap) (a : Nat) (ra : Nat) (sa : Nat) (ka : Nat) (ta : Nat) (sn : Nat) (ik : Bool) (tn : Nat) (th : Int) (sp : Int) (iw : Bool) (le : Int) (fi : Int) (se : Int) (g : Nat → Int) (S : Ls) (gap : Int) (ln : Nat) (hO_a : kO D H a 2 [.ref ra, .ref sa, .int (kI ((sn : Nat) : Int)), .ref ka, .int (kI (kb (ik))), .ref ta, .int (kI ((tn : Nat) : Int)), .int (kI (th)), .int (kI (sp)), .int (kI (kb (iw))), .int (kI (le)), .int (kI (fi)), .int (kI (se))]) (hA_ra : kAi D H ra 514 g) (hM : MRow g S gap) (hok : LsOK S gap) (ne_a_ra : a ≠ ra) (bs_a : kBase D ≤ a) (hln : ln < S.length) : Met l yX3_lineByLevel (ws_ yX3_lineByLevel cX3_lineByLevel 2 (some .int)) ({ frames := 2, cells := 0, slots := 0, locals := 48 } : Room) (kPre D H [.ref a, .int (kI ((ln : Nat) : Int))]) (kQi (fun (r : Int) H' => (r = st_byLv S ln) ∧ (kO D H' a 2 [.ref ra, .ref sa, .int (kI ((sn : Nat) : Int)), .ref ka, .int (kI (kb (ik))), .ref ta, .int (kI ((tn : Nat) : Int)), .int (kI (0)), .int (kI (sp)), .int (kI (kb (iw))), .int (kI (le)), .int (kI (fi)), .int (kI (se))])) (fun q : Nat => q = a)) (0) (0) ((fun q : Nat => q = a)) := by
  refine Met.ofW (cc := cX3_lineByLevel) (maxL := 2) (ret := (some .int)) (by decide) rfl ?_
  intro p e s m args below meth c s₁ B hml hv
  obtain ⟨rfl, hH, hK⟩ := hv
  subst hH
  have hx := B.exec
  have hb := B.bytes
  have hr := B.returns
  have hts := atoms_spec (ws := ws_ yX3_lineByLevel cX3_lineByLevel 2 (some .int)) B.pre
  have hts : ∀ w ∈ lw_all, w.before _ s = true := fun w h => hts w (List.mem_cons_of_mem _ h)
  have hown : s.vm.findClass RX3 = some m.cls := findClass_of_methodNamed B.named
  have hlk := B.notSynchronized
  have hS : va_S (fun q : Nat => q = a) s.heap s.heap [] := va_S.rf
  have hB : ∀ q, (fun q : Nat => q = a) q → kBase D ≤ q := fun q h => by (try dsimp only at h); (try simp only [kNW] at h); have hks := hK.size; omega
  have hl := lv_entry ([.ref a, .int (kI ((ln : Nat) : Int))]) (n := 2) (Nat.le_of_ble_eq_true rfl)
  rw [lg_entry_eq]
  generalize (lg_sl ([.ref a, .int (kI ((ln : Nat) : Int))]) ++ List.replicate (2 - (lg_sl ([.ref a, .int (kI ((ln : Nat) : Int))])).length) Slot.unset).toArray = ls at hl ⊢
  have hl : lv_has ls 2 [(0, .ref a), (1, .int (kI ((ln : Nat) : Int)))] := hl
  have hL8 := hok.1
  have hlen := hM.len
  refine lv_aload_n hx hb dX3_lineByLevel_0 rfl (lv_at hl 0 rfl) ?_
  refine kx_iconst hx hb dX3_lineByLevel_1 ?_
  refine kx_put (v := .int (kI (0))) (C := RX3) (T := TX3) (N := 13) hx hb hts in_X3 hown hK hO_a rfl 7 (by decide) tyX3 tyX3_ok nmX3 hS (by first | rfl | exact Or.inl rfl | exact Or.inr rfl | exact Or.inr (Or.inl rfl) | exact Or.inr (Or.inr rfl) | exact Or.inr (Or.inr (Or.inl rfl)) | exact Or.inr (Or.inr (Or.inr rfl)) | ((try dsimp only); (try simp only [kNW]); omega)) q2245 (fun _ h9 => h9) rfl rfl rfl rfl (Nat.le_of_ble_eq_true rfl) dX3_lineByLevel_2 (fun H_3 locs_4 hO_2 hU_1 hS_5 => ?_)
  have hO_2 : kO D H_3 a 2 [.ref ra, .ref sa, .int (kI ((sn : Nat) : Int)), .ref ka, .int (kI (kb (ik))), .ref ta, .int (kI ((tn : Nat) : Int)), .int (kI (0)), .int (kI (sp)), .int (kI (kb (iw))), .int (kI (le)), .int (kI (fi)), .int (kI (se))] := hO_2
  refine lv_iload_n hx hb dX3_lineByLevel_5 rfl (lv_at hl 1 rfl) ?_
  refine kx_iconst hx hb dX3_lineByLevel_6 ?_
  refine lv_aload_n hx hb dX3_lineByLevel_7 rfl (lv_at hl 0 rfl) ?_
  refine kx_get (v := .ref ra) (C := RX3) (T := TX3) (N := 13) hx hb hts in_X3 hown hK hO_2 rfl 0 (by decide) q2238 (fun _ h9 => h9) rfl dX3_lineByLevel_8 ?_
  refine kx_iconst hx hb dX3_lineByLevel_11 ?_
  have h_6 := hA_ra.up hU_1 (by first | assumption | exact Ne.symm (by assumption) | omega)
  refine kx_iald (i := 0) hx hb hK h_6 0 (rfl) (by omega) (by omega) dX3_lineByLevel_12 ?_
  refine kx_eqi (((S.length : Nat) : Int)) (hM.len) ?_
  refine kx_iconst hx hb dX3_lineByLevel_13 ?_
  refine kx_isub hx hb dX3_lineByLevel_14 ?_
  refine kx_cb0 (va_runS (As := [.int (kI ((ln : Nat) : Int)), .int (kI (0)), .int (kI ((((S.length : Nat) : Int) - 1)))]) (rest := []) ⟨hx, hb, hml, hown, hts⟩ (m_X3_in l D H_3 ((ln : Int)) 0 ((((S.length : Nat) : Int) - 1))  (by first | assumption | omega) (by first | assumption | omega) (by first | assumption | omega)) (va_cwS 3 hts (lw_S q2297 q2298 q89 q2299) rfl rfl rfl (by decide +kernel) ⟨Nat.le_of_ble_eq_true rfl, Nat.le_of_ble_eq_true rfl⟩) (kx_ps hK hS_5 hB) rfl rfl hl.1 rfl (lv_room (Nat.le_of_ble_eq_true rfl)) dX3_lineByLevel_15 ⟨by first | exact Nat.le_of_ble_eq_true rfl | omega | (show _ ≤ _; omega) | (dsimp only [headSpec]; omega), by first | exact Nat.le_of_ble_eq_true rfl | omega | (show _ ≤ _; omega) | (dsimp only [headSpec]; omega)⟩) hS_5 (fun z_10 locs_7 hz_9 hS_8 => ?_)
  subst z_10
  refine kx_ifz (tgt := 29) hx hb dX3_lineByLevel_18 (by decide) (fun c_18_11 => ?_) (fun c_18_11 => ?_)
  · -- taken at 18
    have c_18_11 := of_decide_eq_false c_18_11
    exfalso; omega
  · -- not taken at 18
    have c_18_11 := of_decide_eq_true c_18_11
    refine lv_aload_n hx hb dX3_lineByLevel_21 rfl (lv_at hl 0 rfl) ?_
    refine lv_iload_n hx hb dX3_lineByLevel_22 rfl (lv_at hl 1 rfl) ?_
    refine kx_ci0 (va_runV (As := [.int (kI ((ln : Nat) : Int))]) (rest := []) ⟨hx, hb, hml, hown, hts⟩ (m_X3_byLevel l D H_3 a ([.ref ra, .ref sa, .int (kI ((sn : Nat) : Int)), .ref ka, .int (kI (kb (ik))), .ref ta, .int (kI ((tn : Nat) : Int)), .int (kI (0)), .int (kI (sp)), .int (kI (kb (iw))), .int (kI (le)), .int (kI (fi)), .int (kI (se))]) ra g S gap ((ln : Int)) hO_2 rfl h_6 (by first | assumption | omega) (by first | assumption | omega) (by first | assumption | omega)) (cwV 1 hts (lw_V q2403 q2405 qs61 q89 q2406) rfl rfl rfl (by decide +kernel) ⟨Nat.le_of_ble_eq_true rfl, Nat.le_of_ble_eq_true rfl⟩) (kx_pv hK hS_8 hB (kx_rc hK hO_2 (C := RX3) (T := TX3) (N := 13) rfl)) rfl rfl hl.1 rfl (lv_room (Nat.le_of_ble_eq_true rfl)) dX3_lineByLevel_23 ⟨by first | exact Nat.le_of_ble_eq_true rfl | omega | (show _ ≤ _; omega) | (dsimp only [headSpec]; omega), by first | exact Nat.le_of_ble_eq_true rfl | omega | (show _ ≤ _; omega) | (dsimp only [headSpec]; omega)⟩) hS_8 (fun z_15 locs_12 hz_14 hS_13 => ?_)
    subst z_15
    refine lv_goto (tgt := 34) hx hb dX3_lineByLevel_26 (by decide) ?_
    exact kx_iret (z := st_byLv S (ln : Int)) hx hb hr hlk (⟨by rfl, hO_2⟩) hS_13 dX3_lineByLevel_34

set_option maxHeartbeats 4000000 in
set_option maxRecDepth 100000 in
theorem m_X3_lineByLevel_no (l : Launch) (D : kG) (H : Heap) (a : Nat) (ra : Nat) (sa : Nat) (ka : Nat) (ta : Nat) (sn : Nat) (ik : Bool) (tn : Nat) (th : Int) (sp : Int) (iw : Bool) (le : Int) (fi : Int) (se : Int) (g : Nat → Int) (S : Ls) (gap : Int) (x : Int) (hO_a : kO D H a 2 [.ref ra, .ref sa, .int (kI ((sn : Nat) : Int)), .ref ka, .int (kI (kb (ik))), .ref ta, .int (kI ((tn : Nat) : Int)), .int (kI (th)), .int (kI (sp)), .int (kI (kb (iw))), .int (kI (le)), .int (kI (fi)), .int (kI (se))]) (hA_ra : kAi D H ra 514 g) (hM : MRow g S gap) (hok : LsOK S gap) (ne_a_ra : a ≠ ra) (bs_a : kBase D ≤ a) (hr_x : -2147483648 ≤ x ∧ x ≤ 2147483647) (hno : ¬ (0 ≤ x ∧ x < S.length)) : Met l yX3_lineByLevel (ws_ yX3_lineByLevel cX3_lineByLevel 2 (some .int)) ({ frames := 1, cells := 0, slots := 0, locals := 22 } : Room) (kPre D H [.ref a, .int (kI (x))]) (kQi (fun (r : Int) H' => (r = 0) ∧ (kO D H' a 2 [.ref ra, .ref sa, .int (kI ((sn : Nat) : Int)), .ref ka, .int (kI (kb (ik))), .ref ta, .int (kI ((tn : Nat) : Int)), .int (kI (1)), .int (kI (sp)), .int (kI (kb (iw))), .int (kI (le)), .int (kI (fi)), .int (kI (se))])) (fun q : Nat => q = a)) (0) (0) ((fun q : Nat => q = a)) := by
  refine Met.ofW (cc := cX3_lineByLevel) (maxL := 2) (ret := (some .int)) (by decide) rfl ?_
  intro p e s m args below meth c s₁ B hml hv
  obtain ⟨rfl, hH, hK⟩ := hv
  subst hH
  have hx := B.exec
  have hb := B.bytes
  have hr := B.returns
  have hts := atoms_spec (ws := ws_ yX3_lineByLevel cX3_lineByLevel 2 (some .int)) B.pre
  have hts : ∀ w ∈ lw_all, w.before _ s = true := fun w h => hts w (List.mem_cons_of_mem _ h)
  have hown : s.vm.findClass RX3 = some m.cls := findClass_of_methodNamed B.named
  have hlk := B.notSynchronized
  have hS : va_S (fun q : Nat => q = a) s.heap s.heap [] := va_S.rf
  have hB : ∀ q, (fun q : Nat => q = a) q → kBase D ≤ q := fun q h => by (try dsimp only at h); (try simp only [kNW] at h); have hks := hK.size; omega
  have hl := lv_entry ([.ref a, .int (kI (x))]) (n := 2) (Nat.le_of_ble_eq_true rfl)
  rw [lg_entry_eq]
  generalize (lg_sl ([.ref a, .int (kI (x))]) ++ List.replicate (2 - (lg_sl ([.ref a, .int (kI (x))])).length) Slot.unset).toArray = ls at hl ⊢
  have hl : lv_has ls 2 [(0, .ref a), (1, .int (kI (x)))] := hl
  have hL8 := hok.1
  have hlen := hM.len
  refine lv_aload_n hx hb dX3_lineByLevel_0 rfl (lv_at hl 0 rfl) ?_
  refine kx_iconst hx hb dX3_lineByLevel_1 ?_
  refine kx_put (v := .int (kI (0))) (C := RX3) (T := TX3) (N := 13) hx hb hts in_X3 hown hK hO_a rfl 7 (by decide) tyX3 tyX3_ok nmX3 hS (by first | rfl | exact Or.inl rfl | exact Or.inr rfl | exact Or.inr (Or.inl rfl) | exact Or.inr (Or.inr rfl) | exact Or.inr (Or.inr (Or.inl rfl)) | exact Or.inr (Or.inr (Or.inr rfl)) | ((try dsimp only); (try simp only [kNW]); omega)) q2245 (fun _ h9 => h9) rfl rfl rfl rfl (Nat.le_of_ble_eq_true rfl) dX3_lineByLevel_2 (fun H_3 locs_4 hO_2 hU_1 hS_5 => ?_)
  have hO_2 : kO D H_3 a 2 [.ref ra, .ref sa, .int (kI ((sn : Nat) : Int)), .ref ka, .int (kI (kb (ik))), .ref ta, .int (kI ((tn : Nat) : Int)), .int (kI (0)), .int (kI (sp)), .int (kI (kb (iw))), .int (kI (le)), .int (kI (fi)), .int (kI (se))] := hO_2
  refine lv_iload_n hx hb dX3_lineByLevel_5 rfl (lv_at hl 1 rfl) ?_
  refine kx_iconst hx hb dX3_lineByLevel_6 ?_
  refine lv_aload_n hx hb dX3_lineByLevel_7 rfl (lv_at hl 0 rfl) ?_
  refine kx_get (v := .ref ra) (C := RX3) (T := TX3) (N := 13) hx hb hts in_X3 hown hK hO_2 rfl 0 (by decide) q2238 (fun _ h9 => h9) rfl dX3_lineByLevel_8 ?_
  refine kx_iconst hx hb dX3_lineByLevel_11 ?_
  have h_6 := hA_ra.up hU_1 (by first | assumption | exact Ne.symm (by assumption) | omega)
  refine kx_iald (i := 0) hx hb hK h_6 0 (rfl) (by omega) (by omega) dX3_lineByLevel_12 ?_
  refine kx_eqi (((S.length : Nat) : Int)) (hM.len) ?_
  refine kx_iconst hx hb dX3_lineByLevel_13 ?_
  refine kx_isub hx hb dX3_lineByLevel_14 ?_
  refine kx_cb0 (va_runS (As := [.int (kI (x)), .int (kI (0)), .int (kI ((((S.length : Nat) : Int) - 1)))]) (rest := []) ⟨hx, hb, hml, hown, hts⟩ (m_X3_in l D H_3 x 0 ((((S.length : Nat) : Int) - 1))  (by first | assumption | omega) (by first | assumption | omega) (by first | assumption | omega)) (va_cwS 3 hts (lw_S q2297 q2298 q89 q2299) rfl rfl rfl (by decide +kernel) ⟨Nat.le_of_ble_eq_true rfl, Nat.le_of_ble_eq_true rfl⟩) (kx_ps hK hS_5 hB) rfl rfl hl.1 rfl (lv_room (Nat.le_of_ble_eq_true rfl)) dX3_lineByLevel_15 ⟨by first | exact Nat.le_of_ble_eq_true rfl | omega | (show _ ≤ _; omega) | (dsimp only [headSpec]; omega), by first | exact Nat.le_of_ble_eq_true rfl | omega | (show _ ≤ _; omega) | (dsimp only [headSpec]; omega)⟩) hS_5 (fun z_10 locs_7 hz_9 hS_8 => ?_)
  subst z_10
  refine kx_ifz (tgt := 29) hx hb dX3_lineByLevel_18 (by decide) (fun c_18_11 => ?_) (fun c_18_11 => ?_)
  · -- taken at 18
    have c_18_11 := of_decide_eq_false c_18_11
    refine lv_aload_n hx hb dX3_lineByLevel_29 rfl (lv_at hl 0 rfl) ?_
    refine kx_iconst hx hb dX3_lineByLevel_30 ?_
    refine kx_ci (va_runV (As := [.int (kI (1))]) (rest := []) ⟨hx, hb, hml, hown, hts⟩ (m_X3_fails l D H_3 a ra sa ka ta sn ik tn 0 sp iw le fi se 1 hO_2 (by first | assumption | omega)) (cwV 1 hts (lw_V q2455 q2457 qs64 q89 q2458) rfl rfl rfl (by decide +kernel) ⟨Nat.le_of_ble_eq_true rfl, Nat.le_of_ble_eq_true rfl⟩) (kx_pv hK hS_8 hB (kx_rc hK hO_2 (C := RX3) (T := TX3) (N := 13) rfl)) rfl rfl hl.1 rfl (lv_room (Nat.le_of_ble_eq_true rfl)) dX3_lineByLevel_31 ⟨by first | exact Nat.le_of_ble_eq_true rfl | omega | (show _ ≤ _; omega) | (dsimp only [headSpec]; omega), by first | exact Nat.le_of_ble_eq_true rfl | omega | (show _ ≤ _; omega) | (dsimp only [headSpec]; omega)⟩) hS_8 (fun q _ h => by (try dsimp only at h); (try dsimp only); (try simp only [kNW] at h); (try simp only [kNW]); omega) (fun q h => by (try dsimp only at h); (try dsimp only); (try simp only [kNW] at h); (try simp only [kNW]); omega) (fun z_17 H_15 locs_12 hz_14 hF_16 hS_13 => ?_)
    refine W.widen (k := 0) (n := 0) (Nat.le_of_ble_eq_true rfl) (Nat.le_of_ble_eq_true rfl) ?_
    obtain ⟨hv_18, ho_19⟩ := hz_14
    subst z_17
    exact kx_iret (z := 0) hx hb hr hlk (⟨by rfl, ho_19⟩) hS_13 dX3_lineByLevel_34
  · -- not taken at 18
    have c_18_11 := of_decide_eq_true c_18_11
    exfalso; omega

set_option maxHeartbeats 4000000 in
set_option maxRecDepth 100000 in
theorem m_X3_tooNear (l : Launch) (D : kG) (H : Heap) (a : Nat) (ra : Nat) (sa : Nat) (ka : Nat) (ta : Nat) (sn : Nat) (ik : Bool) (tn : Nat) (th : Int) (sp : Int) (iw : Bool) (le : Int) (fi : Int) (se : Int) (g : Nat → Int) (S : Ls) (gap : Int) (hO_a : kO D H a 2 [.ref ra, .ref sa, .int (kI ((sn : Nat) : Int)), .ref ka, .int (kI (kb (ik))), .ref ta, .int (kI ((tn : Nat) : Int)), .int (kI (th)), .int (kI (sp)), .int (kI (kb (iw))), .int (kI (le)), .int (kI (fi)), .int (kI (se))]) (hA_ra : kAi D H ra 514 g) (hM : MRow g S gap) (hok : LsOK S gap) (ne_a_ra : a ≠ ra) (bs_a : kBase D ≤ a) : Met l yX3_tooNear (ws_ yX3_tooNear cX3_tooNear 5 (some .int)) ({ frames := 4, cells := 0, slots := 0, locals := 94 } : Room) (kPre D H [.ref a]) (kQi (fun (r : Int) H' => (r = st_near S gap) ∧ (kO D H' a 2 [.ref ra, .ref sa, .int (kI ((sn : Nat) : Int)), .ref ka, .int (kI (kb (ik))), .ref ta, .int (kI ((tn : Nat) : Int)), .int (kI (0)), .int (kI (sp)), .int (kI (kb (iw))), .int (kI (le)), .int (kI (fi)), .int (kI (se))])) (fun q : Nat => q = a)) (0) (0) ((fun q : Nat => q = a)) := by
  refine Met.ofW (cc := cX3_tooNear) (maxL := 5) (ret := (some .int)) (by decide) rfl ?_
  intro p e s m args below meth c s₁ B hml hv
  obtain ⟨rfl, hH, hK⟩ := hv
  subst hH
  have hx := B.exec
  have hb := B.bytes
  have hr := B.returns
  have hts := atoms_spec (ws := ws_ yX3_tooNear cX3_tooNear 5 (some .int)) B.pre
  have hts : ∀ w ∈ lw_all, w.before _ s = true := fun w h => hts w (List.mem_cons_of_mem _ h)
  have hown : s.vm.findClass RX3 = some m.cls := findClass_of_methodNamed B.named
  have hlk := B.notSynchronized
  have hS : va_S (fun q : Nat => q = a) s.heap s.heap [] := va_S.rf
  have hB : ∀ q, (fun q : Nat => q = a) q → kBase D ≤ q := fun q h => by (try dsimp only at h); (try simp only [kNW] at h); have hks := hK.size; omega
  have hl := lv_entry ([.ref a]) (n := 5) (Nat.le_of_ble_eq_true rfl)
  rw [lg_entry_eq]
  generalize (lg_sl ([.ref a]) ++ List.replicate (5 - (lg_sl ([.ref a])).length) Slot.unset).toArray = ls at hl ⊢
  have hl : lv_has ls 5 [(0, .ref a)] := hl
  have hL8 := hok.1
  have hlen := hM.len
  have hgp := hM.gap
  have hgr := hok.2.1
  refine lv_aload_n hx hb dX3_tooNear_0 rfl (lv_at hl 0 rfl) ?_
  refine kx_iconst hx hb dX3_tooNear_1 ?_
  refine kx_put (v := .int (kI (0))) (C := RX3) (T := TX3) (N := 13) hx hb hts in_X3 hown hK hO_a rfl 7 (by decide) tyX3 tyX3_ok nmX3 hS (by first | rfl | exact Or.inl rfl | exact Or.inr rfl | exact Or.inr (Or.inl rfl) | exact Or.inr (Or.inr rfl) | exact Or.inr (Or.inr (Or.inl rfl)) | exact Or.inr (Or.inr (Or.inr rfl)) | ((try dsimp only); (try simp only [kNW]); omega)) q2245 (fun _ h9 => h9) rfl rfl rfl rfl (Nat.le_of_ble_eq_true rfl) dX3_tooNear_2 (fun H_3 locs_4 hO_2 hU_1 hS_5 => ?_)
  have hO_2 : kO D H_3 a 2 [.ref ra, .ref sa, .int (kI ((sn : Nat) : Int)), .ref ka, .int (kI (kb (ik))), .ref ta, .int (kI ((tn : Nat) : Int)), .int (kI (0)), .int (kI (sp)), .int (kI (kb (iw))), .int (kI (le)), .int (kI (fi)), .int (kI (se))] := hO_2
  refine kx_iconst hx hb dX3_tooNear_5 ?_
  refine lv_istore_n (lv' := [(1, .int (kI (0))), (0, .ref a)]) hx hb dX3_tooNear_6 rfl hl (by decide) rfl (fun ls hl => ?_)
  refine kx_iconst hx hb dX3_tooNear_7 ?_
  refine lv_istore_n (lv' := [(2, .int (kI (0))), (1, .int (kI (0))), (0, .ref a)]) hx hb dX3_tooNear_8 rfl hl (by decide) rfl (fun ls hl => ?_)
  have lp_9_x_6 : ∀ (n_9 : Nat) (i : Nat) (sm : Int) (H : Heap) (hO_a : kO D H a 2 [.ref ra, .ref sa, .int (kI ((sn : Nat) : Int)), .ref ka, .int (kI (kb (ik))), .ref ta, .int (kI ((tn : Nat) : Int)), .int (kI (0)), .int (kI (sp)), .int (kI (kb (iw))), .int (kI (le)), .int (kI (fi)), .int (kI (se))]) (hA_ra : kAi D H ra 514 g) (hi : i ≤ S.length) (hsm : sm = st_nearTo S gap i) (locs : List Loc) (hS : va_S (fun q : Nat => q = a) s.heap H locs) (hm_9 : S.length - i < n_9) (ls : Array Slot), lv_has ls 5 [(0, .ref a), (1, .int (kI (sm))), (2, .int (kI ((i : Nat) : Int)))] → W p l e (headSpec (ws_ yX3_tooNear cX3_tooNear 5 (some .int)) ({ frames := 4, cells := 0, slots := 0, locals := 94 } : Room)).room s m ([.ref a] : List Value).toArray below meth c H locs (0) (0) (MQ below (kQi (fun (r : Int) H' => (r = st_near S gap) ∧ (kO D H' a 2 [.ref ra, .ref sa, .int (kI ((sn : Nat) : Int)), .ref ka, .int (kI (kb (ik))), .ref ta, .int (kI ((tn : Nat) : Int)), .int (kI (0)), .int (kI (sp)), .int (kI (kb (iw))), .int (kI (le)), .int (kI (fi)), .int (kI (se))])) (fun q : Nat => q = a)) ([.ref a] : List Value).toArray s (0) (0) ((fun q : Nat => q = a))) (F0 m 9 ls []) := by
    intro n_9
    induction n_9 with
    | zero => intro i sm H hO_a hA_ra hi hsm locs hS hm_9; exact absurd hm_9 (Nat.not_lt_zero _)
    | succ n_9 ih_9 =>
      intro i sm H hO_a hA_ra hi hsm locs hS hm_9 ls hl
      refine lv_iload_n hx hb dX3_tooNear_9 rfl (lv_at hl 2 rfl) ?_
      refine lv_aload_n hx hb dX3_tooNear_10 rfl (lv_at hl 0 rfl) ?_
      refine kx_get (v := .ref ra) (C := RX3) (T := TX3) (N := 13) hx hb hts in_X3 hown hK hO_a rfl 0 (by decide) q2238 (fun _ h9 => h9) rfl dX3_tooNear_11 ?_
      refine kx_iconst hx hb dX3_tooNear_14 ?_
      refine kx_iald (i := 0) hx hb hK hA_ra 0 (rfl) (by omega) (by omega) dX3_tooNear_15 ?_
      refine kx_eqi (((S.length : Nat) : Int)) (hM.len) ?_
      refine kx_icmp_ge (x := ((i : Nat) : Int)) (y := ((S.length : Nat) : Int)) (tgt := 105) hx hb dX3_tooNear_16 (by decide) (by omega) (by omega) (by omega) (by omega) (fun c_16_7 => ?_) (fun c_16_7 => ?_)
      · -- taken at 16
        refine lv_iload_n hx hb dX3_tooNear_105 rfl (lv_at hl 1 rfl) ?_
        exact kx_iret (z := sm) hx hb hr hlk (⟨by rw [hsm, st_near, show i = S.length by omega], hO_a⟩) hS dX3_tooNear_106
      · -- not taken at 16
        have hi2 : i < S.length := by omega
        have hLi := hok.ln hi2
        have hbi := hLi.lbr
        refine kx_iconst hx hb dX3_tooNear_19 ?_
        refine lv_istore_n (lv' := [(3, .int (kI (0))), (0, .ref a), (1, .int (kI (sm))), (2, .int (kI ((i : Nat) : Int)))]) hx hb dX3_tooNear_20 rfl hl (by decide) rfl (fun ls hl => ?_)
        have lp_21_x_8 : ∀ (n_21 : Nat) (j : Nat) (s2 : Int) (H : Heap) (hO_a : kO D H a 2 [.ref ra, .ref sa, .int (kI ((sn : Nat) : Int)), .ref ka, .int (kI (kb (ik))), .ref ta, .int (kI ((tn : Nat) : Int)), .int (kI (0)), .int (kI (sp)), .int (kI (kb (iw))), .int (kI (le)), .int (kI (fi)), .int (kI (se))]) (hA_ra : kAi D H ra 514 g) (hj : j ≤ i) (hs2 : s2 = st_nearIn S gap i sm j) (locs : List Loc) (hS : va_S (fun q : Nat => q = a) s.heap H locs) (hm_21 : i - j < n_21) (ls : Array Slot), lv_has ls 5 [(0, .ref a), (1, .int (kI (s2))), (2, .int (kI ((i : Nat) : Int))), (3, .int (kI ((j : Nat) : Int)))] → W p l e (headSpec (ws_ yX3_tooNear cX3_tooNear 5 (some .int)) ({ frames := 4, cells := 0, slots := 0, locals := 94 } : Room)).room s m ([.ref a] : List Value).toArray below meth c H locs (0) (0) (MQ below (kQi (fun (r : Int) H' => (r = st_near S gap) ∧ (kO D H' a 2 [.ref ra, .ref sa, .int (kI ((sn : Nat) : Int)), .ref ka, .int (kI (kb (ik))), .ref ta, .int (kI ((tn : Nat) : Int)), .int (kI (0)), .int (kI (sp)), .int (kI (kb (iw))), .int (kI (le)), .int (kI (fi)), .int (kI (se))])) (fun q : Nat => q = a)) ([.ref a] : List Value).toArray s (0) (0) ((fun q : Nat => q = a))) (F0 m 21 ls []) := by
          intro n_21
          induction n_21 with
          | zero => intro j s2 H hO_a hA_ra hj hs2 locs hS hm_21; exact absurd hm_21 (Nat.not_lt_zero _)
          | succ n_21 ih_21 =>
            intro j s2 H hO_a hA_ra hj hs2 locs hS hm_21 ls hl
            refine lv_iload_n hx hb dX3_tooNear_21 rfl (lv_at hl 3 rfl) ?_
            refine lv_iload_n hx hb dX3_tooNear_22 rfl (lv_at hl 2 rfl) ?_
            refine kx_icmp_ge (x := ((j : Nat) : Int)) (y := ((i : Nat) : Int)) (tgt := 99) hx hb dX3_tooNear_23 (by decide) (by omega) (by omega) (by omega) (by omega) (fun c_23_9 => ?_) (fun c_23_9 => ?_)
            · -- taken at 23
              refine lv_iinc (v := kI (((i + 1 : Nat) : Int))) (lv' := [(2, .int (kI ((i + 1 : Nat) : Int))), (0, .ref a), (1, .int (kI (s2))), (3, .int (kI ((j : Nat) : Int)))]) hx hb dX3_tooNear_99 hl (k := 2) rfl (kI_incN _ _) (by decide) rfl (fun ls hl => ?_)
              refine lv_goto (tgt := 9) hx hb dX3_tooNear_102 (by decide) ?_
              exact ih_9  (i + 1) s2 H hO_a hA_ra (by first | assumption | omega | (simp_all; done) | grind) (by rw [st_nearTo, ← hsm, hs2, show j = i by omega]) _ hS (by omega) ls (lv_sub hl [1, 2, 0] rfl)
            · -- not taken at 23
              have hj2 : j < S.length := by omega
              have hLj := hok.ln hj2
              have hbj := hLj.lbr
              refine lv_aload_n hx hb dX3_tooNear_26 rfl (lv_at hl 0 rfl) ?_
              refine lv_iload_n hx hb dX3_tooNear_27 rfl (lv_at hl 2 rfl) ?_
              refine kx_iconst hx hb dX3_tooNear_28 ?_
              refine kx_ci0 (va_runV (As := [.int (kI ((i : Nat) : Int)), .int (kI (3))]) (rest := []) ⟨hx, hb, hml, hown, hts⟩ (of_lb l D H a ([.ref ra, .ref sa, .int (kI ((sn : Nat) : Int)), .ref ka, .int (kI (kb (ik))), .ref ta, .int (kI ((tn : Nat) : Int)), .int (kI (0)), .int (kI (sp)), .int (kI (kb (iw))), .int (kI (le)), .int (kI (fi)), .int (kI (se))]) ra g S gap i hO_a rfl hA_ra (by first | assumption | omega) (by first | assumption | omega) (by first | assumption | omega)) (cwV 2 hts (lw_V q2304 q2306 qs40 q89 q2307) rfl rfl rfl (by decide +kernel) ⟨Nat.le_of_ble_eq_true rfl, Nat.le_of_ble_eq_true rfl⟩) (kx_pv hK hS hB (kx_rc hK hO_a (C := RX3) (T := TX3) (N := 13) rfl)) rfl rfl hl.1 rfl (lv_room (Nat.le_of_ble_eq_true rfl)) dX3_tooNear_29 ⟨by first | exact Nat.le_of_ble_eq_true rfl | omega | (show _ ≤ _; omega) | (dsimp only [headSpec]; omega), by first | exact Nat.le_of_ble_eq_true rfl | omega | (show _ ≤ _; omega) | (dsimp only [headSpec]; omega)⟩) hS (fun z_13 locs_10 hz_12 hS_11 => ?_)
              subst z_13
              refine kx_iconst hx hb dX3_tooNear_32 ?_
              refine kx_icmp_eq (x := ln_lb (st_ln S i)) (y := (-1)) (tgt := 50) hx hb dX3_tooNear_33 (by decide) (by omega) (by omega) (by omega) (by omega) (fun c_33_14 => ?_) (fun c_33_14 => ?_)
              · -- taken at 33
                refine kx_iconst hx hb dX3_tooNear_50 ?_
                refine lv_istore (lv' := [(4, .int (kI (0))), (0, .ref a), (1, .int (kI (s2))), (2, .int (kI ((i : Nat) : Int))), (3, .int (kI ((j : Nat) : Int)))]) hx hb dX3_tooNear_51 hl (by decide) rfl (fun ls hl => ?_)
                refine lv_iload_n hx hb dX3_tooNear_53 rfl (lv_at hl 2 rfl) ?_
                refine lv_iload hx hb dX3_tooNear_54 (lv_at hl 0 rfl) ?_
                refine kx_if_eq (x := 0) (tgt := 90) hx hb dX3_tooNear_56 (by decide) (by omega) (by omega) (fun c_56_15 => ?_) (fun c_56_15 => ?_)
                · -- taken at 56
                  refine kx_iconst hx hb dX3_tooNear_90 ?_
                  refine kx_iadd hx hb dX3_tooNear_91 ?_
                  refine lv_istore_n (lv' := [(1, .int (kI ((s2 + 0)))), (4, .int (kI (0))), (0, .ref a), (2, .int (kI ((i : Nat) : Int))), (3, .int (kI ((j : Nat) : Int)))]) hx hb dX3_tooNear_92 rfl hl (by decide) rfl (fun ls hl => ?_)
                  refine lv_iinc (v := kI (((j + 1 : Nat) : Int))) (lv' := [(3, .int (kI ((j + 1 : Nat) : Int))), (1, .int (kI ((s2 + 0)))), (4, .int (kI (0))), (0, .ref a), (2, .int (kI ((i : Nat) : Int)))]) hx hb dX3_tooNear_93 hl (k := 4) rfl (kI_incN _ _) (by decide) rfl (fun ls hl => ?_)
                  refine lv_goto (tgt := 21) hx hb dX3_tooNear_96 (by decide) ?_
                  exact ih_21  (j + 1) ((s2 + 0)) H hO_a hA_ra (by first | assumption | omega | (simp_all; done) | grind) (by rw [st_nearIn, ← hs2]; first | (rw [if_pos ⟨by assumption, by assumption, by assumption⟩]; done) | (rw [if_neg (by grind)]; done)) _ hS_11 (by omega) ls (lv_sub hl [3, 1, 4, 0] rfl)
                · -- not taken at 56
                  exfalso; omega
              · -- not taken at 33
                refine lv_aload_n hx hb dX3_tooNear_36 rfl (lv_at hl 0 rfl) ?_
                refine lv_iload_n hx hb dX3_tooNear_37 rfl (lv_at hl 3 rfl) ?_
                refine kx_iconst hx hb dX3_tooNear_38 ?_
                refine kx_ci0 (va_runV (As := [.int (kI ((j : Nat) : Int)), .int (kI (3))]) (rest := []) ⟨hx, hb, hml, hown, hts⟩ (of_lb l D H a ([.ref ra, .ref sa, .int (kI ((sn : Nat) : Int)), .ref ka, .int (kI (kb (ik))), .ref ta, .int (kI ((tn : Nat) : Int)), .int (kI (0)), .int (kI (sp)), .int (kI (kb (iw))), .int (kI (le)), .int (kI (fi)), .int (kI (se))]) ra g S gap j hO_a rfl hA_ra (by first | assumption | omega) (by first | assumption | omega) (by first | assumption | omega)) (cwV 2 hts (lw_V q2304 q2306 qs40 q89 q2307) rfl rfl rfl (by decide +kernel) ⟨Nat.le_of_ble_eq_true rfl, Nat.le_of_ble_eq_true rfl⟩) (kx_pv hK hS_11 hB (kx_rc hK hO_a (C := RX3) (T := TX3) (N := 13) rfl)) rfl rfl hl.1 rfl (lv_room (Nat.le_of_ble_eq_true rfl)) dX3_tooNear_39 ⟨by first | exact Nat.le_of_ble_eq_true rfl | omega | (show _ ≤ _; omega) | (dsimp only [headSpec]; omega), by first | exact Nat.le_of_ble_eq_true rfl | omega | (show _ ≤ _; omega) | (dsimp only [headSpec]; omega)⟩) hS_11 (fun z_19 locs_16 hz_18 hS_17 => ?_)
                subst z_19
                refine kx_iconst hx hb dX3_tooNear_42 ?_
                refine kx_icmp_eq (x := ln_lb (st_ln S j)) (y := (-1)) (tgt := 50) hx hb dX3_tooNear_43 (by decide) (by omega) (by omega) (by omega) (by omega) (fun c_43_20 => ?_) (fun c_43_20 => ?_)
                · -- taken at 43
                  refine kx_iconst hx hb dX3_tooNear_50 ?_
                  refine lv_istore (lv' := [(4, .int (kI (0))), (0, .ref a), (1, .int (kI (s2))), (2, .int (kI ((i : Nat) : Int))), (3, .int (kI ((j : Nat) : Int)))]) hx hb dX3_tooNear_51 hl (by decide) rfl (fun ls hl => ?_)
                  refine lv_iload_n hx hb dX3_tooNear_53 rfl (lv_at hl 2 rfl) ?_
                  refine lv_iload hx hb dX3_tooNear_54 (lv_at hl 0 rfl) ?_
                  refine kx_if_eq (x := 0) (tgt := 90) hx hb dX3_tooNear_56 (by decide) (by omega) (by omega) (fun c_56_21 => ?_) (fun c_56_21 => ?_)
                  · -- taken at 56
                    refine kx_iconst hx hb dX3_tooNear_90 ?_
                    refine kx_iadd hx hb dX3_tooNear_91 ?_
                    refine lv_istore_n (lv' := [(1, .int (kI ((s2 + 0)))), (4, .int (kI (0))), (0, .ref a), (2, .int (kI ((i : Nat) : Int))), (3, .int (kI ((j : Nat) : Int)))]) hx hb dX3_tooNear_92 rfl hl (by decide) rfl (fun ls hl => ?_)
                    refine lv_iinc (v := kI (((j + 1 : Nat) : Int))) (lv' := [(3, .int (kI ((j + 1 : Nat) : Int))), (1, .int (kI ((s2 + 0)))), (4, .int (kI (0))), (0, .ref a), (2, .int (kI ((i : Nat) : Int)))]) hx hb dX3_tooNear_93 hl (k := 4) rfl (kI_incN _ _) (by decide) rfl (fun ls hl => ?_)
                    refine lv_goto (tgt := 21) hx hb dX3_tooNear_96 (by decide) ?_
                    exact ih_21  (j + 1) ((s2 + 0)) H hO_a hA_ra (by first | assumption | omega | (simp_all; done) | grind) (by rw [st_nearIn, ← hs2]; first | (rw [if_pos ⟨by assumption, by assumption, by assumption⟩]; done) | (rw [if_neg (by grind)]; done)) _ hS_17 (by omega) ls (lv_sub hl [3, 1, 4, 0] rfl)
                  · -- not taken at 56
                    exfalso; omega
                · -- not taken at 43
                  refine kx_iconst hx hb dX3_tooNear_46 ?_
                  refine lv_goto (tgt := 51) hx hb dX3_tooNear_47 (by decide) ?_
                  refine lv_istore (lv' := [(4, .int (kI (1))), (0, .ref a), (1, .int (kI (s2))), (2, .int (kI ((i : Nat) : Int))), (3, .int (kI ((j : Nat) : Int)))]) hx hb dX3_tooNear_51 hl (by decide) rfl (fun ls hl => ?_)
                  refine lv_iload_n hx hb dX3_tooNear_53 rfl (lv_at hl 2 rfl) ?_
                  refine lv_iload hx hb dX3_tooNear_54 (lv_at hl 0 rfl) ?_
                  refine kx_if_eq (x := 1) (tgt := 90) hx hb dX3_tooNear_56 (by decide) (by omega) (by omega) (fun c_56_22 => ?_) (fun c_56_22 => ?_)
                  · -- taken at 56
                    exfalso; omega
                  · -- not taken at 56
                    have hpi := lb_place hLi (by assumption)
                    have hpj := lb_place hLj (by assumption)
                    have hbt := between_rng hLi hLj hpi.1 hpj.1
                    refine lv_aload_n hx hb dX3_tooNear_59 rfl (lv_at hl 1 rfl) ?_
                    refine lv_iload_n hx hb dX3_tooNear_60 rfl (lv_at hl 3 rfl) ?_
                    refine lv_aload_n hx hb dX3_tooNear_61 rfl (lv_at hl 1 rfl) ?_
                    refine lv_iload_n hx hb dX3_tooNear_62 rfl (lv_at hl 3 rfl) ?_
                    refine kx_iconst hx hb dX3_tooNear_63 ?_
                    refine kx_ci0 (va_runV (As := [.int (kI ((i : Nat) : Int)), .int (kI (3))]) (rest := [.int (kI ((i : Nat) : Int)), .ref a, .int (kI (s2))]) ⟨hx, hb, hml, hown, hts⟩ (of_lb l D H a ([.ref ra, .ref sa, .int (kI ((sn : Nat) : Int)), .ref ka, .int (kI (kb (ik))), .ref ta, .int (kI ((tn : Nat) : Int)), .int (kI (0)), .int (kI (sp)), .int (kI (kb (iw))), .int (kI (le)), .int (kI (fi)), .int (kI (se))]) ra g S gap i hO_a rfl hA_ra (by first | assumption | omega) (by first | assumption | omega) (by first | assumption | omega)) (cwV 2 hts (lw_V q2304 q2306 qs40 q89 q2307) rfl rfl rfl (by decide +kernel) ⟨Nat.le_of_ble_eq_true rfl, Nat.le_of_ble_eq_true rfl⟩) (kx_pv hK hS_17 hB (kx_rc hK hO_a (C := RX3) (T := TX3) (N := 13) rfl)) rfl rfl hl.1 rfl (lv_room (Nat.le_of_ble_eq_true rfl)) dX3_tooNear_64 ⟨by first | exact Nat.le_of_ble_eq_true rfl | omega | (show _ ≤ _; omega) | (dsimp only [headSpec]; omega), by first | exact Nat.le_of_ble_eq_true rfl | omega | (show _ ≤ _; omega) | (dsimp only [headSpec]; omega)⟩) hS_17 (fun z_26 locs_23 hz_25 hS_24 => ?_)
                    subst z_26
                    refine kx_eqi ((((ln_lb (st_ln S i)).toNat : Nat) : Int)) (by omega) ?_
                    refine lv_iload_n hx hb dX3_tooNear_67 rfl (lv_at hl 4 rfl) ?_
                    refine lv_aload_n hx hb dX3_tooNear_68 rfl (lv_at hl 1 rfl) ?_
                    refine lv_iload_n hx hb dX3_tooNear_69 rfl (lv_at hl 4 rfl) ?_
                    refine kx_iconst hx hb dX3_tooNear_70 ?_
                    refine kx_ci0 (va_runV (As := [.int (kI ((j : Nat) : Int)), .int (kI (3))]) (rest := [.int (kI ((j : Nat) : Int)), .int (kI (((ln_lb (st_ln S i)).toNat : Nat) : Int)), .int (kI ((i : Nat) : Int)), .ref a, .int (kI (s2))]) ⟨hx, hb, hml, hown, hts⟩ (of_lb l D H a ([.ref ra, .ref sa, .int (kI ((sn : Nat) : Int)), .ref ka, .int (kI (kb (ik))), .ref ta, .int (kI ((tn : Nat) : Int)), .int (kI (0)), .int (kI (sp)), .int (kI (kb (iw))), .int (kI (le)), .int (kI (fi)), .int (kI (se))]) ra g S gap j hO_a rfl hA_ra (by first | assumption | omega) (by first | assumption | omega) (by first | assumption | omega)) (cwV 2 hts (lw_V q2304 q2306 qs40 q89 q2307) rfl rfl rfl (by decide +kernel) ⟨Nat.le_of_ble_eq_true rfl, Nat.le_of_ble_eq_true rfl⟩) (kx_pv hK hS_24 hB (kx_rc hK hO_a (C := RX3) (T := TX3) (N := 13) rfl)) rfl rfl hl.1 rfl (lv_room (Nat.le_of_ble_eq_true rfl)) dX3_tooNear_71 ⟨by first | exact Nat.le_of_ble_eq_true rfl | omega | (show _ ≤ _; omega) | (dsimp only [headSpec]; omega), by first | exact Nat.le_of_ble_eq_true rfl | omega | (show _ ≤ _; omega) | (dsimp only [headSpec]; omega)⟩) hS_24 (fun z_30 locs_27 hz_29 hS_28 => ?_)
                    subst z_30
                    refine kx_eqi ((((ln_lb (st_ln S j)).toNat : Nat) : Int)) (by omega) ?_
                    refine kx_ci0 (va_runV (As := [.int (kI ((i : Nat) : Int)), .int (kI (((ln_lb (st_ln S i)).toNat : Nat) : Int)), .int (kI ((j : Nat) : Int)), .int (kI (((ln_lb (st_ln S j)).toNat : Nat) : Int))]) (rest := [.int (kI (s2))]) ⟨hx, hb, hml, hown, hts⟩ (m_X3_between l D H a ([.ref ra, .ref sa, .int (kI ((sn : Nat) : Int)), .ref ka, .int (kI (kb (ik))), .ref ta, .int (kI ((tn : Nat) : Int)), .int (kI (0)), .int (kI (sp)), .int (kI (kb (iw))), .int (kI (le)), .int (kI (fi)), .int (kI (se))]) ra g S gap i ((ln_lb (st_ln S i)).toNat) j ((ln_lb (st_ln S j)).toNat) hO_a rfl hA_ra (by first | assumption | omega) (by first | assumption | omega) (by first | assumption | omega) (by first | assumption | omega) (by first | assumption | omega) (by first | assumption | omega)) (cwV 4 hts (lw_V q2371 q2373 qs53 q89 q2374) rfl rfl rfl (by decide +kernel) ⟨Nat.le_of_ble_eq_true rfl, Nat.le_of_ble_eq_true rfl⟩) (kx_pv hK hS_28 hB (kx_rc hK hO_a (C := RX3) (T := TX3) (N := 13) rfl)) rfl rfl hl.1 rfl (lv_room (Nat.le_of_ble_eq_true rfl)) dX3_tooNear_74 ⟨by first | exact Nat.le_of_ble_eq_true rfl | omega | (show _ ≤ _; omega) | (dsimp only [headSpec]; omega), by first | exact Nat.le_of_ble_eq_true rfl | omega | (show _ ≤ _; omega) | (dsimp only [headSpec]; omega)⟩) hS_28 (fun z_34 locs_31 hz_33 hS_32 => ?_)
                    subst z_34
                    refine lv_aload_n hx hb dX3_tooNear_77 rfl (lv_at hl 1 rfl) ?_
                    refine kx_get (v := .ref ra) (C := RX3) (T := TX3) (N := 13) hx hb hts in_X3 hown hK hO_a rfl 0 (by decide) q2238 (fun _ h9 => h9) rfl dX3_tooNear_78 ?_
                    refine kx_iconst hx hb dX3_tooNear_81 ?_
                    refine kx_iald (i := 1) hx hb hK hA_ra 1 (rfl) (by omega) (by omega) dX3_tooNear_82 ?_
                    refine kx_eqi (gap) (hgp) ?_
                    refine kx_icmp_ge (x := between (st_ln S i) ((ln_lb (st_ln S i)).toNat) (st_ln S j) ((ln_lb (st_ln S j)).toNat)) (y := gap) (tgt := 90) hx hb dX3_tooNear_83 (by decide) (by omega) (by omega) (by omega) (by omega) (fun c_83_35 => ?_) (fun c_83_35 => ?_)
                    · -- taken at 83
                      refine kx_iconst hx hb dX3_tooNear_90 ?_
                      refine kx_iadd hx hb dX3_tooNear_91 ?_
                      refine lv_istore_n (lv' := [(1, .int (kI ((s2 + 0)))), (4, .int (kI (1))), (0, .ref a), (2, .int (kI ((i : Nat) : Int))), (3, .int (kI ((j : Nat) : Int)))]) hx hb dX3_tooNear_92 rfl hl (by decide) rfl (fun ls hl => ?_)
                      refine lv_iinc (v := kI (((j + 1 : Nat) : Int))) (lv' := [(3, .int (kI ((j + 1 : Nat) : Int))), (1, .int (kI ((s2 + 0)))), (4, .int (kI (1))), (0, .ref a), (2, .int (kI ((i : Nat) : Int)))]) hx hb dX3_tooNear_93 hl (k := 4) rfl (kI_incN _ _) (by decide) rfl (fun ls hl => ?_)
                      refine lv_goto (tgt := 21) hx hb dX3_tooNear_96 (by decide) ?_
                      exact ih_21  (j + 1) ((s2 + 0)) H hO_a hA_ra (by first | assumption | omega | (simp_all; done) | grind) (by rw [st_nearIn, ← hs2]; first | (rw [if_pos ⟨by assumption, by assumption, by assumption⟩]; done) | (rw [if_neg (by grind)]; done)) _ hS_32 (by omega) ls (lv_sub hl [3, 1, 4, 0] rfl)
                    · -- not taken at 83
                      refine kx_iconst hx hb dX3_tooNear_86 ?_
                      refine lv_goto (tgt := 91) hx hb dX3_tooNear_87 (by decide) ?_
                      refine kx_iadd hx hb dX3_tooNear_91 ?_
                      refine lv_istore_n (lv' := [(1, .int (kI ((s2 + 1)))), (4, .int (kI (1))), (0, .ref a), (2, .int (kI ((i : Nat) : Int))), (3, .int (kI ((j : Nat) : Int)))]) hx hb dX3_tooNear_92 rfl hl (by decide) rfl (fun ls hl => ?_)
                      refine lv_iinc (v := kI (((j + 1 : Nat) : Int))) (lv' := [(3, .int (kI ((j + 1 : Nat) : Int))), (1, .int (kI ((s2 + 1)))), (4, .int (kI (1))), (0, .ref a), (2, .int (kI ((i : Nat) : Int)))]) hx hb dX3_tooNear_93 hl (k := 4) rfl (kI_incN _ _) (by decide) rfl (fun ls hl => ?_)
                      refine lv_goto (tgt := 21) hx hb dX3_tooNear_96 (by decide) ?_
                      exact ih_21  (j + 1) ((s2 + 1)) H hO_a hA_ra (by first | assumption | omega | (simp_all; done) | grind) (by rw [st_nearIn, ← hs2]; first | (rw [if_pos ⟨by assumption, by assumption, by assumption⟩]; done) | (rw [if_neg (by grind)]; done)) _ hS_32 (by omega) ls (lv_sub hl [3, 1, 4, 0] rfl)
        exact lp_21_x_8 (i - 0 + 1) 0 sm H hO_a hA_ra (by first | assumption | omega | (simp_all; done) | grind) (rfl) _ hS (Nat.lt_succ_self _) ls (lv_sub hl [1, 2, 3, 0] rfl)
  have h_36 := hA_ra.up hU_1 (by first | assumption | exact Ne.symm (by assumption) | omega)
  exact lp_9_x_6 (S.length - 0 + 1) 0 0 H_3 hO_2 h_36 (by first | assumption | omega | (simp_all; done) | grind) (rfl) _ hS_5 (Nat.lt_succ_self _) ls (lv_sub hl [2, 1, 0] rfl)

