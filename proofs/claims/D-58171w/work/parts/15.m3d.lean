set_option maxHeartbeats 4000000 in
set_option maxRecDepth 100000 in
theorem m_X3_fails (l : Launch) (D : kG) (H : Heap) (a : Nat) (ra : Nat) (sa : Nat) (ka : Nat) (ta : Nat) (sn : Nat) (ik : Bool) (tn : Nat) (th : Int) (sp : Int) (iw : Bool) (le : Int) (fi : Int) (se : Int) (x : Int) (hO_a : kO D H a 2 [.ref ra, .ref sa, .int (kI ((sn : Nat) : Int)), .ref ka, .int (kI (kb (ik))), .ref ta, .int (kI ((tn : Nat) : Int)), .int (kI (th)), .int (kI (sp)), .int (kI (kb (iw))), .int (kI (le)), .int (kI (fi)), .int (kI (se))]) (bs_a : kBase D ≤ a) : Met l yX3_fails (ws_ yX3_fails cX3_fails 2 (some .int)) ({ frames := 0, cells := 0, slots := 0, locals := 0 } : Room) (kPre D H [.ref a, .int (kI (x))]) (kQi (fun (r : Int) H' => (r = 0) ∧ (kO D H' a 2 [.ref ra, .ref sa, .int (kI ((sn : Nat) : Int)), .ref ka, .int (kI (kb (ik))), .ref ta, .int (kI ((tn : Nat) : Int)), .int (kI (x)), .int (kI (sp)), .int (kI (kb (iw))), .int (kI (le)), .int (kI (fi)), .int (kI (se))])) (fun q : Nat => q = a)) (0) (0) ((fun q : Nat => q = a)) := by
  refine Met.ofW (cc := cX3_fails) (maxL := 2) (ret := (some .int)) (by decide) rfl ?_
  intro p e s m args below meth c s₁ B hml hv
  obtain ⟨rfl, hH, hK⟩ := hv
  subst hH
  have hx := B.exec
  have hb := B.bytes
  have hr := B.returns
  have hts := atoms_spec (ws := ws_ yX3_fails cX3_fails 2 (some .int)) B.pre
  have hts : ∀ w ∈ lw_all, w.before _ s = true := fun w h => hts w (List.mem_cons_of_mem _ h)
  have hown : s.vm.findClass RX3 = some m.cls := findClass_of_methodNamed B.named
  have hlk := B.notSynchronized
  have hS : va_S (fun q : Nat => q = a) s.heap s.heap [] := va_S.rf
  have hB : ∀ q, (fun q : Nat => q = a) q → kBase D ≤ q := fun q h => by (try dsimp only at h); (try simp only [kNW] at h); have hks := hK.size; omega
  have hl := lv_entry ([.ref a, .int (kI (x))]) (n := 2) (Nat.le_of_ble_eq_true rfl)
  rw [lg_entry_eq]
  generalize (lg_sl ([.ref a, .int (kI (x))]) ++ List.replicate (2 - (lg_sl ([.ref a, .int (kI (x))])).length) Slot.unset).toArray = ls at hl ⊢
  have hl : lv_has ls 2 [(0, .ref a), (1, .int (kI (x)))] := hl
  refine lv_aload_n hx hb dX3_fails_0 rfl (lv_at hl 0 rfl) ?_
  refine lv_iload_n hx hb dX3_fails_1 rfl (lv_at hl 1 rfl) ?_
  refine kx_put (v := .int (kI (x))) (C := RX3) (T := TX3) (N := 13) hx hb hts in_X3 hown hK hO_a rfl 7 (by decide) tyX3 tyX3_ok nmX3 hS (by first | rfl | exact Or.inl rfl | exact Or.inr rfl | exact Or.inr (Or.inl rfl) | exact Or.inr (Or.inr rfl) | exact Or.inr (Or.inr (Or.inl rfl)) | exact Or.inr (Or.inr (Or.inr rfl)) | ((try dsimp only); (try simp only [kNW]); omega)) q2245 (fun _ h9 => h9) rfl rfl rfl rfl (Nat.le_of_ble_eq_true rfl) dX3_fails_2 (fun H_3 locs_4 hO_2 hU_1 hS_5 => ?_)
  have hO_2 : kO D H_3 a 2 [.ref ra, .ref sa, .int (kI ((sn : Nat) : Int)), .ref ka, .int (kI (kb (ik))), .ref ta, .int (kI ((tn : Nat) : Int)), .int (kI (x)), .int (kI (sp)), .int (kI (kb (iw))), .int (kI (le)), .int (kI (fi)), .int (kI (se))] := hO_2
  refine kx_iconst hx hb dX3_fails_5 ?_
  exact kx_iret (z := 0) hx hb hr hlk (⟨by first | rfl | omega | grind, hO_2⟩) hS_5 dX3_fails_6

set_option maxHeartbeats 4000000 in
set_option maxRecDepth 100000 in
theorem m_X3_puts (l : Launch) (D : kG) (H : Heap) (a : Nat) (fs : List Value) (ra : Nat) (g : Nat → Int) (x : Int) (w : Int) (v : Int) (i : Nat) (hO_a : kO D H a 2 fs) (hf_a_0 : fs[0]? = some (.ref ra)) (hA_ra : kAi D H ra 514 g) (hi : 2 + 64 * x + w = (i : Int)) (hlt : i < 514) (bs_ra : kBase D ≤ ra) : Met l yX3_puts (ws_ yX3_puts cX3_puts 4 none) ({ frames := 0, cells := 0, slots := 0, locals := 0 } : Room) (kPre D H [.ref a, .int (kI (x)), .int (kI (w)), .int (kI (v))]) (kQv (fun H' => (kAi D H' ra 514 (kup g i v))) (fun q : Nat => q = ra)) (0) (0) ((fun q : Nat => q = ra)) := by
  refine Met.ofW (cc := cX3_puts) (maxL := 4) (ret := none) (by decide) rfl ?_
  intro p e s m args below meth c s₁ B hml hv
  obtain ⟨rfl, hH, hK⟩ := hv
  subst hH
  have hx := B.exec
  have hb := B.bytes
  have hr := B.returns
  have hts := atoms_spec (ws := ws_ yX3_puts cX3_puts 4 none) B.pre
  have hts : ∀ w ∈ lw_all, w.before _ s = true := fun w h => hts w (List.mem_cons_of_mem _ h)
  have hown : s.vm.findClass RX3 = some m.cls := findClass_of_methodNamed B.named
  have hlk := B.notSynchronized
  have hS : va_S (fun q : Nat => q = ra) s.heap s.heap [] := va_S.rf
  have hB : ∀ q, (fun q : Nat => q = ra) q → kBase D ≤ q := fun q h => by (try dsimp only at h); (try simp only [kNW] at h); have hks := hK.size; omega
  have hl := lv_entry ([.ref a, .int (kI (x)), .int (kI (w)), .int (kI (v))]) (n := 4) (Nat.le_of_ble_eq_true rfl)
  rw [lg_entry_eq]
  generalize (lg_sl ([.ref a, .int (kI (x)), .int (kI (w)), .int (kI (v))]) ++ List.replicate (4 - (lg_sl ([.ref a, .int (kI (x)), .int (kI (w)), .int (kI (v))])).length) Slot.unset).toArray = ls at hl ⊢
  have hl : lv_has ls 4 [(0, .ref a), (1, .int (kI (x))), (2, .int (kI (w))), (3, .int (kI (v)))] := hl
  refine lv_aload_n hx hb dX3_puts_0 rfl (lv_at hl 0 rfl) ?_
  refine kx_get (v := .ref ra) (C := RX3) (T := TX3) (N := 13) hx hb hts in_X3 hown hK hO_a rfl 0 (by decide) q2238 (fun _ h9 => h9) hf_a_0 dX3_puts_1 ?_
  refine kx_iconst hx hb dX3_puts_4 ?_
  refine kx_bipush hx hb (by decide) dX3_puts_5 ?_
  refine lv_iload_n hx hb dX3_puts_7 rfl (lv_at hl 1 rfl) ?_
  refine kx_imul hx hb dX3_puts_8 ?_
  refine kx_iadd hx hb dX3_puts_9 ?_
  refine lv_iload_n hx hb dX3_puts_10 rfl (lv_at hl 2 rfl) ?_
  refine kx_iadd hx hb dX3_puts_11 ?_
  refine lv_iload_n hx hb dX3_puts_12 rfl (lv_at hl 3 rfl) ?_
  refine kx_iast (i := ((2 + (64 * x)) + w)) (x := v) hx hb hK hA_ra hS (by first | rfl | exact Or.inl rfl | exact Or.inr rfl | exact Or.inr (Or.inl rfl) | exact Or.inr (Or.inr rfl) | exact Or.inr (Or.inr (Or.inl rfl)) | exact Or.inr (Or.inr (Or.inr rfl)) | ((try dsimp only); (try simp only [kNW]); omega)) i (hi) (by omega) (by omega) dX3_puts_13 (fun H_3 locs_4 hA_2 hU_1 hS_5 => ?_)
  exact kx_vret hx hb hr hlk (hA_2) hS_5 dX3_puts_14

set_option maxHeartbeats 4000000 in
set_option maxRecDepth 100000 in
theorem m_X3_records (l : Launch) (D : kG) (H : Heap) (a : Nat) (ra : Nat) (sa : Nat) (ka : Nat) (ta : Nat) (sn : Nat) (ik : Bool) (tn : Nat) (th : Int) (sp : Int) (iw : Bool) (le : Int) (fi : Int) (se : Int) (g : Nat → Int) (gs : Nat → Int) (hO_a : kO D H a 2 [.ref ra, .ref sa, .int (kI ((sn : Nat) : Int)), .ref ka, .int (kI (kb (ik))), .ref ta, .int (kI ((tn : Nat) : Int)), .int (kI (th)), .int (kI (sp)), .int (kI (kb (iw))), .int (kI (le)), .int (kI (fi)), .int (kI (se))]) (hA_ra : kAi D H ra 514 g) (hA_sa : kAi D H sa 2570 gs) (hsn : sn ≤ 5) (ne_a_ra : a ≠ ra) (ne_a_sa : a ≠ sa) (ne_ra_sa : ra ≠ sa) (bs_a : kBase D ≤ a) (bs_sa : kBase D ≤ sa) : Met l yX3_records (ws_ yX3_records cX3_records 2 none) ({ frames := 0, cells := 0, slots := 0, locals := 0 } : Room) (kPre D H [.ref a]) (kQv (fun H' => ∃ (gs2 : Nat → Int) (sn2 : Nat), (kO D H' a 2 [.ref ra, .ref sa, .int (kI ((sn2 : Nat) : Int)), .ref ka, .int (kI (kb (ik))), .ref ta, .int (kI ((tn : Nat) : Int)), .int (kI (th)), .int (kI (sp)), .int (kI (kb (iw))), .int (kI (le)), .int (kI (fi)), .int (kI (se))]) ∧ (kAi D H' sa 2570 gs2) ∧ (sn2 = (if sn = 5 then 4 else sn) + 1) ∧ (∀ j, j < 514 * (if sn = 5 then 4 else sn) → gs2 j = gs (j + 514 * (if sn = 5 then 1 else 0))) ∧ (∀ j, j < 514 → gs2 (514 * (if sn = 5 then 4 else sn) + j) = g j)) (fun q : Nat => q = a ∨ q = sa)) (0) (0) ((fun q : Nat => q = a ∨ q = sa)) := by
  refine Met.ofW (cc := cX3_records) (maxL := 2) (ret := none) (by decide) rfl ?_
  intro p e s m args below meth c s₁ B hml hv
  obtain ⟨rfl, hH, hK⟩ := hv
  subst hH
  have hx := B.exec
  have hb := B.bytes
  have hr := B.returns
  have hts := atoms_spec (ws := ws_ yX3_records cX3_records 2 none) B.pre
  have hts : ∀ w ∈ lw_all, w.before _ s = true := fun w h => hts w (List.mem_cons_of_mem _ h)
  have hown : s.vm.findClass RX3 = some m.cls := findClass_of_methodNamed B.named
  have hlk := B.notSynchronized
  have hS : va_S (fun q : Nat => q = a ∨ q = sa) s.heap s.heap [] := va_S.rf
  have hB : ∀ q, (fun q : Nat => q = a ∨ q = sa) q → kBase D ≤ q := fun q h => by (try dsimp only at h); (try simp only [kNW] at h); have hks := hK.size; omega
  have hl := lv_entry ([.ref a]) (n := 2) (Nat.le_of_ble_eq_true rfl)
  rw [lg_entry_eq]
  generalize (lg_sl ([.ref a]) ++ List.replicate (2 - (lg_sl ([.ref a])).length) Slot.unset).toArray = ls at hl ⊢
  have hl : lv_has ls 2 [(0, .ref a)] := hl
  refine lv_aload_n hx hb dX3_records_0 rfl (lv_at hl 0 rfl) ?_
  refine kx_get (v := .int (kI ((sn : Nat) : Int))) (C := RX3) (T := TX3) (N := 13) hx hb hts in_X3 hown hK hO_a rfl 2 (by decide) q2240 (fun _ h9 => h9) rfl dX3_records_1 ?_
  refine kx_iconst hx hb dX3_records_4 ?_
  refine kx_icmp_ne (x := ((sn : Nat) : Int)) (y := 5) (tgt := 49) hx hb dX3_records_5 (by decide) (by omega) (by omega) (by omega) (by omega) (fun c_5_1 => ?_) (fun c_5_1 => ?_)
  · -- taken at 5
    refine kx_iconst hx hb dX3_records_49 ?_
    refine lv_istore_n (lv' := [(1, .int (kI (0))), (0, .ref a)]) hx hb dX3_records_50 rfl hl (by decide) rfl (fun ls hl => ?_)
    have lp_51_x_2 : ∀ (n_51 : Nat) (k : Nat) (g2 : Nat → Int) (sn3 : Nat) (b : Nat) (H : Heap) (hO_a : kO D H a 2 [.ref ra, .ref sa, .int (kI ((sn3 : Nat) : Int)), .ref ka, .int (kI (kb (ik))), .ref ta, .int (kI ((tn : Nat) : Int)), .int (kI (th)), .int (kI (sp)), .int (kI (kb (iw))), .int (kI (le)), .int (kI (fi)), .int (kI (se))]) (hA_ra : kAi D H ra 514 g) (hA_sa : kAi D H sa 2570 g2) (hk : k ≤ 514) (hb3 : b = if sn = 5 then 1 else 0) (hsn3 : sn3 = if sn = 5 then 4 else sn) (hs4 : sn3 ≤ 4) (h3 : ∀ j, j < k → g2 (514 * sn3 + j) = g j) (h4 : ∀ j, j < 514 * sn3 → g2 j = gs (j + 514 * b)) (locs : List Loc) (hS : va_S (fun q : Nat => q = a ∨ q = sa) s.heap H locs) (hm_51 : 514 - k < n_51) (ls : Array Slot), lv_has ls 2 [(0, .ref a), (1, .int (kI ((k : Nat) : Int)))] → W p l e (headSpec (ws_ yX3_records cX3_records 2 none) ({ frames := 0, cells := 0, slots := 0, locals := 0 } : Room)).room s m ([.ref a] : List Value).toArray below meth c H locs (0) (0) (MQ below (kQv (fun H' => ∃ (gs2 : Nat → Int) (sn2 : Nat), (kO D H' a 2 [.ref ra, .ref sa, .int (kI ((sn2 : Nat) : Int)), .ref ka, .int (kI (kb (ik))), .ref ta, .int (kI ((tn : Nat) : Int)), .int (kI (th)), .int (kI (sp)), .int (kI (kb (iw))), .int (kI (le)), .int (kI (fi)), .int (kI (se))]) ∧ (kAi D H' sa 2570 gs2) ∧ (sn2 = (if sn = 5 then 4 else sn) + 1) ∧ (∀ j, j < 514 * (if sn = 5 then 4 else sn) → gs2 j = gs (j + 514 * (if sn = 5 then 1 else 0))) ∧ (∀ j, j < 514 → gs2 (514 * (if sn = 5 then 4 else sn) + j) = g j)) (fun q : Nat => q = a ∨ q = sa)) ([.ref a] : List Value).toArray s (0) (0) ((fun q : Nat => q = a ∨ q = sa))) (F0 m 51 ls []) := by
      intro n_51
      induction n_51 with
      | zero => intro k g2 sn3 b H hO_a hA_ra hA_sa hk hb3 hsn3 hs4 h3 h4 locs hS hm_51; exact absurd hm_51 (Nat.not_lt_zero _)
      | succ n_51 ih_51 =>
        intro k g2 sn3 b H hO_a hA_ra hA_sa hk hb3 hsn3 hs4 h3 h4 locs hS hm_51 ls hl
        refine lv_iload_n hx hb dX3_records_51 rfl (lv_at hl 1 rfl) ?_
        refine kx_sipush hx hb (by decide) dX3_records_52 ?_
        refine kx_icmp_ge (x := ((k : Nat) : Int)) (y := 514) (tgt := 85) hx hb dX3_records_55 (by decide) (by omega) (by omega) (by omega) (by omega) (fun c_55_3 => ?_) (fun c_55_3 => ?_)
        · -- taken at 55
          refine lv_aload_n hx hb dX3_records_85 rfl (lv_at hl 0 rfl) ?_
          refine lv_dup hx hb dX3_records_86 rfl ?_
          refine kx_get (v := .int (kI ((sn3 : Nat) : Int))) (C := RX3) (T := TX3) (N := 13) hx hb hts in_X3 hown hK hO_a rfl 2 (by decide) q2240 (fun _ h9 => h9) rfl dX3_records_87 ?_
          refine kx_iconst hx hb dX3_records_90 ?_
          refine kx_iadd hx hb dX3_records_91 ?_
          refine kx_eqi (((sn3 + 1 : Nat) : Int)) (by omega) ?_
          refine kx_put (v := .int (kI ((sn3 + 1 : Nat) : Int))) (C := RX3) (T := TX3) (N := 13) hx hb hts in_X3 hown hK hO_a rfl 2 (by decide) tyX3 tyX3_ok nmX3 hS (by first | rfl | exact Or.inl rfl | exact Or.inr rfl | exact Or.inr (Or.inl rfl) | exact Or.inr (Or.inr rfl) | exact Or.inr (Or.inr (Or.inl rfl)) | exact Or.inr (Or.inr (Or.inr rfl)) | ((try dsimp only); (try simp only [kNW]); omega)) q2240 (fun _ h9 => h9) rfl rfl rfl rfl (Nat.le_of_ble_eq_true rfl) dX3_records_92 (fun H_6 locs_7 hO_5 hU_4 hS_8 => ?_)
          have hO_5 : kO D H_6 a 2 [.ref ra, .ref sa, .int (kI ((sn3 + 1 : Nat) : Int)), .ref ka, .int (kI (kb (ik))), .ref ta, .int (kI ((tn : Nat) : Int)), .int (kI (th)), .int (kI (sp)), .int (kI (kb (iw))), .int (kI (le)), .int (kI (fi)), .int (kI (se))] := hO_5
          have h_9 := hA_sa.up hU_4 (by first | assumption | exact Ne.symm (by assumption) | omega)
          exact kx_vret hx hb hr hlk (⟨g2, (sn3 + 1), hO_5, h_9, by rw [← hsn3], by intro j hj; rw [← hsn3] at hj; rw [← hb3]; exact h4 j hj, by intro j hj; rw [← hsn3]; exact h3 j (by omega)⟩) hS_8 dX3_records_95
        · -- not taken at 55
          refine lv_aload_n hx hb dX3_records_58 rfl (lv_at hl 0 rfl) ?_
          refine kx_get (v := .ref sa) (C := RX3) (T := TX3) (N := 13) hx hb hts in_X3 hown hK hO_a rfl 1 (by decide) q2239 (fun _ h9 => h9) rfl dX3_records_59 ?_
          refine kx_sipush hx hb (by decide) dX3_records_62 ?_
          refine lv_aload_n hx hb dX3_records_65 rfl (lv_at hl 0 rfl) ?_
          refine kx_get (v := .int (kI ((sn3 : Nat) : Int))) (C := RX3) (T := TX3) (N := 13) hx hb hts in_X3 hown hK hO_a rfl 2 (by decide) q2240 (fun _ h9 => h9) rfl dX3_records_66 ?_
          refine kx_imul hx hb dX3_records_69 ?_
          refine lv_iload_n hx hb dX3_records_70 rfl (lv_at hl 1 rfl) ?_
          refine kx_iadd hx hb dX3_records_71 ?_
          refine lv_aload_n hx hb dX3_records_72 rfl (lv_at hl 0 rfl) ?_
          refine kx_get (v := .ref ra) (C := RX3) (T := TX3) (N := 13) hx hb hts in_X3 hown hK hO_a rfl 0 (by decide) q2238 (fun _ h9 => h9) rfl dX3_records_73 ?_
          refine lv_iload_n hx hb dX3_records_76 rfl (lv_at hl 1 rfl) ?_
          refine kx_iald (i := ((k : Nat) : Int)) hx hb hK hA_ra k (rfl) (by omega) (by omega) dX3_records_77 ?_
          refine kx_iast (i := ((514 * ((sn3 : Nat) : Int)) + ((k : Nat) : Int))) (x := (g k)) hx hb hK hA_sa hS (by first | rfl | exact Or.inl rfl | exact Or.inr rfl | exact Or.inr (Or.inl rfl) | exact Or.inr (Or.inr rfl) | exact Or.inr (Or.inr (Or.inl rfl)) | exact Or.inr (Or.inr (Or.inr rfl)) | ((try dsimp only); (try simp only [kNW]); omega)) (514 * sn3 + k) (by omega) (by omega) (by omega) dX3_records_78 (fun H_12 locs_13 hA_11 hU_10 hS_14 => ?_)
          refine lv_iinc (v := kI (((k + 1 : Nat) : Int))) (lv' := [(1, .int (kI ((k + 1 : Nat) : Int))), (0, .ref a)]) hx hb dX3_records_79 hl (k := 1) rfl (kI_incN _ _) (by decide) rfl (fun ls hl => ?_)
          refine lv_goto (tgt := 51) hx hb dX3_records_82 (by decide) ?_
          have h_15 := hO_a.up hU_10 (by first | assumption | exact Ne.symm (by assumption) | omega)
          have h_16 := hA_ra.up hU_10 (by first | assumption | exact Ne.symm (by assumption) | omega)
          exact ih_51  (k + 1) (kup g2 (514 * sn3 + k) ((g k))) sn3 b H_12 h_15 h_16 hA_11 (by first | assumption | omega | (simp_all; done) | grind) (hb3) (hsn3) (hs4) (fun j hj => by unfold kup; split <;> first | (rw [show j = k by omega]; done) | exact h3 j (by omega)) (fun j hj => by rw [kup_ne (by omega)]; exact h4 j hj) _ hS_14 (by omega) ls (lv_sub hl [1, 0] rfl)
    exact lp_51_x_2 (514 - 0 + 1) 0 gs sn ((if sn = 5 then 1 else 0)) s.heap hO_a hA_ra hA_sa (by first | assumption | omega | (simp_all; done) | grind) (rfl) (by first | (rw [if_pos (by omega)]) | (rw [if_neg (by omega)])) (by first | omega | (split <;> omega)) (fun j hj => absurd hj (Nat.not_lt_zero j)) (fun j hj => by first | (rw [if_pos (by omega)]; exact h1 j (by omega)) | (rw [if_neg (by omega)]; rfl)) _ hS (Nat.lt_succ_self _) ls (lv_sub hl [1, 0] rfl)
  · -- not taken at 5
    refine kx_iconst hx hb dX3_records_8 ?_
    refine lv_istore_n (lv' := [(1, .int (kI (0))), (0, .ref a)]) hx hb dX3_records_9 rfl hl (by decide) rfl (fun ls hl => ?_)
    have lp_10_x_17 : ∀ (n_10 : Nat) (k : Nat) (g1 : Nat → Int) (H : Heap) (hO_a : kO D H a 2 [.ref ra, .ref sa, .int (kI ((sn : Nat) : Int)), .ref ka, .int (kI (kb (ik))), .ref ta, .int (kI ((tn : Nat) : Int)), .int (kI (th)), .int (kI (sp)), .int (kI (kb (iw))), .int (kI (le)), .int (kI (fi)), .int (kI (se))]) (hA_ra : kAi D H ra 514 g) (hA_sa : kAi D H sa 2570 g1) (hk : k ≤ 2056) (h1 : ∀ j, j < k → g1 j = gs (j + 514)) (h2 : ∀ j, k ≤ j → g1 j = gs j) (locs : List Loc) (hS : va_S (fun q : Nat => q = a ∨ q = sa) s.heap H locs) (hm_10 : 2056 - k < n_10) (ls : Array Slot), lv_has ls 2 [(0, .ref a), (1, .int (kI ((k : Nat) : Int)))] → W p l e (headSpec (ws_ yX3_records cX3_records 2 none) ({ frames := 0, cells := 0, slots := 0, locals := 0 } : Room)).room s m ([.ref a] : List Value).toArray below meth c H locs (0) (0) (MQ below (kQv (fun H' => ∃ (gs2 : Nat → Int) (sn2 : Nat), (kO D H' a 2 [.ref ra, .ref sa, .int (kI ((sn2 : Nat) : Int)), .ref ka, .int (kI (kb (ik))), .ref ta, .int (kI ((tn : Nat) : Int)), .int (kI (th)), .int (kI (sp)), .int (kI (kb (iw))), .int (kI (le)), .int (kI (fi)), .int (kI (se))]) ∧ (kAi D H' sa 2570 gs2) ∧ (sn2 = (if sn = 5 then 4 else sn) + 1) ∧ (∀ j, j < 514 * (if sn = 5 then 4 else sn) → gs2 j = gs (j + 514 * (if sn = 5 then 1 else 0))) ∧ (∀ j, j < 514 → gs2 (514 * (if sn = 5 then 4 else sn) + j) = g j)) (fun q : Nat => q = a ∨ q = sa)) ([.ref a] : List Value).toArray s (0) (0) ((fun q : Nat => q = a ∨ q = sa))) (F0 m 10 ls []) := by
      intro n_10
      induction n_10 with
      | zero => intro k g1 H hO_a hA_ra hA_sa hk h1 h2 locs hS hm_10; exact absurd hm_10 (Nat.not_lt_zero _)
      | succ n_10 ih_10 =>
        intro k g1 H hO_a hA_ra hA_sa hk h1 h2 locs hS hm_10 ls hl
        refine lv_iload_n hx hb dX3_records_10 rfl (lv_at hl 1 rfl) ?_
        refine kx_sipush hx hb (by decide) dX3_records_11 ?_
        refine kx_icmp_ge (x := ((k : Nat) : Int)) (y := 2056) (tgt := 39) hx hb dX3_records_14 (by decide) (by omega) (by omega) (by omega) (by omega) (fun c_14_18 => ?_) (fun c_14_18 => ?_)
        · -- taken at 14
          refine lv_aload_n hx hb dX3_records_39 rfl (lv_at hl 0 rfl) ?_
          refine lv_dup hx hb dX3_records_40 rfl ?_
          refine kx_get (v := .int (kI ((sn : Nat) : Int))) (C := RX3) (T := TX3) (N := 13) hx hb hts in_X3 hown hK hO_a rfl 2 (by decide) q2240 (fun _ h9 => h9) rfl dX3_records_41 ?_
          refine kx_iconst hx hb dX3_records_44 ?_
          refine kx_isub hx hb dX3_records_45 ?_
          refine kx_eqi (((4 : Nat) : Int)) (by omega) ?_
          refine kx_put (v := .int (kI ((4 : Nat) : Int))) (C := RX3) (T := TX3) (N := 13) hx hb hts in_X3 hown hK hO_a rfl 2 (by decide) tyX3 tyX3_ok nmX3 hS (by first | rfl | exact Or.inl rfl | exact Or.inr rfl | exact Or.inr (Or.inl rfl) | exact Or.inr (Or.inr rfl) | exact Or.inr (Or.inr (Or.inl rfl)) | exact Or.inr (Or.inr (Or.inr rfl)) | ((try dsimp only); (try simp only [kNW]); omega)) q2240 (fun _ h9 => h9) rfl rfl rfl rfl (Nat.le_of_ble_eq_true rfl) dX3_records_46 (fun H_21 locs_22 hO_20 hU_19 hS_23 => ?_)
          have hO_20 : kO D H_21 a 2 [.ref ra, .ref sa, .int (kI ((4 : Nat) : Int)), .ref ka, .int (kI (kb (ik))), .ref ta, .int (kI ((tn : Nat) : Int)), .int (kI (th)), .int (kI (sp)), .int (kI (kb (iw))), .int (kI (le)), .int (kI (fi)), .int (kI (se))] := hO_20
          refine kx_iconst hx hb dX3_records_49 ?_
          refine lv_istore_n (lv' := [(1, .int (kI (0))), (0, .ref a)]) hx hb dX3_records_50 rfl hl (by decide) rfl (fun ls hl => ?_)
          have lp_51_x_24 : ∀ (n_51 : Nat) (k : Nat) (g2 : Nat → Int) (sn3 : Nat) (b : Nat) (H : Heap) (hO_a : kO D H a 2 [.ref ra, .ref sa, .int (kI ((sn3 : Nat) : Int)), .ref ka, .int (kI (kb (ik))), .ref ta, .int (kI ((tn : Nat) : Int)), .int (kI (th)), .int (kI (sp)), .int (kI (kb (iw))), .int (kI (le)), .int (kI (fi)), .int (kI (se))]) (hA_ra : kAi D H ra 514 g) (hA_sa : kAi D H sa 2570 g2) (hk : k ≤ 514) (hb3 : b = if sn = 5 then 1 else 0) (hsn3 : sn3 = if sn = 5 then 4 else sn) (hs4 : sn3 ≤ 4) (h3 : ∀ j, j < k → g2 (514 * sn3 + j) = g j) (h4 : ∀ j, j < 514 * sn3 → g2 j = gs (j + 514 * b)) (locs : List Loc) (hS : va_S (fun q : Nat => q = a ∨ q = sa) s.heap H locs) (hm_51 : 514 - k < n_51) (ls : Array Slot), lv_has ls 2 [(0, .ref a), (1, .int (kI ((k : Nat) : Int)))] → W p l e (headSpec (ws_ yX3_records cX3_records 2 none) ({ frames := 0, cells := 0, slots := 0, locals := 0 } : Room)).room s m ([.ref a] : List Value).toArray below meth c H locs (0) (0) (MQ below (kQv (fun H' => ∃ (gs2 : Nat → Int) (sn2 : Nat), (kO D H' a 2 [.ref ra, .ref sa, .int (kI ((sn2 : Nat) : Int)), .ref ka, .int (kI (kb (ik))), .ref ta, .int (kI ((tn : Nat) : Int)), .int (kI (th)), .int (kI (sp)), .int (kI (kb (iw))), .int (kI (le)), .int (kI (fi)), .int (kI (se))]) ∧ (kAi D H' sa 2570 gs2) ∧ (sn2 = (if sn = 5 then 4 else sn) + 1) ∧ (∀ j, j < 514 * (if sn = 5 then 4 else sn) → gs2 j = gs (j + 514 * (if sn = 5 then 1 else 0))) ∧ (∀ j, j < 514 → gs2 (514 * (if sn = 5 then 4 else sn) + j) = g j)) (fun q : Nat => q = a ∨ q = sa)) ([.ref a] : List Value).toArray s (0) (0) ((fun q : Nat => q = a ∨ q = sa))) (F0 m 51 ls []) := by
            intro n_51
            induction n_51 with
            | zero => intro k g2 sn3 b H hO_a hA_ra hA_sa hk hb3 hsn3 hs4 h3 h4 locs hS hm_51; exact absurd hm_51 (Nat.not_lt_zero _)
            | succ n_51 ih_51 =>
              intro k g2 sn3 b H hO_a hA_ra hA_sa hk hb3 hsn3 hs4 h3 h4 locs hS hm_51 ls hl
              refine lv_iload_n hx hb dX3_records_51 rfl (lv_at hl 1 rfl) ?_
              refine kx_sipush hx hb (by decide) dX3_records_52 ?_
              refine kx_icmp_ge (x := ((k : Nat) : Int)) (y := 514) (tgt := 85) hx hb dX3_records_55 (by decide) (by omega) (by omega) (by omega) (by omega) (fun c_55_25 => ?_) (fun c_55_25 => ?_)
              · -- taken at 55
                refine lv_aload_n hx hb dX3_records_85 rfl (lv_at hl 0 rfl) ?_
                refine lv_dup hx hb dX3_records_86 rfl ?_
                refine kx_get (v := .int (kI ((sn3 : Nat) : Int))) (C := RX3) (T := TX3) (N := 13) hx hb hts in_X3 hown hK hO_a rfl 2 (by decide) q2240 (fun _ h9 => h9) rfl dX3_records_87 ?_
                refine kx_iconst hx hb dX3_records_90 ?_
                refine kx_iadd hx hb dX3_records_91 ?_
                refine kx_eqi (((sn3 + 1 : Nat) : Int)) (by omega) ?_
                refine kx_put (v := .int (kI ((sn3 + 1 : Nat) : Int))) (C := RX3) (T := TX3) (N := 13) hx hb hts in_X3 hown hK hO_a rfl 2 (by decide) tyX3 tyX3_ok nmX3 hS (by first | rfl | exact Or.inl rfl | exact Or.inr rfl | exact Or.inr (Or.inl rfl) | exact Or.inr (Or.inr rfl) | exact Or.inr (Or.inr (Or.inl rfl)) | exact Or.inr (Or.inr (Or.inr rfl)) | ((try dsimp only); (try simp only [kNW]); omega)) q2240 (fun _ h9 => h9) rfl rfl rfl rfl (Nat.le_of_ble_eq_true rfl) dX3_records_92 (fun H_28 locs_29 hO_27 hU_26 hS_30 => ?_)
                have hO_27 : kO D H_28 a 2 [.ref ra, .ref sa, .int (kI ((sn3 + 1 : Nat) : Int)), .ref ka, .int (kI (kb (ik))), .ref ta, .int (kI ((tn : Nat) : Int)), .int (kI (th)), .int (kI (sp)), .int (kI (kb (iw))), .int (kI (le)), .int (kI (fi)), .int (kI (se))] := hO_27
                have h_31 := hA_sa.up hU_26 (by first | assumption | exact Ne.symm (by assumption) | omega)
                exact kx_vret hx hb hr hlk (⟨g2, (sn3 + 1), hO_27, h_31, by rw [← hsn3], by intro j hj; rw [← hsn3] at hj; rw [← hb3]; exact h4 j hj, by intro j hj; rw [← hsn3]; exact h3 j (by omega)⟩) hS_30 dX3_records_95
              · -- not taken at 55
                refine lv_aload_n hx hb dX3_records_58 rfl (lv_at hl 0 rfl) ?_
                refine kx_get (v := .ref sa) (C := RX3) (T := TX3) (N := 13) hx hb hts in_X3 hown hK hO_a rfl 1 (by decide) q2239 (fun _ h9 => h9) rfl dX3_records_59 ?_
                refine kx_sipush hx hb (by decide) dX3_records_62 ?_
                refine lv_aload_n hx hb dX3_records_65 rfl (lv_at hl 0 rfl) ?_
                refine kx_get (v := .int (kI ((sn3 : Nat) : Int))) (C := RX3) (T := TX3) (N := 13) hx hb hts in_X3 hown hK hO_a rfl 2 (by decide) q2240 (fun _ h9 => h9) rfl dX3_records_66 ?_
                refine kx_imul hx hb dX3_records_69 ?_
                refine lv_iload_n hx hb dX3_records_70 rfl (lv_at hl 1 rfl) ?_
                refine kx_iadd hx hb dX3_records_71 ?_
                refine lv_aload_n hx hb dX3_records_72 rfl (lv_at hl 0 rfl) ?_
                refine kx_get (v := .ref ra) (C := RX3) (T := TX3) (N := 13) hx hb hts in_X3 hown hK hO_a rfl 0 (by decide) q2238 (fun _ h9 => h9) rfl dX3_records_73 ?_
                refine lv_iload_n hx hb dX3_records_76 rfl (lv_at hl 1 rfl) ?_
                refine kx_iald (i := ((k : Nat) : Int)) hx hb hK hA_ra k (rfl) (by omega) (by omega) dX3_records_77 ?_
                refine kx_iast (i := ((514 * ((sn3 : Nat) : Int)) + ((k : Nat) : Int))) (x := (g k)) hx hb hK hA_sa hS (by first | rfl | exact Or.inl rfl | exact Or.inr rfl | exact Or.inr (Or.inl rfl) | exact Or.inr (Or.inr rfl) | exact Or.inr (Or.inr (Or.inl rfl)) | exact Or.inr (Or.inr (Or.inr rfl)) | ((try dsimp only); (try simp only [kNW]); omega)) (514 * sn3 + k) (by omega) (by omega) (by omega) dX3_records_78 (fun H_34 locs_35 hA_33 hU_32 hS_36 => ?_)
                refine lv_iinc (v := kI (((k + 1 : Nat) : Int))) (lv' := [(1, .int (kI ((k + 1 : Nat) : Int))), (0, .ref a)]) hx hb dX3_records_79 hl (k := 1) rfl (kI_incN _ _) (by decide) rfl (fun ls hl => ?_)
                refine lv_goto (tgt := 51) hx hb dX3_records_82 (by decide) ?_
                have h_37 := hO_a.up hU_32 (by first | assumption | exact Ne.symm (by assumption) | omega)
                have h_38 := hA_ra.up hU_32 (by first | assumption | exact Ne.symm (by assumption) | omega)
                exact ih_51  (k + 1) (kup g2 (514 * sn3 + k) ((g k))) sn3 b H_34 h_37 h_38 hA_33 (by first | assumption | omega | (simp_all; done) | grind) (hb3) (hsn3) (hs4) (fun j hj => by unfold kup; split <;> first | (rw [show j = k by omega]; done) | exact h3 j (by omega)) (fun j hj => by rw [kup_ne (by omega)]; exact h4 j hj) _ hS_36 (by omega) ls (lv_sub hl [1, 0] rfl)
          have h_39 := hA_ra.up hU_19 (by first | assumption | exact Ne.symm (by assumption) | omega)
          have h_40 := hA_sa.up hU_19 (by first | assumption | exact Ne.symm (by assumption) | omega)
          exact lp_51_x_24 (514 - 0 + 1) 0 g1 4 ((if sn = 5 then 1 else 0)) H_21 hO_20 h_39 h_40 (by first | assumption | omega | (simp_all; done) | grind) (rfl) (by first | (rw [if_pos (by omega)]) | (rw [if_neg (by omega)])) (by first | omega | (split <;> omega)) (fun j hj => absurd hj (Nat.not_lt_zero j)) (fun j hj => by first | (rw [if_pos (by omega)]; exact h1 j (by omega)) | (rw [if_neg (by omega)]; rfl)) _ hS_23 (Nat.lt_succ_self _) ls (lv_sub hl [1, 0] rfl)
        · -- not taken at 14
          refine lv_aload_n hx hb dX3_records_17 rfl (lv_at hl 0 rfl) ?_
          refine kx_get (v := .ref sa) (C := RX3) (T := TX3) (N := 13) hx hb hts in_X3 hown hK hO_a rfl 1 (by decide) q2239 (fun _ h9 => h9) rfl dX3_records_18 ?_
          refine lv_iload_n hx hb dX3_records_21 rfl (lv_at hl 1 rfl) ?_
          refine lv_aload_n hx hb dX3_records_22 rfl (lv_at hl 0 rfl) ?_
          refine kx_get (v := .ref sa) (C := RX3) (T := TX3) (N := 13) hx hb hts in_X3 hown hK hO_a rfl 1 (by decide) q2239 (fun _ h9 => h9) rfl dX3_records_23 ?_
          refine kx_sipush hx hb (by decide) dX3_records_26 ?_
          refine lv_iload_n hx hb dX3_records_29 rfl (lv_at hl 1 rfl) ?_
          refine kx_iadd hx hb dX3_records_30 ?_
          refine kx_iald (i := (514 + ((k : Nat) : Int))) hx hb hK hA_sa (514 + k) (by omega) (by omega) (by omega) dX3_records_31 ?_
          refine kx_iast (i := ((k : Nat) : Int)) (x := (g1 (514 + k))) hx hb hK hA_sa hS (by first | rfl | exact Or.inl rfl | exact Or.inr rfl | exact Or.inr (Or.inl rfl) | exact Or.inr (Or.inr rfl) | exact Or.inr (Or.inr (Or.inl rfl)) | exact Or.inr (Or.inr (Or.inr rfl)) | ((try dsimp only); (try simp only [kNW]); omega)) k (rfl) (by omega) (by omega) dX3_records_32 (fun H_43 locs_44 hA_42 hU_41 hS_45 => ?_)
          refine lv_iinc (v := kI (((k + 1 : Nat) : Int))) (lv' := [(1, .int (kI ((k + 1 : Nat) : Int))), (0, .ref a)]) hx hb dX3_records_33 hl (k := 1) rfl (kI_incN _ _) (by decide) rfl (fun ls hl => ?_)
          refine lv_goto (tgt := 10) hx hb dX3_records_36 (by decide) ?_
          have h_46 := hO_a.up hU_41 (by first | assumption | exact Ne.symm (by assumption) | omega)
          have h_47 := hA_ra.up hU_41 (by first | assumption | exact Ne.symm (by assumption) | omega)
          exact ih_10  (k + 1) (kup g1 k ((g1 (514 + k)))) H_43 h_46 h_47 hA_42 (by first | assumption | omega | (simp_all; done) | grind) (fun j hj => by unfold kup; split <;> first | (rename_i z; rw [z, h2 _ (by omega), Nat.add_comm]; done) | exact h1 j (by omega)) (fun j hj => by rw [kup_ne (by omega)]; exact h2 j (by omega)) _ hS_45 (by omega) ls (lv_sub hl [1, 0] rfl)
    exact lp_10_x_17 (2056 - 0 + 1) 0 gs s.heap hO_a hA_ra hA_sa (by first | assumption | omega | (simp_all; done) | grind) (fun j hj => absurd hj (Nat.not_lt_zero j)) (fun _ _ => rfl) _ hS (Nat.lt_succ_self _) ls (lv_sub hl [1, 0] rfl)

set_option maxHeartbeats 4000000 in
set_option maxRecDepth 100000 in
theorem m_X3_wipes (l : Launch) (D : kG) (H : Heap) (a : Nat) (fs : List Value) (ra : Nat) (g : Nat → Int) (S : Ls) (gap : Int) (ln : Nat) (hO_a : kO D H a 2 fs) (hf_a_0 : fs[0]? = some (.ref ra)) (hA_ra : kAi D H ra 514 g) (hM : MRow g S gap) (hok : LsOK S gap) (hln : ln < S.length) (ne_a_ra : a ≠ ra) (bs_ra : kBase D ≤ ra) : Met l yX3_wipes (ws_ yX3_wipes cX3_wipes 3 (some .int)) ({ frames := 0, cells := 0, slots := 0, locals := 0 } : Room) (kPre D H [.ref a, .int (kI ((ln : Nat) : Int))]) (kQi (fun (r : Int) H' => ∃ (g2 : Nat → Int), (r = ((S.length : Int) - 1)) ∧ (kAi D H' ra 514 g2) ∧ (MRow g2 (S.eraseIdx ln) gap)) (fun q : Nat => q = ra)) (0) (0) ((fun q : Nat => q = ra)) := by
  refine Met.ofW (cc := cX3_wipes) (maxL := 3) (ret := (some .int)) (by decide) rfl ?_
  intro p e s m args below meth c s₁ B hml hv
  obtain ⟨rfl, hH, hK⟩ := hv
  subst hH
  have hx := B.exec
  have hb := B.bytes
  have hr := B.returns
  have hts := atoms_spec (ws := ws_ yX3_wipes cX3_wipes 3 (some .int)) B.pre
  have hts : ∀ w ∈ lw_all, w.before _ s = true := fun w h => hts w (List.mem_cons_of_mem _ h)
  have hown : s.vm.findClass RX3 = some m.cls := findClass_of_methodNamed B.named
  have hlk := B.notSynchronized
  have hS : va_S (fun q : Nat => q = ra) s.heap s.heap [] := va_S.rf
  have hB : ∀ q, (fun q : Nat => q = ra) q → kBase D ≤ q := fun q h => by (try dsimp only at h); (try simp only [kNW] at h); have hks := hK.size; omega
  have hl := lv_entry ([.ref a, .int (kI ((ln : Nat) : Int))]) (n := 3) (Nat.le_of_ble_eq_true rfl)
  rw [lg_entry_eq]
  generalize (lg_sl ([.ref a, .int (kI ((ln : Nat) : Int))]) ++ List.replicate (3 - (lg_sl ([.ref a, .int (kI ((ln : Nat) : Int))])).length) Slot.unset).toArray = ls at hl ⊢
  have hl : lv_has ls 3 [(0, .ref a), (1, .int (kI ((ln : Nat) : Int)))] := hl
  have hL := hok.ln hln
  have hL60 := hL.n
  have hL8 := hok.1
  have hlen := hM.len
  refine kx_iconst hx hb dX3_wipes_0 ?_
  refine kx_bipush hx hb (by decide) dX3_wipes_1 ?_
  refine lv_iload_n hx hb dX3_wipes_3 rfl (lv_at hl 1 rfl) ?_
  refine kx_imul hx hb dX3_wipes_4 ?_
  refine kx_iadd hx hb dX3_wipes_5 ?_
  refine kx_eqi (((2 + 64 * ln : Nat) : Int)) (by omega) ?_
  refine lv_istore_n (lv' := [(2, .int (kI ((2 + 64 * ln : Nat) : Int))), (0, .ref a), (1, .int (kI ((ln : Nat) : Int)))]) hx hb dX3_wipes_6 rfl hl (by decide) rfl (fun ls hl => ?_)
  have lp_7_x_1 : ∀ (n_7 : Nat) (k : Nat) (g1 : Nat → Int) (H : Heap) (hO_a : kO D H a 2 fs) (hA_ra : kAi D H ra 514 g1) (hk : 2 + 64 * ln ≤ k ∧ k ≤ 450) (h1 : ∀ j, 2 + 64 * ln ≤ j → j < k → g1 j = g (j + 64)) (h2 : ∀ j, j < 2 + 64 * ln ∨ k ≤ j → g1 j = g j) (locs : List Loc) (hS : va_S (fun q : Nat => q = ra) s.heap H locs) (hm_7 : 450 - k < n_7) (ls : Array Slot), lv_has ls 3 [(0, .ref a), (1, .int (kI ((ln : Nat) : Int))), (2, .int (kI ((k : Nat) : Int)))] → W p l e (headSpec (ws_ yX3_wipes cX3_wipes 3 (some .int)) ({ frames := 0, cells := 0, slots := 0, locals := 0 } : Room)).room s m ([.ref a, .int (kI ((ln : Nat) : Int))] : List Value).toArray below meth c H locs (0) (0) (MQ below (kQi (fun (r : Int) H' => ∃ (g2 : Nat → Int), (r = ((S.length : Int) - 1)) ∧ (kAi D H' ra 514 g2) ∧ (MRow g2 (S.eraseIdx ln) gap)) (fun q : Nat => q = ra)) ([.ref a, .int (kI ((ln : Nat) : Int))] : List Value).toArray s (0) (0) ((fun q : Nat => q = ra))) (F0 m 7 ls []) := by
    intro n_7
    induction n_7 with
    | zero => intro k g1 H hO_a hA_ra hk h1 h2 locs hS hm_7; exact absurd hm_7 (Nat.not_lt_zero _)
    | succ n_7 ih_7 =>
      intro k g1 H hO_a hA_ra hk h1 h2 locs hS hm_7 ls hl
      refine lv_iload_n hx hb dX3_wipes_7 rfl (lv_at hl 2 rfl) ?_
      refine kx_sipush hx hb (by decide) dX3_wipes_8 ?_
      refine kx_icmp_ge (x := ((k : Nat) : Int)) (y := 450) (tgt := 35) hx hb dX3_wipes_11 (by decide) (by omega) (by omega) (by omega) (by omega) (fun c_11_2 => ?_) (fun c_11_2 => ?_)
      · -- taken at 11
        refine kx_sipush hx hb (by decide) dX3_wipes_35 ?_
        refine lv_istore_n (lv' := [(2, .int (kI (450))), (0, .ref a), (1, .int (kI ((ln : Nat) : Int)))]) hx hb dX3_wipes_38 rfl hl (by decide) rfl (fun ls hl => ?_)
        have lp_39_x_3 : ∀ (n_39 : Nat) (k2 : Nat) (g3 : Nat → Int) (H : Heap) (hO_a : kO D H a 2 fs) (hA_ra : kAi D H ra 514 g3) (hk2 : 450 ≤ k2 ∧ k2 ≤ 514) (h3 : ∀ j, 2 + 64 * ln ≤ j → j < 450 → g3 j = g (j + 64)) (h4 : ∀ j, j < 2 + 64 * ln → g3 j = g j) (locs : List Loc) (hS : va_S (fun q : Nat => q = ra) s.heap H locs) (hm_39 : 514 - k2 < n_39) (ls : Array Slot), lv_has ls 3 [(0, .ref a), (1, .int (kI ((ln : Nat) : Int))), (2, .int (kI ((k2 : Nat) : Int)))] → W p l e (headSpec (ws_ yX3_wipes cX3_wipes 3 (some .int)) ({ frames := 0, cells := 0, slots := 0, locals := 0 } : Room)).room s m ([.ref a, .int (kI ((ln : Nat) : Int))] : List Value).toArray below meth c H locs (0) (0) (MQ below (kQi (fun (r : Int) H' => ∃ (g2 : Nat → Int), (r = ((S.length : Int) - 1)) ∧ (kAi D H' ra 514 g2) ∧ (MRow g2 (S.eraseIdx ln) gap)) (fun q : Nat => q = ra)) ([.ref a, .int (kI ((ln : Nat) : Int))] : List Value).toArray s (0) (0) ((fun q : Nat => q = ra))) (F0 m 39 ls []) := by
          intro n_39
          induction n_39 with
          | zero => intro k2 g3 H hO_a hA_ra hk2 h3 h4 locs hS hm_39; exact absurd hm_39 (Nat.not_lt_zero _)
          | succ n_39 ih_39 =>
            intro k2 g3 H hO_a hA_ra hk2 h3 h4 locs hS hm_39 ls hl
            refine lv_iload_n hx hb dX3_wipes_39 rfl (lv_at hl 2 rfl) ?_
            refine kx_sipush hx hb (by decide) dX3_wipes_40 ?_
            refine kx_icmp_ge (x := ((k2 : Nat) : Int)) (y := 514) (tgt := 59) hx hb dX3_wipes_43 (by decide) (by omega) (by omega) (by omega) (by omega) (fun c_43_4 => ?_) (fun c_43_4 => ?_)
            · -- taken at 43
              refine lv_aload_n hx hb dX3_wipes_59 rfl (lv_at hl 0 rfl) ?_
              refine kx_get (v := .ref ra) (C := RX3) (T := TX3) (N := 13) hx hb hts in_X3 hown hK hO_a rfl 0 (by decide) q2238 (fun _ h9 => h9) hf_a_0 dX3_wipes_60 ?_
              refine kx_iconst hx hb dX3_wipes_63 ?_
              refine lv_dup2_11 hx hb dX3_wipes_64 rfl rfl ?_
              refine kx_iald (i := 0) hx hb hK hA_ra 0 (rfl) (by omega) (by omega) dX3_wipes_65 ?_
              refine kx_iconst hx hb dX3_wipes_66 ?_
              refine kx_isub hx hb dX3_wipes_67 ?_
              refine kx_topi (fun w0 hw0 => ?_)
              refine kx_iast (i := 0) (x := w0) hx hb hK hA_ra hS (by first | rfl | exact Or.inl rfl | exact Or.inr rfl | exact Or.inr (Or.inl rfl) | exact Or.inr (Or.inr rfl) | exact Or.inr (Or.inr (Or.inl rfl)) | exact Or.inr (Or.inr (Or.inr rfl)) | ((try dsimp only); (try simp only [kNW]); omega)) 0 (rfl) (by omega) (by omega) dX3_wipes_68 (fun H_7 locs_8 hA_6 hU_5 hS_9 => ?_)
              refine lv_aload_n hx hb dX3_wipes_69 rfl (lv_at hl 0 rfl) ?_
              have h_10 := hO_a.up hU_5 (by first | assumption | exact Ne.symm (by assumption) | omega)
              refine kx_get (v := .ref ra) (C := RX3) (T := TX3) (N := 13) hx hb hts in_X3 hown hK h_10 rfl 0 (by decide) q2238 (fun _ h9 => h9) hf_a_0 dX3_wipes_70 ?_
              refine kx_iconst hx hb dX3_wipes_73 ?_
              refine kx_iald (i := 0) hx hb hK hA_6 0 (rfl) (by omega) (by omega) dX3_wipes_74 ?_
              exact kx_iret (z := ((kup g3 0 w0) 0)) hx hb hr hlk (⟨(kup g3 0 w0), by rw [kup_self, hw0, h4 0 (by omega), hM.len], hA_6, by exact hM.erase hok hln (by rw [kup_self, hw0, h4 0 (by omega), hM.len]) (fun j h0 hj => by rw [kup_ne (by omega)]; exact h4 j hj) (fun j hj hj2 => by rw [kup_ne (by omega)]; exact h3 j hj hj2)⟩) hS_9 dX3_wipes_75
            · -- not taken at 43
              refine lv_aload_n hx hb dX3_wipes_46 rfl (lv_at hl 0 rfl) ?_
              refine kx_get (v := .ref ra) (C := RX3) (T := TX3) (N := 13) hx hb hts in_X3 hown hK hO_a rfl 0 (by decide) q2238 (fun _ h9 => h9) hf_a_0 dX3_wipes_47 ?_
              refine lv_iload_n hx hb dX3_wipes_50 rfl (lv_at hl 2 rfl) ?_
              refine kx_iconst hx hb dX3_wipes_51 ?_
              refine kx_iast (i := ((k2 : Nat) : Int)) (x := 0) hx hb hK hA_ra hS (by first | rfl | exact Or.inl rfl | exact Or.inr rfl | exact Or.inr (Or.inl rfl) | exact Or.inr (Or.inr rfl) | exact Or.inr (Or.inr (Or.inl rfl)) | exact Or.inr (Or.inr (Or.inr rfl)) | ((try dsimp only); (try simp only [kNW]); omega)) k2 (rfl) (by omega) (by omega) dX3_wipes_52 (fun H_13 locs_14 hA_12 hU_11 hS_15 => ?_)
              refine lv_iinc (v := kI (((k2 + 1 : Nat) : Int))) (lv' := [(2, .int (kI ((k2 + 1 : Nat) : Int))), (0, .ref a), (1, .int (kI ((ln : Nat) : Int)))]) hx hb dX3_wipes_53 hl (k := 2) rfl (kI_incN _ _) (by decide) rfl (fun ls hl => ?_)
              refine lv_goto (tgt := 39) hx hb dX3_wipes_56 (by decide) ?_
              have h_16 := hO_a.up hU_11 (by first | assumption | exact Ne.symm (by assumption) | omega)
              exact ih_39  (k2 + 1) (kup g3 k2 0) H_13 h_16 hA_12 (by first | assumption | omega | (simp_all; done) | grind) (fun j hj hj2 => by rw [kup_ne (by omega)]; exact h3 j hj hj2) (fun j hj => by rw [kup_ne (by omega)]; exact h4 j hj) _ hS_15 (by omega) ls (lv_sub hl [1, 2, 0] rfl)
        exact lp_39_x_3 (514 - 450 + 1) 450 g1 H hO_a hA_ra (by first | assumption | omega | (simp_all; done) | grind) (fun j hj hj2 => h1 j hj (by omega)) (fun j hj => h2 j (Or.inl hj)) _ hS (Nat.lt_succ_self _) ls (lv_sub hl [1, 2, 0] rfl)
      · -- not taken at 11
        refine lv_aload_n hx hb dX3_wipes_14 rfl (lv_at hl 0 rfl) ?_
        refine kx_get (v := .ref ra) (C := RX3) (T := TX3) (N := 13) hx hb hts in_X3 hown hK hO_a rfl 0 (by decide) q2238 (fun _ h9 => h9) hf_a_0 dX3_wipes_15 ?_
        refine lv_iload_n hx hb dX3_wipes_18 rfl (lv_at hl 2 rfl) ?_
        refine lv_aload_n hx hb dX3_wipes_19 rfl (lv_at hl 0 rfl) ?_
        refine kx_get (v := .ref ra) (C := RX3) (T := TX3) (N := 13) hx hb hts in_X3 hown hK hO_a rfl 0 (by decide) q2238 (fun _ h9 => h9) hf_a_0 dX3_wipes_20 ?_
        refine lv_iload_n hx hb dX3_wipes_23 rfl (lv_at hl 2 rfl) ?_
        refine kx_bipush hx hb (by decide) dX3_wipes_24 ?_
        refine kx_iadd hx hb dX3_wipes_26 ?_
        refine kx_iald (i := (((k : Nat) : Int) + 64)) hx hb hK hA_ra (k + 64) (by omega) (by omega) (by omega) dX3_wipes_27 ?_
        refine kx_iast (i := ((k : Nat) : Int)) (x := (g1 (k + 64))) hx hb hK hA_ra hS (by first | rfl | exact Or.inl rfl | exact Or.inr rfl | exact Or.inr (Or.inl rfl) | exact Or.inr (Or.inr rfl) | exact Or.inr (Or.inr (Or.inl rfl)) | exact Or.inr (Or.inr (Or.inr rfl)) | ((try dsimp only); (try simp only [kNW]); omega)) k (rfl) (by omega) (by omega) dX3_wipes_28 (fun H_19 locs_20 hA_18 hU_17 hS_21 => ?_)
        refine lv_iinc (v := kI (((k + 1 : Nat) : Int))) (lv' := [(2, .int (kI ((k + 1 : Nat) : Int))), (0, .ref a), (1, .int (kI ((ln : Nat) : Int)))]) hx hb dX3_wipes_29 hl (k := 2) rfl (kI_incN _ _) (by decide) rfl (fun ls hl => ?_)
        refine lv_goto (tgt := 7) hx hb dX3_wipes_32 (by decide) ?_
        have h_22 := hO_a.up hU_17 (by first | assumption | exact Ne.symm (by assumption) | omega)
        exact ih_7  (k + 1) (kup g1 k ((g1 (k + 64)))) H_19 h_22 hA_18 (by first | assumption | omega | (simp_all; done) | grind) (fun j hj hj2 => by unfold kup; split <;> first | (rename_i z; rw [z]; exact h2 _ (by omega)) | exact h1 j hj (by omega)) (fun j hj => by rw [kup_ne (by omega)]; exact h2 j (by omega)) _ hS_21 (by omega) ls (lv_sub hl [1, 2, 0] rfl)
  exact lp_7_x_1 (450 - (2 + 64 * ln) + 1) (2 + 64 * ln) g s.heap hO_a hA_ra (by first | assumption | omega | (simp_all; done) | grind) (fun j hj hj2 => by omega) (fun _ _ => rfl) _ hS (Nat.lt_succ_self _) ls (lv_sub hl [1, 2, 0] rfl)

