set_option maxHeartbeats 4000000 in
set_option maxRecDepth 100000 in
theorem wr_begin (l : Launch) (hl9 : l.stackTraces = false) (D : kG) (H : Heap) (x1 : Nat) (snp : Option Nat) (hi : Nat) (bu : Nat) (es : Nat) (L : List Nat) (st : Nat) (la : Nat) (ea : Nat) (F : Fts) (S : Ls) (gap : Int) (lv : Int) (x : Int) (out : Nat) (go : Nat → Int64) (hO_x1 : kO D H x1 0 [.ref st, va_rf (snp), .ref hi, .ref bu]) (hP_kState_st : kState D H st la ea gap S F) (hP_kDq_hi : kDq D H hi es L) (hA_out : kAl D H out 1 go) (hok : LsOK S gap) (hnx : ∀ q, kOwn D st la ea F S.length q → q ≠ hi ∧ q ≠ es ∧ q ≠ x1) (bs_hi : kBase D ≤ hi) (bs_es : kBase D ≤ es) (ne_x1 : x1 ≠ hi ∧ x1 ≠ es) (hpt : 0 ≤ x ∧ x ≤ 383) (hlv : 0 ≤ lv ∧ lv ≤ 99) (hl8 : S.length < 8) (hno : st_owner S x = -1) (bs_out : kBase D ≤ out) (hnO9 : ∀ q, kOwn D st la ea F S.length q → q ≠ out) (ne_out : hi ≠ out ∧ es ≠ out ∧ x1 ≠ out) (hrv : -2147483648 ≤ ((S.length : Nat) : Int) ∧ ((S.length : Nat) : Int) ≤ 2147483647) : Met l yX0_begin (wsW_ yX0_begin cX0_begin 5 (some .int) [((0 : Nat), (10 : Nat), (13 : Nat), (13 : Nat)), ((0 : Nat), (10 : Nat), (17 : Nat), (15 : Nat)), ((0 : Nat), (10 : Nat), (21 : Nat), (17 : Nat))]) ({ frames := 8, cells := 47, slots := 1240, locals := 181 } : Room) (kPre D H [.ref x1, .int (kI (lv)), .int (kI (x)), .ref out]) (kQi (fun (r : Int) H' => ∃ (cr : Nat) (la2 : Nat) (ea2 : Nat) (F2 : Fts) (ea3 : Nat) (F3 : Fts), (r = 0) ∧ (kO D H' x1 0 [.ref st, va_rf (snp), .ref hi, .ref bu]) ∧ (kState D H' st la ea3 gap (S ++ [w_new lv x]) F3) ∧ (kState D H' cr la2 ea2 gap S F2) ∧ (kDq D H' hi es ((pushL L cr))) ∧ (kAl D H' out 1 ((kup go 0 (kL (((S.length : Nat) : Int)))))) ∧ (∀ q, kOwn D cr la2 ea2 F2 S.length q → H.size ≤ q) ∧ (∀ q, kOwn D st la ea3 F3 (S ++ [w_new lv x]).length q → kOwn D st la ea F S.length q ∨ H.size ≤ q) ∧ (∀ q, kOwn D cr la2 ea2 F2 S.length q → ¬ kOwn D st la ea3 F3 (S ++ [w_new lv x]).length q)) (fun q : Nat => q = out ∨ kOwn D st la ea F S.length q ∨ q = hi ∨ q = es ∨ H.size ≤ q)) (47) (1240) ((fun q : Nat => q = out ∨ kOwn D st la ea F S.length q ∨ q = hi ∨ q = es ∨ H.size ≤ q)) := by
  refine met_of_vx (vx_ofWH (cc := cX0_begin) (maxL := 5) (ret := (some .int)) (hh := [((0 : Nat), (10 : Nat), (13 : Nat), (13 : Nat)), ((0 : Nat), (10 : Nat), (17 : Nat), (15 : Nat)), ((0 : Nat), (10 : Nat), (21 : Nat), (17 : Nat))]) (by decide) rfl ?_)
  intro p e s m args below meth c s₁ B hml hv
  obtain ⟨rfl, hH, hK⟩ := hv
  subst hH
  have hx := B.exec
  have hb := B.bytes
  have hr := B.returns
  have hts := atoms_spec (ws := wsW_ yX0_begin cX0_begin 5 (some .int) [((0 : Nat), (10 : Nat), (13 : Nat), (13 : Nat)), ((0 : Nat), (10 : Nat), (17 : Nat), (15 : Nat)), ((0 : Nat), (10 : Nat), (21 : Nat), (17 : Nat))]) B.pre
  have htab := vx_table (x := yX0_begin) B (hts _ List.mem_cons_self)
  have hts : ∀ w ∈ lw_all, w.before _ s = true := fun w h => hts w (List.mem_cons_of_mem _ h)
  have hown : s.vm.findClass RX0 = some m.cls := findClass_of_methodNamed B.named
  have hlk := B.notSynchronized
  have hS : va_S (fun q : Nat => q = out ∨ kOwn D st la ea F S.length q ∨ q = hi ∨ q = es ∨ s.heap.size ≤ q) s.heap s.heap [] := va_S.rf
  have hB : ∀ q, (fun q : Nat => q = out ∨ kOwn D st la ea F S.length q ∨ q = hi ∨ q = es ∨ s.heap.size ≤ q) q → kBase D ≤ q := fun q h => by (have hks := hK.size; (try dsimp only at h); rcases h with h | h | h | h | h <;> first | omega | exact hP_kState_st.ownge h)
  have hl := lv_entry ([.ref x1, .int (kI (lv)), .int (kI (x)), .ref out]) (n := 5) (Nat.le_of_ble_eq_true rfl)
  rw [lg_entry_eq]
  generalize (lg_sl ([.ref x1, .int (kI (lv)), .int (kI (x)), .ref out]) ++ List.replicate (5 - (lg_sl ([.ref x1, .int (kI (lv)), .int (kI (x)), .ref out])).length) Slot.unset).toArray = ls at hl ⊢
  have hl : lv_has ls 5 [(0, .ref x1), (1, .int (kI (lv))), (2, .int (kI (x))), (3, .ref out)] := hl
  have hltout := hA_out.lt
  have hd9 := hK.dis
  refine lv_aload_n hx hb dX0_begin_0 rfl (lv_at hl 3 rfl) ?_
  refine kx_iconst hx hb dX0_begin_1 ?_
  refine lv_aload_n hx hb dX0_begin_2 rfl (lv_at hl 0 rfl) ?_
  refine lv_iload_n hx hb dX0_begin_3 rfl (lv_at hl 1 rfl) ?_
  refine lv_iload_n hx hb dX0_begin_4 rfl (lv_at hl 2 rfl) ?_
  refine kx_ci (va_runV (As := [.int (kI (lv)), .int (kI (x))]) (rest := [.int (kI (0)), .ref out]) ⟨hx, hb, hml, hown, hts⟩ (m_X1_begin l D s.heap x1 snp hi bu es L st la ea F S gap lv x hO_x1 hP_kState_st hP_kDq_hi hok hnx bs_hi bs_es ne_x1 hpt hlv hl8 hno) (cwV 2 hts (lw_V q1813 q1814 q1815 q79 q1816) rfl rfl rfl (by decide +kernel) ⟨Nat.le_of_ble_eq_true rfl, Nat.le_of_ble_eq_true rfl⟩) (kx_pv hK hS hB (kx_rc hK hO_x1 (C := RX1) (T := TX1) (N := 4) rfl)) rfl rfl hl.1 rfl (lv_room (Nat.le_of_ble_eq_true rfl)) dX0_begin_5 ⟨by first | exact Nat.le_of_ble_eq_true rfl | omega | (show _ ≤ _; omega) | (dsimp only [headSpec]; omega), by first | exact Nat.le_of_ble_eq_true rfl | omega | (show _ ≤ _; omega) | (dsimp only [headSpec]; omega)⟩) hS (fun q _ h => Or.inr h) (fun q h => Or.inr h) (fun z_6 H_4 locs_1 hz_3 hF_5 hS_2 => ?_)
  have hzf_7 := hF_5.1
  refine W.widen (k := 47) (n := 1240) (Nat.le_of_ble_eq_true rfl) (Nat.le_of_ble_eq_true rfl) ?_
  obtain ⟨crw, la2w, ea2w, F2w, ea3w, F3w, hv_14, ho_15, ho_16, ho_17, ho_18, hw1, hw2, hw3⟩ := hz_3
  subst z_6
  refine kx_i2l hx hb (z := ((S.length : Nat) : Int)) (by omega) (by omega) dX0_begin_8 ?_
  have h_19 := hA_out.fr hF_5 (fun h => by rcases h with h | h | h | h <;> first | exact hnO9 _ h rfl | omega)
  have htyo : kTy D H_4 out := Or.inr ⟨2, _, by decide, h_19⟩
  refine kx_last (x := kL (((S.length : Nat) : Int))) hx hb hK h_19 hS_2 (by first | rfl | exact Or.inl rfl | exact Or.inr rfl | exact Or.inr (Or.inl rfl) | exact Or.inr (Or.inr rfl) | exact Or.inr (Or.inr (Or.inl rfl)) | exact Or.inr (Or.inr (Or.inr rfl)) | ((try dsimp only); (try simp only [kNW]); omega)) 0 (rfl) (by omega) (by omega) dX0_begin_9 (fun H_22 locs_23 hA_21 hU_20 hS_24 => ?_)
  have hzu_25 := hU_20.1
  refine lv_goto (tgt := 25) hx hb dX0_begin_10 (by decide) ?_
  refine kx_iconst hx hb dX0_begin_25 ?_
  have h_26 := ho_15.up hU_20 (by first | assumption | exact Ne.symm (by assumption)  | omega | (have h9 := ho_15.lt; omega))
  have h_27 := ho_16.fr hd9 (kUp.fr hU_20) (fun x hx => by rw [show x = out from hx]; exact Or.inr ⟨htyo, fun w => by rcases hw2 _ w with z | z; exact hnO9 _ z rfl; omega⟩)
  have h_28 := ho_17.fr hd9 (kUp.fr hU_20) (fun x hx => by rw [show x = out from hx]; exact Or.inr ⟨htyo, fun w => by have h9 := hw1 _ w; omega⟩)
  have h_29 := ho_18.fr (kUp.fr hU_20) ⟨fun hx => ne_out.1 hx, fun hx => ne_out.2.1 hx⟩
  refine vx_ret ?_
  exact kx_iret (z := 0) hx hb hr hlk (⟨crw, la2w, ea2w, F2w, ea3w, F3w, by rfl, h_26, h_27, h_28, h_29, hA_21, by exact hw1, by exact hw2, by exact hw3⟩) hS_24 dX0_begin_26

set_option maxHeartbeats 4000000 in
set_option maxRecDepth 100000 in
theorem wr_wipe (l : Launch) (hl9 : l.stackTraces = false) (D : kG) (H : Heap) (x1 : Nat) (snp : Option Nat) (hi : Nat) (bu : Nat) (es : Nat) (L : List Nat) (st : Nat) (la : Nat) (ea : Nat) (F : Fts) (S : Ls) (gap : Int) (ln : Nat) (out : Nat) (go : Nat → Int64) (hO_x1 : kO D H x1 0 [.ref st, va_rf (snp), .ref hi, .ref bu]) (hP_kState_st : kState D H st la ea gap S F) (hP_kDq_hi : kDq D H hi es L) (hA_out : kAl D H out 1 go) (hok : LsOK S gap) (hnx : ∀ q, kOwn D st la ea F S.length q → q ≠ hi ∧ q ≠ es ∧ q ≠ x1) (bs_hi : kBase D ≤ hi) (bs_es : kBase D ≤ es) (ne_x1 : x1 ≠ hi ∧ x1 ≠ es) (hln : ln < S.length) (bs_out : kBase D ≤ out) (hnO9 : ∀ q, kOwn D st la ea F S.length q → q ≠ out) (ne_out : hi ≠ out ∧ es ≠ out ∧ x1 ≠ out) (hrv : -2147483648 ≤ (((S.eraseIdx ln).length : Nat) : Int) ∧ (((S.eraseIdx ln).length : Nat) : Int) ≤ 2147483647) : Met l yX0_wipe (wsW_ yX0_wipe cX0_wipe 4 (some .int) [((0 : Nat), (9 : Nat), (12 : Nat), (13 : Nat))]) ({ frames := 8, cells := 47, slots := 1240, locals := 180 } : Room) (kPre D H [.ref x1, .int (kI ((ln : Nat) : Int)), .ref out]) (kQi (fun (r : Int) H' => ∃ (cr : Nat) (la2 : Nat) (ea2 : Nat) (F2 : Fts) (ea3 : Nat) (F3 : Fts), (r = 0) ∧ (kO D H' x1 0 [.ref st, va_rf (snp), .ref hi, .ref bu]) ∧ (kState D H' st la ea3 gap (S.eraseIdx ln) F3) ∧ (kState D H' cr la2 ea2 gap S F2) ∧ (kDq D H' hi es ((pushL L cr))) ∧ (kAl D H' out 1 ((kup go 0 (kL ((((S.eraseIdx ln).length : Nat) : Int)))))) ∧ (∀ q, kOwn D cr la2 ea2 F2 S.length q → H.size ≤ q) ∧ (∀ q, kOwn D st la ea3 F3 (S.eraseIdx ln).length q → kOwn D st la ea F S.length q ∨ H.size ≤ q) ∧ (∀ q, kOwn D cr la2 ea2 F2 S.length q → ¬ kOwn D st la ea3 F3 (S.eraseIdx ln).length q)) (fun q : Nat => q = out ∨ kOwn D st la ea F S.length q ∨ q = hi ∨ q = es ∨ H.size ≤ q)) (47) (1240) ((fun q : Nat => q = out ∨ kOwn D st la ea F S.length q ∨ q = hi ∨ q = es ∨ H.size ≤ q)) := by
  refine met_of_vx (vx_ofWH (cc := cX0_wipe) (maxL := 4) (ret := (some .int)) (hh := [((0 : Nat), (9 : Nat), (12 : Nat), (13 : Nat))]) (by decide) rfl ?_)
  intro p e s m args below meth c s₁ B hml hv
  obtain ⟨rfl, hH, hK⟩ := hv
  subst hH
  have hx := B.exec
  have hb := B.bytes
  have hr := B.returns
  have hts := atoms_spec (ws := wsW_ yX0_wipe cX0_wipe 4 (some .int) [((0 : Nat), (9 : Nat), (12 : Nat), (13 : Nat))]) B.pre
  have htab := vx_table (x := yX0_wipe) B (hts _ List.mem_cons_self)
  have hts : ∀ w ∈ lw_all, w.before _ s = true := fun w h => hts w (List.mem_cons_of_mem _ h)
  have hown : s.vm.findClass RX0 = some m.cls := findClass_of_methodNamed B.named
  have hlk := B.notSynchronized
  have hS : va_S (fun q : Nat => q = out ∨ kOwn D st la ea F S.length q ∨ q = hi ∨ q = es ∨ s.heap.size ≤ q) s.heap s.heap [] := va_S.rf
  have hB : ∀ q, (fun q : Nat => q = out ∨ kOwn D st la ea F S.length q ∨ q = hi ∨ q = es ∨ s.heap.size ≤ q) q → kBase D ≤ q := fun q h => by (have hks := hK.size; (try dsimp only at h); rcases h with h | h | h | h | h <;> first | omega | exact hP_kState_st.ownge h)
  have hl := lv_entry ([.ref x1, .int (kI ((ln : Nat) : Int)), .ref out]) (n := 4) (Nat.le_of_ble_eq_true rfl)
  rw [lg_entry_eq]
  generalize (lg_sl ([.ref x1, .int (kI ((ln : Nat) : Int)), .ref out]) ++ List.replicate (4 - (lg_sl ([.ref x1, .int (kI ((ln : Nat) : Int)), .ref out])).length) Slot.unset).toArray = ls at hl ⊢
  have hl : lv_has ls 4 [(0, .ref x1), (1, .int (kI ((ln : Nat) : Int))), (2, .ref out)] := hl
  have hltout := hA_out.lt
  have hd9 := hK.dis
  refine lv_aload_n hx hb dX0_wipe_0 rfl (lv_at hl 2 rfl) ?_
  refine kx_iconst hx hb dX0_wipe_1 ?_
  refine lv_aload_n hx hb dX0_wipe_2 rfl (lv_at hl 0 rfl) ?_
  refine lv_iload_n hx hb dX0_wipe_3 rfl (lv_at hl 1 rfl) ?_
  refine kx_ci (va_runV (As := [.int (kI ((ln : Nat) : Int))]) (rest := [.int (kI (0)), .ref out]) ⟨hx, hb, hml, hown, hts⟩ (m_X1_wipe l D s.heap x1 snp hi bu es L st la ea F S gap ln hO_x1 hP_kState_st hP_kDq_hi hok hnx bs_hi bs_es ne_x1 hln) (cwV 1 hts (lw_V q1877 q1878 q1879 q79 q1880) rfl rfl rfl (by decide +kernel) ⟨Nat.le_of_ble_eq_true rfl, Nat.le_of_ble_eq_true rfl⟩) (kx_pv hK hS hB (kx_rc hK hO_x1 (C := RX1) (T := TX1) (N := 4) rfl)) rfl rfl hl.1 rfl (lv_room (Nat.le_of_ble_eq_true rfl)) dX0_wipe_4 ⟨by first | exact Nat.le_of_ble_eq_true rfl | omega | (show _ ≤ _; omega) | (dsimp only [headSpec]; omega), by first | exact Nat.le_of_ble_eq_true rfl | omega | (show _ ≤ _; omega) | (dsimp only [headSpec]; omega)⟩) hS (fun q _ h => Or.inr h) (fun q h => Or.inr h) (fun z_6 H_4 locs_1 hz_3 hF_5 hS_2 => ?_)
  have hzf_7 := hF_5.1
  refine W.widen (k := 47) (n := 1240) (Nat.le_of_ble_eq_true rfl) (Nat.le_of_ble_eq_true rfl) ?_
  obtain ⟨crw, la2w, ea2w, F2w, ea3w, F3w, hv_14, ho_15, ho_16, ho_17, ho_18, hw1, hw2, hw3⟩ := hz_3
  subst z_6
  refine kx_i2l hx hb (z := (((S.eraseIdx ln).length : Nat) : Int)) (by omega) (by omega) dX0_wipe_7 ?_
  have h_19 := hA_out.fr hF_5 (fun h => by rcases h with h | h | h | h <;> first | exact hnO9 _ h rfl | omega)
  have htyo : kTy D H_4 out := Or.inr ⟨2, _, by decide, h_19⟩
  refine kx_last (x := kL ((((S.eraseIdx ln).length : Nat) : Int))) hx hb hK h_19 hS_2 (by first | rfl | exact Or.inl rfl | exact Or.inr rfl | exact Or.inr (Or.inl rfl) | exact Or.inr (Or.inr rfl) | exact Or.inr (Or.inr (Or.inl rfl)) | exact Or.inr (Or.inr (Or.inr rfl)) | ((try dsimp only); (try simp only [kNW]); omega)) 0 (rfl) (by omega) (by omega) dX0_wipe_8 (fun H_22 locs_23 hA_21 hU_20 hS_24 => ?_)
  have hzu_25 := hU_20.1
  refine lv_goto (tgt := 15) hx hb dX0_wipe_9 (by decide) ?_
  refine kx_iconst hx hb dX0_wipe_15 ?_
  have h_26 := ho_15.up hU_20 (by first | assumption | exact Ne.symm (by assumption)  | omega | (have h9 := ho_15.lt; omega))
  have h_27 := ho_16.fr hd9 (kUp.fr hU_20) (fun x hx => by rw [show x = out from hx]; exact Or.inr ⟨htyo, fun w => by rcases hw2 _ w with z | z; exact hnO9 _ z rfl; omega⟩)
  have h_28 := ho_17.fr hd9 (kUp.fr hU_20) (fun x hx => by rw [show x = out from hx]; exact Or.inr ⟨htyo, fun w => by have h9 := hw1 _ w; omega⟩)
  have h_29 := ho_18.fr (kUp.fr hU_20) ⟨fun hx => ne_out.1 hx, fun hx => ne_out.2.1 hx⟩
  refine vx_ret ?_
  exact kx_iret (z := 0) hx hb hr hlk (⟨crw, la2w, ea2w, F2w, ea3w, F3w, by rfl, h_26, h_27, h_28, h_29, hA_21, by exact hw1, by exact hw2, by exact hw3⟩) hS_24 dX0_wipe_16

set_option maxHeartbeats 4000000 in
set_option maxRecDepth 100000 in
theorem wr_setLevel (l : Launch) (hl9 : l.stackTraces = false) (D : kG) (H : Heap) (x1 : Nat) (snp : Option Nat) (hi : Nat) (bu : Nat) (es : Nat) (L : List Nat) (st : Nat) (la : Nat) (ea : Nat) (F : Fts) (S : Ls) (gap : Int) (ln : Nat) (lv : Int) (out : Nat) (go : Nat → Int64) (hO_x1 : kO D H x1 0 [.ref st, va_rf (snp), .ref hi, .ref bu]) (hP_kState_st : kState D H st la ea gap S F) (hP_kDq_hi : kDq D H hi es L) (hA_out : kAl D H out 1 go) (hok : LsOK S gap) (hnx : ∀ q, kOwn D st la ea F S.length q → q ≠ hi ∧ q ≠ es ∧ q ≠ x1) (bs_hi : kBase D ≤ hi) (bs_es : kBase D ≤ es) (ne_x1 : x1 ≠ hi ∧ x1 ≠ es) (hln : ln < S.length) (hlv : 0 ≤ lv ∧ lv ≤ 99) (bs_out : kBase D ≤ out) (hnO9 : ∀ q, kOwn D st la ea F S.length q → q ≠ out) (ne_out : hi ≠ out ∧ es ≠ out ∧ x1 ≠ out) (hrv : -2147483648 ≤ ln_lv (st_ln S ln) ∧ ln_lv (st_ln S ln) ≤ 2147483647) : Met l yX0_setLevel (wsW_ yX0_setLevel cX0_setLevel 5 (some .int) [((0 : Nat), (10 : Nat), (13 : Nat), (13 : Nat)), ((0 : Nat), (10 : Nat), (17 : Nat), (15 : Nat))]) ({ frames := 8, cells := 47, slots := 1240, locals := 182 } : Room) (kPre D H [.ref x1, .int (kI ((ln : Nat) : Int)), .int (kI (lv)), .ref out]) (kQi (fun (r : Int) H' => ∃ (cr : Nat) (la2 : Nat) (ea2 : Nat) (F2 : Fts) (ea3 : Nat) (F3 : Fts), (r = 0) ∧ (kO D H' x1 0 [.ref st, va_rf (snp), .ref hi, .ref bu]) ∧ (kState D H' st la ea3 gap (S.set ln (w_lv (st_ln S ln) lv)) F3) ∧ (kState D H' cr la2 ea2 gap S F2) ∧ (kDq D H' hi es ((pushL L cr))) ∧ (kAl D H' out 1 ((kup go 0 (kL (ln_lv (st_ln S ln)))))) ∧ (∀ q, kOwn D cr la2 ea2 F2 S.length q → H.size ≤ q) ∧ (∀ q, kOwn D st la ea3 F3 (S.set ln (w_lv (st_ln S ln) lv)).length q → kOwn D st la ea F S.length q ∨ H.size ≤ q) ∧ (∀ q, kOwn D cr la2 ea2 F2 S.length q → ¬ kOwn D st la ea3 F3 (S.set ln (w_lv (st_ln S ln) lv)).length q)) (fun q : Nat => q = out ∨ kOwn D st la ea F S.length q ∨ q = hi ∨ q = es ∨ H.size ≤ q)) (47) (1240) ((fun q : Nat => q = out ∨ kOwn D st la ea F S.length q ∨ q = hi ∨ q = es ∨ H.size ≤ q)) := by
  refine met_of_vx (vx_ofWH (cc := cX0_setLevel) (maxL := 5) (ret := (some .int)) (hh := [((0 : Nat), (10 : Nat), (13 : Nat), (13 : Nat)), ((0 : Nat), (10 : Nat), (17 : Nat), (15 : Nat))]) (by decide) rfl ?_)
  intro p e s m args below meth c s₁ B hml hv
  obtain ⟨rfl, hH, hK⟩ := hv
  subst hH
  have hx := B.exec
  have hb := B.bytes
  have hr := B.returns
  have hts := atoms_spec (ws := wsW_ yX0_setLevel cX0_setLevel 5 (some .int) [((0 : Nat), (10 : Nat), (13 : Nat), (13 : Nat)), ((0 : Nat), (10 : Nat), (17 : Nat), (15 : Nat))]) B.pre
  have htab := vx_table (x := yX0_setLevel) B (hts _ List.mem_cons_self)
  have hts : ∀ w ∈ lw_all, w.before _ s = true := fun w h => hts w (List.mem_cons_of_mem _ h)
  have hown : s.vm.findClass RX0 = some m.cls := findClass_of_methodNamed B.named
  have hlk := B.notSynchronized
  have hS : va_S (fun q : Nat => q = out ∨ kOwn D st la ea F S.length q ∨ q = hi ∨ q = es ∨ s.heap.size ≤ q) s.heap s.heap [] := va_S.rf
  have hB : ∀ q, (fun q : Nat => q = out ∨ kOwn D st la ea F S.length q ∨ q = hi ∨ q = es ∨ s.heap.size ≤ q) q → kBase D ≤ q := fun q h => by (have hks := hK.size; (try dsimp only at h); rcases h with h | h | h | h | h <;> first | omega | exact hP_kState_st.ownge h)
  have hl := lv_entry ([.ref x1, .int (kI ((ln : Nat) : Int)), .int (kI (lv)), .ref out]) (n := 5) (Nat.le_of_ble_eq_true rfl)
  rw [lg_entry_eq]
  generalize (lg_sl ([.ref x1, .int (kI ((ln : Nat) : Int)), .int (kI (lv)), .ref out]) ++ List.replicate (5 - (lg_sl ([.ref x1, .int (kI ((ln : Nat) : Int)), .int (kI (lv)), .ref out])).length) Slot.unset).toArray = ls at hl ⊢
  have hl : lv_has ls 5 [(0, .ref x1), (1, .int (kI ((ln : Nat) : Int))), (2, .int (kI (lv))), (3, .ref out)] := hl
  have hltout := hA_out.lt
  have hd9 := hK.dis
  refine lv_aload_n hx hb dX0_setLevel_0 rfl (lv_at hl 3 rfl) ?_
  refine kx_iconst hx hb dX0_setLevel_1 ?_
  refine lv_aload_n hx hb dX0_setLevel_2 rfl (lv_at hl 0 rfl) ?_
  refine lv_iload_n hx hb dX0_setLevel_3 rfl (lv_at hl 1 rfl) ?_
  refine lv_iload_n hx hb dX0_setLevel_4 rfl (lv_at hl 2 rfl) ?_
  refine kx_ci (va_runV (As := [.int (kI ((ln : Nat) : Int)), .int (kI (lv))]) (rest := [.int (kI (0)), .ref out]) ⟨hx, hb, hml, hown, hts⟩ (m_X1_setLevel l D s.heap x1 snp hi bu es L st la ea F S gap ln lv hO_x1 hP_kState_st hP_kDq_hi hok hnx bs_hi bs_es ne_x1 hln hlv) (cwV 2 hts (lw_V q1885 q1886 q1887 q79 q1888) rfl rfl rfl (by decide +kernel) ⟨Nat.le_of_ble_eq_true rfl, Nat.le_of_ble_eq_true rfl⟩) (kx_pv hK hS hB (kx_rc hK hO_x1 (C := RX1) (T := TX1) (N := 4) rfl)) rfl rfl hl.1 rfl (lv_room (Nat.le_of_ble_eq_true rfl)) dX0_setLevel_5 ⟨by first | exact Nat.le_of_ble_eq_true rfl | omega | (show _ ≤ _; omega) | (dsimp only [headSpec]; omega), by first | exact Nat.le_of_ble_eq_true rfl | omega | (show _ ≤ _; omega) | (dsimp only [headSpec]; omega)⟩) hS (fun q _ h => Or.inr h) (fun q h => Or.inr h) (fun z_6 H_4 locs_1 hz_3 hF_5 hS_2 => ?_)
  have hzf_7 := hF_5.1
  refine W.widen (k := 47) (n := 1240) (Nat.le_of_ble_eq_true rfl) (Nat.le_of_ble_eq_true rfl) ?_
  obtain ⟨crw, la2w, ea2w, F2w, ea3w, F3w, hv_14, ho_15, ho_16, ho_17, ho_18, hw1, hw2, hw3⟩ := hz_3
  subst z_6
  refine kx_i2l hx hb (z := ln_lv (st_ln S ln)) (by omega) (by omega) dX0_setLevel_8 ?_
  have h_19 := hA_out.fr hF_5 (fun h => by rcases h with h | h | h | h <;> first | exact hnO9 _ h rfl | omega)
  have htyo : kTy D H_4 out := Or.inr ⟨2, _, by decide, h_19⟩
  refine kx_last (x := kL (ln_lv (st_ln S ln))) hx hb hK h_19 hS_2 (by first | rfl | exact Or.inl rfl | exact Or.inr rfl | exact Or.inr (Or.inl rfl) | exact Or.inr (Or.inr rfl) | exact Or.inr (Or.inr (Or.inl rfl)) | exact Or.inr (Or.inr (Or.inr rfl)) | ((try dsimp only); (try simp only [kNW]); omega)) 0 (rfl) (by omega) (by omega) dX0_setLevel_9 (fun H_22 locs_23 hA_21 hU_20 hS_24 => ?_)
  have hzu_25 := hU_20.1
  refine lv_goto (tgt := 21) hx hb dX0_setLevel_10 (by decide) ?_
  refine kx_iconst hx hb dX0_setLevel_21 ?_
  have h_26 := ho_15.up hU_20 (by first | assumption | exact Ne.symm (by assumption)  | omega | (have h9 := ho_15.lt; omega))
  have h_27 := ho_16.fr hd9 (kUp.fr hU_20) (fun x hx => by rw [show x = out from hx]; exact Or.inr ⟨htyo, fun w => by rcases hw2 _ w with z | z; exact hnO9 _ z rfl; omega⟩)
  have h_28 := ho_17.fr hd9 (kUp.fr hU_20) (fun x hx => by rw [show x = out from hx]; exact Or.inr ⟨htyo, fun w => by have h9 := hw1 _ w; omega⟩)
  have h_29 := ho_18.fr (kUp.fr hU_20) ⟨fun hx => ne_out.1 hx, fun hx => ne_out.2.1 hx⟩
  refine vx_ret ?_
  exact kx_iret (z := 0) hx hb hr hlk (⟨crw, la2w, ea2w, F2w, ea3w, F3w, by rfl, h_26, h_27, h_28, h_29, hA_21, by exact hw1, by exact hw2, by exact hw3⟩) hS_24 dX0_setLevel_22

set_option maxHeartbeats 4000000 in
set_option maxRecDepth 100000 in
theorem wr_label (l : Launch) (hl9 : l.stackTraces = false) (D : kG) (H : Heap) (x1 : Nat) (snp : Option Nat) (hi : Nat) (bu : Nat) (es : Nat) (L : List Nat) (st : Nat) (la : Nat) (ea : Nat) (F : Fts) (S : Ls) (gap : Int) (ln : Nat) (pl : Nat) (out : Nat) (go : Nat → Int64) (hO_x1 : kO D H x1 0 [.ref st, va_rf (snp), .ref hi, .ref bu]) (hP_kState_st : kState D H st la ea gap S F) (hP_kDq_hi : kDq D H hi es L) (hA_out : kAl D H out 1 go) (hok : LsOK S gap) (hnx : ∀ q, kOwn D st la ea F S.length q → q ≠ hi ∧ q ≠ es ∧ q ≠ x1) (bs_hi : kBase D ≤ hi) (bs_es : kBase D ≤ es) (ne_x1 : x1 ≠ hi ∧ x1 ≠ es) (hln : ln < S.length) (hpl : pl ≤ ln_n (st_ln S ln)) (hwl : st_whyL S gap ln pl = 0) (bs_out : kBase D ≤ out) (hnO9 : ∀ q, kOwn D st la ea F S.length q → q ≠ out) (ne_out : hi ≠ out ∧ es ≠ out ∧ x1 ≠ out) (hrv : -2147483648 ≤ ln_bends (st_ln S ln) (pl : Int) ∧ ln_bends (st_ln S ln) (pl : Int) ≤ 2147483647) : Met l yX0_label (wsW_ yX0_label cX0_label 5 (some .int) [((0 : Nat), (10 : Nat), (13 : Nat), (13 : Nat)), ((0 : Nat), (10 : Nat), (17 : Nat), (17 : Nat))]) ({ frames := 10, cells := 60, slots := 1300, locals := 3169 } : Room) (kPre D H [.ref x1, .int (kI ((ln : Nat) : Int)), .int (kI ((pl : Nat) : Int)), .ref out]) (kQi (fun (r : Int) H' => ∃ (cr : Nat) (la2 : Nat) (ea2 : Nat) (F2 : Fts) (ea3 : Nat) (F3 : Fts), (r = 0) ∧ (kO D H' x1 0 [.ref st, va_rf (snp), .ref hi, .ref bu]) ∧ (kState D H' st la ea3 gap (S.set ln (w_lb (st_ln S ln) (pl : Int))) F3) ∧ (kState D H' cr la2 ea2 gap S F2) ∧ (kDq D H' hi es ((pushL L cr))) ∧ (kAl D H' out 1 ((kup go 0 (kL (ln_bends (st_ln S ln) (pl : Int)))))) ∧ (∀ q, kOwn D cr la2 ea2 F2 S.length q → H.size ≤ q) ∧ (∀ q, kOwn D st la ea3 F3 (S.set ln (w_lb (st_ln S ln) (pl : Int))).length q → kOwn D st la ea F S.length q ∨ H.size ≤ q) ∧ (∀ q, kOwn D cr la2 ea2 F2 S.length q → ¬ kOwn D st la ea3 F3 (S.set ln (w_lb (st_ln S ln) (pl : Int))).length q)) (fun q : Nat => q = out ∨ kOwn D st la ea F S.length q ∨ q = hi ∨ q = es ∨ H.size ≤ q)) (60) (1300) ((fun q : Nat => q = out ∨ kOwn D st la ea F S.length q ∨ q = hi ∨ q = es ∨ H.size ≤ q)) := by
  refine met_of_vx (vx_ofWH (cc := cX0_label) (maxL := 5) (ret := (some .int)) (hh := [((0 : Nat), (10 : Nat), (13 : Nat), (13 : Nat)), ((0 : Nat), (10 : Nat), (17 : Nat), (17 : Nat))]) (by decide) rfl ?_)
  intro p e s m args below meth c s₁ B hml hv
  obtain ⟨rfl, hH, hK⟩ := hv
  subst hH
  have hx := B.exec
  have hb := B.bytes
  have hr := B.returns
  have hts := atoms_spec (ws := wsW_ yX0_label cX0_label 5 (some .int) [((0 : Nat), (10 : Nat), (13 : Nat), (13 : Nat)), ((0 : Nat), (10 : Nat), (17 : Nat), (17 : Nat))]) B.pre
  have htab := vx_table (x := yX0_label) B (hts _ List.mem_cons_self)
  have hts : ∀ w ∈ lw_all, w.before _ s = true := fun w h => hts w (List.mem_cons_of_mem _ h)
  have hown : s.vm.findClass RX0 = some m.cls := findClass_of_methodNamed B.named
  have hlk := B.notSynchronized
  have hS : va_S (fun q : Nat => q = out ∨ kOwn D st la ea F S.length q ∨ q = hi ∨ q = es ∨ s.heap.size ≤ q) s.heap s.heap [] := va_S.rf
  have hB : ∀ q, (fun q : Nat => q = out ∨ kOwn D st la ea F S.length q ∨ q = hi ∨ q = es ∨ s.heap.size ≤ q) q → kBase D ≤ q := fun q h => by (have hks := hK.size; (try dsimp only at h); rcases h with h | h | h | h | h <;> first | omega | exact hP_kState_st.ownge h)
  have hl := lv_entry ([.ref x1, .int (kI ((ln : Nat) : Int)), .int (kI ((pl : Nat) : Int)), .ref out]) (n := 5) (Nat.le_of_ble_eq_true rfl)
  rw [lg_entry_eq]
  generalize (lg_sl ([.ref x1, .int (kI ((ln : Nat) : Int)), .int (kI ((pl : Nat) : Int)), .ref out]) ++ List.replicate (5 - (lg_sl ([.ref x1, .int (kI ((ln : Nat) : Int)), .int (kI ((pl : Nat) : Int)), .ref out])).length) Slot.unset).toArray = ls at hl ⊢
  have hl : lv_has ls 5 [(0, .ref x1), (1, .int (kI ((ln : Nat) : Int))), (2, .int (kI ((pl : Nat) : Int))), (3, .ref out)] := hl
  have hltout := hA_out.lt
  have hd9 := hK.dis
  refine lv_aload_n hx hb dX0_label_0 rfl (lv_at hl 3 rfl) ?_
  refine kx_iconst hx hb dX0_label_1 ?_
  refine lv_aload_n hx hb dX0_label_2 rfl (lv_at hl 0 rfl) ?_
  refine lv_iload_n hx hb dX0_label_3 rfl (lv_at hl 1 rfl) ?_
  refine lv_iload_n hx hb dX0_label_4 rfl (lv_at hl 2 rfl) ?_
  refine kx_ci (va_runV (As := [.int (kI ((ln : Nat) : Int)), .int (kI ((pl : Nat) : Int))]) (rest := [.int (kI (0)), .ref out]) ⟨hx, hb, hml, hown, hts⟩ (m_X1_label l D s.heap x1 snp hi bu es L st la ea F S gap ln pl hO_x1 hP_kState_st hP_kDq_hi hok hnx bs_hi bs_es ne_x1 hln hpl hwl) (cwV 2 hts (lw_V q1892 q1893 q1894 q79 q1895) rfl rfl rfl (by decide +kernel) ⟨Nat.le_of_ble_eq_true rfl, Nat.le_of_ble_eq_true rfl⟩) (kx_pv hK hS hB (kx_rc hK hO_x1 (C := RX1) (T := TX1) (N := 4) rfl)) rfl rfl hl.1 rfl (lv_room (Nat.le_of_ble_eq_true rfl)) dX0_label_5 ⟨by first | exact Nat.le_of_ble_eq_true rfl | omega | (show _ ≤ _; omega) | (dsimp only [headSpec]; omega), by first | exact Nat.le_of_ble_eq_true rfl | omega | (show _ ≤ _; omega) | (dsimp only [headSpec]; omega)⟩) hS (fun q _ h => Or.inr h) (fun q h => Or.inr h) (fun z_6 H_4 locs_1 hz_3 hF_5 hS_2 => ?_)
  have hzf_7 := hF_5.1
  refine W.widen (k := 60) (n := 1300) (Nat.le_of_ble_eq_true rfl) (Nat.le_of_ble_eq_true rfl) ?_
  obtain ⟨crw, la2w, ea2w, F2w, ea3w, F3w, hv_14, ho_15, ho_16, ho_17, ho_18, hw1, hw2, hw3⟩ := hz_3
  subst z_6
  refine kx_i2l hx hb (z := ln_bends (st_ln S ln) (pl : Int)) (by omega) (by omega) dX0_label_8 ?_
  have h_19 := hA_out.fr hF_5 (fun h => by rcases h with h | h | h | h <;> first | exact hnO9 _ h rfl | omega)
  have htyo : kTy D H_4 out := Or.inr ⟨2, _, by decide, h_19⟩
  refine kx_last (x := kL (ln_bends (st_ln S ln) (pl : Int))) hx hb hK h_19 hS_2 (by first | rfl | exact Or.inl rfl | exact Or.inr rfl | exact Or.inr (Or.inl rfl) | exact Or.inr (Or.inr rfl) | exact Or.inr (Or.inr (Or.inl rfl)) | exact Or.inr (Or.inr (Or.inr rfl)) | ((try dsimp only); (try simp only [kNW]); omega)) 0 (rfl) (by omega) (by omega) dX0_label_9 (fun H_22 locs_23 hA_21 hU_20 hS_24 => ?_)
  have hzu_25 := hU_20.1
  refine lv_goto (tgt := 21) hx hb dX0_label_10 (by decide) ?_
  refine kx_iconst hx hb dX0_label_21 ?_
  have h_26 := ho_15.up hU_20 (by first | assumption | exact Ne.symm (by assumption)  | omega | (have h9 := ho_15.lt; omega))
  have h_27 := ho_16.fr hd9 (kUp.fr hU_20) (fun x hx => by rw [show x = out from hx]; exact Or.inr ⟨htyo, fun w => by rcases hw2 _ w with z | z; exact hnO9 _ z rfl; omega⟩)
  have h_28 := ho_17.fr hd9 (kUp.fr hU_20) (fun x hx => by rw [show x = out from hx]; exact Or.inr ⟨htyo, fun w => by have h9 := hw1 _ w; omega⟩)
  have h_29 := ho_18.fr (kUp.fr hU_20) ⟨fun hx => ne_out.1 hx, fun hx => ne_out.2.1 hx⟩
  refine vx_ret ?_
  exact kx_iret (z := 0) hx hb hr hlk (⟨crw, la2w, ea2w, F2w, ea3w, F3w, by rfl, h_26, h_27, h_28, h_29, hA_21, by exact hw1, by exact hw2, by exact hw3⟩) hS_24 dX0_label_22

set_option maxHeartbeats 4000000 in
set_option maxRecDepth 100000 in
theorem wr_unlabel (l : Launch) (hl9 : l.stackTraces = false) (D : kG) (H : Heap) (x1 : Nat) (snp : Option Nat) (hi : Nat) (bu : Nat) (es : Nat) (L : List Nat) (st : Nat) (la : Nat) (ea : Nat) (F : Fts) (S : Ls) (gap : Int) (ln : Nat) (out : Nat) (go : Nat → Int64) (hO_x1 : kO D H x1 0 [.ref st, va_rf (snp), .ref hi, .ref bu]) (hP_kState_st : kState D H st la ea gap S F) (hP_kDq_hi : kDq D H hi es L) (hA_out : kAl D H out 1 go) (hok : LsOK S gap) (hnx : ∀ q, kOwn D st la ea F S.length q → q ≠ hi ∧ q ≠ es ∧ q ≠ x1) (bs_hi : kBase D ≤ hi) (bs_es : kBase D ≤ es) (ne_x1 : x1 ≠ hi ∧ x1 ≠ es) (hln : ln < S.length) (hlb : ln_lb (st_ln S ln) ≠ -1) (bs_out : kBase D ≤ out) (hnO9 : ∀ q, kOwn D st la ea F S.length q → q ≠ out) (ne_out : hi ≠ out ∧ es ≠ out ∧ x1 ≠ out) (hrv : -2147483648 ≤ ln_lb (st_ln S ln) ∧ ln_lb (st_ln S ln) ≤ 2147483647) : Met l yX0_unlabel (wsW_ yX0_unlabel cX0_unlabel 4 (some .int) [((0 : Nat), (9 : Nat), (12 : Nat), (13 : Nat)), ((0 : Nat), (9 : Nat), (15 : Nat), (17 : Nat))]) ({ frames := 8, cells := 47, slots := 1240, locals := 181 } : Room) (kPre D H [.ref x1, .int (kI ((ln : Nat) : Int)), .ref out]) (kQi (fun (r : Int) H' => ∃ (cr : Nat) (la2 : Nat) (ea2 : Nat) (F2 : Fts) (ea3 : Nat) (F3 : Fts), (r = 0) ∧ (kO D H' x1 0 [.ref st, va_rf (snp), .ref hi, .ref bu]) ∧ (kState D H' st la ea3 gap (S.set ln (w_lb (st_ln S ln) (-1))) F3) ∧ (kState D H' cr la2 ea2 gap S F2) ∧ (kDq D H' hi es ((pushL L cr))) ∧ (kAl D H' out 1 ((kup go 0 (kL (ln_lb (st_ln S ln)))))) ∧ (∀ q, kOwn D cr la2 ea2 F2 S.length q → H.size ≤ q) ∧ (∀ q, kOwn D st la ea3 F3 (S.set ln (w_lb (st_ln S ln) (-1))).length q → kOwn D st la ea F S.length q ∨ H.size ≤ q) ∧ (∀ q, kOwn D cr la2 ea2 F2 S.length q → ¬ kOwn D st la ea3 F3 (S.set ln (w_lb (st_ln S ln) (-1))).length q)) (fun q : Nat => q = out ∨ kOwn D st la ea F S.length q ∨ q = hi ∨ q = es ∨ H.size ≤ q)) (47) (1240) ((fun q : Nat => q = out ∨ kOwn D st la ea F S.length q ∨ q = hi ∨ q = es ∨ H.size ≤ q)) := by
  refine met_of_vx (vx_ofWH (cc := cX0_unlabel) (maxL := 4) (ret := (some .int)) (hh := [((0 : Nat), (9 : Nat), (12 : Nat), (13 : Nat)), ((0 : Nat), (9 : Nat), (15 : Nat), (17 : Nat))]) (by decide) rfl ?_)
  intro p e s m args below meth c s₁ B hml hv
  obtain ⟨rfl, hH, hK⟩ := hv
  subst hH
  have hx := B.exec
  have hb := B.bytes
  have hr := B.returns
  have hts := atoms_spec (ws := wsW_ yX0_unlabel cX0_unlabel 4 (some .int) [((0 : Nat), (9 : Nat), (12 : Nat), (13 : Nat)), ((0 : Nat), (9 : Nat), (15 : Nat), (17 : Nat))]) B.pre
  have htab := vx_table (x := yX0_unlabel) B (hts _ List.mem_cons_self)
  have hts : ∀ w ∈ lw_all, w.before _ s = true := fun w h => hts w (List.mem_cons_of_mem _ h)
  have hown : s.vm.findClass RX0 = some m.cls := findClass_of_methodNamed B.named
  have hlk := B.notSynchronized
  have hS : va_S (fun q : Nat => q = out ∨ kOwn D st la ea F S.length q ∨ q = hi ∨ q = es ∨ s.heap.size ≤ q) s.heap s.heap [] := va_S.rf
  have hB : ∀ q, (fun q : Nat => q = out ∨ kOwn D st la ea F S.length q ∨ q = hi ∨ q = es ∨ s.heap.size ≤ q) q → kBase D ≤ q := fun q h => by (have hks := hK.size; (try dsimp only at h); rcases h with h | h | h | h | h <;> first | omega | exact hP_kState_st.ownge h)
  have hl := lv_entry ([.ref x1, .int (kI ((ln : Nat) : Int)), .ref out]) (n := 4) (Nat.le_of_ble_eq_true rfl)
  rw [lg_entry_eq]
  generalize (lg_sl ([.ref x1, .int (kI ((ln : Nat) : Int)), .ref out]) ++ List.replicate (4 - (lg_sl ([.ref x1, .int (kI ((ln : Nat) : Int)), .ref out])).length) Slot.unset).toArray = ls at hl ⊢
  have hl : lv_has ls 4 [(0, .ref x1), (1, .int (kI ((ln : Nat) : Int))), (2, .ref out)] := hl
  have hltout := hA_out.lt
  have hd9 := hK.dis
  refine lv_aload_n hx hb dX0_unlabel_0 rfl (lv_at hl 2 rfl) ?_
  refine kx_iconst hx hb dX0_unlabel_1 ?_
  refine lv_aload_n hx hb dX0_unlabel_2 rfl (lv_at hl 0 rfl) ?_
  refine lv_iload_n hx hb dX0_unlabel_3 rfl (lv_at hl 1 rfl) ?_
  refine kx_ci (va_runV (As := [.int (kI ((ln : Nat) : Int))]) (rest := [.int (kI (0)), .ref out]) ⟨hx, hb, hml, hown, hts⟩ (m_X1_unlabel l D s.heap x1 snp hi bu es L st la ea F S gap ln hO_x1 hP_kState_st hP_kDq_hi hok hnx bs_hi bs_es ne_x1 hln hlb) (cwV 1 hts (lw_V q1910 q1911 q1912 q79 q1913) rfl rfl rfl (by decide +kernel) ⟨Nat.le_of_ble_eq_true rfl, Nat.le_of_ble_eq_true rfl⟩) (kx_pv hK hS hB (kx_rc hK hO_x1 (C := RX1) (T := TX1) (N := 4) rfl)) rfl rfl hl.1 rfl (lv_room (Nat.le_of_ble_eq_true rfl)) dX0_unlabel_4 ⟨by first | exact Nat.le_of_ble_eq_true rfl | omega | (show _ ≤ _; omega) | (dsimp only [headSpec]; omega), by first | exact Nat.le_of_ble_eq_true rfl | omega | (show _ ≤ _; omega) | (dsimp only [headSpec]; omega)⟩) hS (fun q _ h => Or.inr h) (fun q h => Or.inr h) (fun z_6 H_4 locs_1 hz_3 hF_5 hS_2 => ?_)
  have hzf_7 := hF_5.1
  refine W.widen (k := 47) (n := 1240) (Nat.le_of_ble_eq_true rfl) (Nat.le_of_ble_eq_true rfl) ?_
  obtain ⟨crw, la2w, ea2w, F2w, ea3w, F3w, hv_14, ho_15, ho_16, ho_17, ho_18, hw1, hw2, hw3⟩ := hz_3
  subst z_6
  refine kx_i2l hx hb (z := ln_lb (st_ln S ln)) (by omega) (by omega) dX0_unlabel_7 ?_
  have h_19 := hA_out.fr hF_5 (fun h => by rcases h with h | h | h | h <;> first | exact hnO9 _ h rfl | omega)
  have htyo : kTy D H_4 out := Or.inr ⟨2, _, by decide, h_19⟩
  refine kx_last (x := kL (ln_lb (st_ln S ln))) hx hb hK h_19 hS_2 (by first | rfl | exact Or.inl rfl | exact Or.inr rfl | exact Or.inr (Or.inl rfl) | exact Or.inr (Or.inr rfl) | exact Or.inr (Or.inr (Or.inl rfl)) | exact Or.inr (Or.inr (Or.inr rfl)) | ((try dsimp only); (try simp only [kNW]); omega)) 0 (rfl) (by omega) (by omega) dX0_unlabel_8 (fun H_22 locs_23 hA_21 hU_20 hS_24 => ?_)
  have hzu_25 := hU_20.1
  refine lv_goto (tgt := 18) hx hb dX0_unlabel_9 (by decide) ?_
  refine kx_iconst hx hb dX0_unlabel_18 ?_
  have h_26 := ho_15.up hU_20 (by first | assumption | exact Ne.symm (by assumption)  | omega | (have h9 := ho_15.lt; omega))
  have h_27 := ho_16.fr hd9 (kUp.fr hU_20) (fun x hx => by rw [show x = out from hx]; exact Or.inr ⟨htyo, fun w => by rcases hw2 _ w with z | z; exact hnO9 _ z rfl; omega⟩)
  have h_28 := ho_17.fr hd9 (kUp.fr hU_20) (fun x hx => by rw [show x = out from hx]; exact Or.inr ⟨htyo, fun w => by have h9 := hw1 _ w; omega⟩)
  have h_29 := ho_18.fr (kUp.fr hU_20) ⟨fun hx => ne_out.1 hx, fun hx => ne_out.2.1 hx⟩
  refine vx_ret ?_
  exact kx_iret (z := 0) hx hb hr hlk (⟨crw, la2w, ea2w, F2w, ea3w, F3w, by rfl, h_26, h_27, h_28, h_29, hA_21, by exact hw1, by exact hw2, by exact hw3⟩) hS_24 dX0_unlabel_19

set_option maxHeartbeats 4000000 in
set_option maxRecDepth 100000 in
theorem wr_labelBest (l : Launch) (hl9 : l.stackTraces = false) (D : kG) (H : Heap) (x1 : Nat) (snp : Option Nat) (hi : Nat) (bu : Nat) (es : Nat) (L : List Nat) (st : Nat) (la : Nat) (ea : Nat) (F : Fts) (S : Ls) (gap : Int) (ln : Nat) (out : Nat) (go : Nat → Int64) (hO_x1 : kO D H x1 0 [.ref st, va_rf (snp), .ref hi, .ref bu]) (hP_kState_st : kState D H st la ea gap S F) (hP_kDq_hi : kDq D H hi es L) (hA_out : kAl D H out 1 go) (hok : LsOK S gap) (hnx : ∀ q, kOwn D st la ea F S.length q → q ≠ hi ∧ q ≠ es ∧ q ≠ x1) (bs_hi : kBase D ≤ hi) (bs_es : kBase D ≤ es) (ne_x1 : x1 ≠ hi ∧ x1 ≠ es) (hln : ln < S.length) (hbp : st_best S gap ln ≠ -1) (bs_out : kBase D ≤ out) (hnO9 : ∀ q, kOwn D st la ea F S.length q → q ≠ out) (ne_out : hi ≠ out ∧ es ≠ out ∧ x1 ≠ out) (hrv : -2147483648 ≤ st_best S gap ln ∧ st_best S gap ln ≤ 2147483647) : Met l yX0_labelBest (wsW_ yX0_labelBest cX0_labelBest 4 (some .int) [((0 : Nat), (9 : Nat), (12 : Nat), (13 : Nat)), ((0 : Nat), (9 : Nat), (15 : Nat), (17 : Nat))]) ({ frames := 11, cells := 800, slots := 3300, locals := 3190 } : Room) (kPre D H [.ref x1, .int (kI ((ln : Nat) : Int)), .ref out]) (kQi (fun (r : Int) H' => ∃ (cr : Nat) (la2 : Nat) (ea2 : Nat) (F2 : Fts) (ea3 : Nat) (F3 : Fts), (r = 0) ∧ (kO D H' x1 0 [.ref st, va_rf (snp), .ref hi, .ref bu]) ∧ (kState D H' st la ea3 gap (S.set ln (w_lb (st_ln S ln) (st_best S gap ln))) F3) ∧ (kState D H' cr la2 ea2 gap S F2) ∧ (kDq D H' hi es ((pushL L cr))) ∧ (kAl D H' out 1 ((kup go 0 (kL (st_best S gap ln))))) ∧ (∀ q, kOwn D cr la2 ea2 F2 S.length q → H.size ≤ q) ∧ (∀ q, kOwn D st la ea3 F3 (S.set ln (w_lb (st_ln S ln) (st_best S gap ln))).length q → kOwn D st la ea F S.length q ∨ H.size ≤ q) ∧ (∀ q, kOwn D cr la2 ea2 F2 S.length q → ¬ kOwn D st la ea3 F3 (S.set ln (w_lb (st_ln S ln) (st_best S gap ln))).length q)) (fun q : Nat => q = out ∨ kOwn D st la ea F S.length q ∨ q = hi ∨ q = es ∨ H.size ≤ q)) (800) (3300) ((fun q : Nat => q = out ∨ kOwn D st la ea F S.length q ∨ q = hi ∨ q = es ∨ H.size ≤ q)) := by
  refine met_of_vx (vx_ofWH (cc := cX0_labelBest) (maxL := 4) (ret := (some .int)) (hh := [((0 : Nat), (9 : Nat), (12 : Nat), (13 : Nat)), ((0 : Nat), (9 : Nat), (15 : Nat), (17 : Nat))]) (by decide) rfl ?_)
  intro p e s m args below meth c s₁ B hml hv
  obtain ⟨rfl, hH, hK⟩ := hv
  subst hH
  have hx := B.exec
  have hb := B.bytes
  have hr := B.returns
  have hts := atoms_spec (ws := wsW_ yX0_labelBest cX0_labelBest 4 (some .int) [((0 : Nat), (9 : Nat), (12 : Nat), (13 : Nat)), ((0 : Nat), (9 : Nat), (15 : Nat), (17 : Nat))]) B.pre
  have htab := vx_table (x := yX0_labelBest) B (hts _ List.mem_cons_self)
  have hts : ∀ w ∈ lw_all, w.before _ s = true := fun w h => hts w (List.mem_cons_of_mem _ h)
  have hown : s.vm.findClass RX0 = some m.cls := findClass_of_methodNamed B.named
  have hlk := B.notSynchronized
  have hS : va_S (fun q : Nat => q = out ∨ kOwn D st la ea F S.length q ∨ q = hi ∨ q = es ∨ s.heap.size ≤ q) s.heap s.heap [] := va_S.rf
  have hB : ∀ q, (fun q : Nat => q = out ∨ kOwn D st la ea F S.length q ∨ q = hi ∨ q = es ∨ s.heap.size ≤ q) q → kBase D ≤ q := fun q h => by (have hks := hK.size; (try dsimp only at h); rcases h with h | h | h | h | h <;> first | omega | exact hP_kState_st.ownge h)
  have hl := lv_entry ([.ref x1, .int (kI ((ln : Nat) : Int)), .ref out]) (n := 4) (Nat.le_of_ble_eq_true rfl)
  rw [lg_entry_eq]
  generalize (lg_sl ([.ref x1, .int (kI ((ln : Nat) : Int)), .ref out]) ++ List.replicate (4 - (lg_sl ([.ref x1, .int (kI ((ln : Nat) : Int)), .ref out])).length) Slot.unset).toArray = ls at hl ⊢
  have hl : lv_has ls 4 [(0, .ref x1), (1, .int (kI ((ln : Nat) : Int))), (2, .ref out)] := hl
  have hltout := hA_out.lt
  have hd9 := hK.dis
  refine lv_aload_n hx hb dX0_labelBest_0 rfl (lv_at hl 2 rfl) ?_
  refine kx_iconst hx hb dX0_labelBest_1 ?_
  refine lv_aload_n hx hb dX0_labelBest_2 rfl (lv_at hl 0 rfl) ?_
  refine lv_iload_n hx hb dX0_labelBest_3 rfl (lv_at hl 1 rfl) ?_
  refine kx_ci (va_runV (As := [.int (kI ((ln : Nat) : Int))]) (rest := [.int (kI (0)), .ref out]) ⟨hx, hb, hml, hown, hts⟩ (m_X1_labelBest l D s.heap x1 snp hi bu es L st la ea F S gap ln hO_x1 hP_kState_st hP_kDq_hi hok hnx bs_hi bs_es ne_x1 hln hbp) (cwV 1 hts (lw_V q1918 q1919 q1920 q79 q1921) rfl rfl rfl (by decide +kernel) ⟨Nat.le_of_ble_eq_true rfl, Nat.le_of_ble_eq_true rfl⟩) (kx_pv hK hS hB (kx_rc hK hO_x1 (C := RX1) (T := TX1) (N := 4) rfl)) rfl rfl hl.1 rfl (lv_room (Nat.le_of_ble_eq_true rfl)) dX0_labelBest_4 ⟨by first | exact Nat.le_of_ble_eq_true rfl | omega | (show _ ≤ _; omega) | (dsimp only [headSpec]; omega), by first | exact Nat.le_of_ble_eq_true rfl | omega | (show _ ≤ _; omega) | (dsimp only [headSpec]; omega)⟩) hS (fun q _ h => Or.inr h) (fun q h => Or.inr h) (fun z_6 H_4 locs_1 hz_3 hF_5 hS_2 => ?_)
  have hzf_7 := hF_5.1
  refine W.widen (k := 800) (n := 3300) (Nat.le_of_ble_eq_true rfl) (Nat.le_of_ble_eq_true rfl) ?_
  obtain ⟨crw, la2w, ea2w, F2w, ea3w, F3w, hv_14, ho_15, ho_16, ho_17, ho_18, hw1, hw2, hw3⟩ := hz_3
  subst z_6
  refine kx_i2l hx hb (z := st_best S gap ln) (by omega) (by omega) dX0_labelBest_7 ?_
  have h_19 := hA_out.fr hF_5 (fun h => by rcases h with h | h | h | h <;> first | exact hnO9 _ h rfl | omega)
  have htyo : kTy D H_4 out := Or.inr ⟨2, _, by decide, h_19⟩
  refine kx_last (x := kL (st_best S gap ln)) hx hb hK h_19 hS_2 (by first | rfl | exact Or.inl rfl | exact Or.inr rfl | exact Or.inr (Or.inl rfl) | exact Or.inr (Or.inr rfl) | exact Or.inr (Or.inr (Or.inl rfl)) | exact Or.inr (Or.inr (Or.inr rfl)) | ((try dsimp only); (try simp only [kNW]); omega)) 0 (rfl) (by omega) (by omega) dX0_labelBest_8 (fun H_22 locs_23 hA_21 hU_20 hS_24 => ?_)
  have hzu_25 := hU_20.1
  refine lv_goto (tgt := 18) hx hb dX0_labelBest_9 (by decide) ?_
  refine kx_iconst hx hb dX0_labelBest_18 ?_
  have h_26 := ho_15.up hU_20 (by first | assumption | exact Ne.symm (by assumption)  | omega | (have h9 := ho_15.lt; omega))
  have h_27 := ho_16.fr hd9 (kUp.fr hU_20) (fun x hx => by rw [show x = out from hx]; exact Or.inr ⟨htyo, fun w => by rcases hw2 _ w with z | z; exact hnO9 _ z rfl; omega⟩)
  have h_28 := ho_17.fr hd9 (kUp.fr hU_20) (fun x hx => by rw [show x = out from hx]; exact Or.inr ⟨htyo, fun w => by have h9 := hw1 _ w; omega⟩)
  have h_29 := ho_18.fr (kUp.fr hU_20) ⟨fun hx => ne_out.1 hx, fun hx => ne_out.2.1 hx⟩
  refine vx_ret ?_
  exact kx_iret (z := 0) hx hb hr hlk (⟨crw, la2w, ea2w, F2w, ea3w, F3w, by rfl, h_26, h_27, h_28, h_29, hA_21, by exact hw1, by exact hw2, by exact hw3⟩) hS_24 dX0_labelBest_19

set_option maxHeartbeats 4000000 in
set_option maxRecDepth 100000 in
theorem wr_setGap (l : Launch) (hl9 : l.stackTraces = false) (D : kG) (H : Heap) (x1 : Nat) (snp : Option Nat) (hi : Nat) (bu : Nat) (es : Nat) (L : List Nat) (st : Nat) (la : Nat) (ea : Nat) (F : Fts) (S : Ls) (gap : Int) (x : Int) (out : Nat) (go : Nat → Int64) (hO_x1 : kO D H x1 0 [.ref st, va_rf (snp), .ref hi, .ref bu]) (hP_kState_st : kState D H st la ea gap S F) (hP_kDq_hi : kDq D H hi es L) (hA_out : kAl D H out 1 go) (hok : LsOK S gap) (hnx : ∀ q, kOwn D st la ea F S.length q → q ≠ hi ∧ q ≠ es ∧ q ≠ x1) (bs_hi : kBase D ≤ hi) (bs_es : kBase D ≤ es) (ne_x1 : x1 ≠ hi ∧ x1 ≠ es) (hgx : 1 ≤ x ∧ x ≤ 6) (bs_out : kBase D ≤ out) (hnO9 : ∀ q, kOwn D st la ea F S.length q → q ≠ out) (ne_out : hi ≠ out ∧ es ≠ out ∧ x1 ≠ out) (hrv : -2147483648 ≤ gap ∧ gap ≤ 2147483647) : Met l yX0_setGap (wsW_ yX0_setGap cX0_setGap 4 (some .int) [((0 : Nat), (9 : Nat), (12 : Nat), (15 : Nat))]) ({ frames := 8, cells := 47, slots := 1240, locals := 181 } : Room) (kPre D H [.ref x1, .int (kI (x)), .ref out]) (kQi (fun (r : Int) H' => ∃ (cr : Nat) (la2 : Nat) (ea2 : Nat) (F2 : Fts) (ea3 : Nat) (F3 : Fts), (r = 0) ∧ (kO D H' x1 0 [.ref st, va_rf (snp), .ref hi, .ref bu]) ∧ (kState D H' st la ea3 x S F3) ∧ (kState D H' cr la2 ea2 gap S F2) ∧ (kDq D H' hi es ((pushL L cr))) ∧ (kAl D H' out 1 ((kup go 0 (kL gap)))) ∧ (∀ q, kOwn D cr la2 ea2 F2 S.length q → H.size ≤ q) ∧ (∀ q, kOwn D st la ea3 F3 (S).length q → kOwn D st la ea F S.length q ∨ H.size ≤ q) ∧ (∀ q, kOwn D cr la2 ea2 F2 S.length q → ¬ kOwn D st la ea3 F3 (S).length q)) (fun q : Nat => q = out ∨ kOwn D st la ea F S.length q ∨ q = hi ∨ q = es ∨ H.size ≤ q)) (47) (1240) ((fun q : Nat => q = out ∨ kOwn D st la ea F S.length q ∨ q = hi ∨ q = es ∨ H.size ≤ q)) := by
  refine met_of_vx (vx_ofWH (cc := cX0_setGap) (maxL := 4) (ret := (some .int)) (hh := [((0 : Nat), (9 : Nat), (12 : Nat), (15 : Nat))]) (by decide) rfl ?_)
  intro p e s m args below meth c s₁ B hml hv
  obtain ⟨rfl, hH, hK⟩ := hv
  subst hH
  have hx := B.exec
  have hb := B.bytes
  have hr := B.returns
  have hts := atoms_spec (ws := wsW_ yX0_setGap cX0_setGap 4 (some .int) [((0 : Nat), (9 : Nat), (12 : Nat), (15 : Nat))]) B.pre
  have htab := vx_table (x := yX0_setGap) B (hts _ List.mem_cons_self)
  have hts : ∀ w ∈ lw_all, w.before _ s = true := fun w h => hts w (List.mem_cons_of_mem _ h)
  have hown : s.vm.findClass RX0 = some m.cls := findClass_of_methodNamed B.named
  have hlk := B.notSynchronized
  have hS : va_S (fun q : Nat => q = out ∨ kOwn D st la ea F S.length q ∨ q = hi ∨ q = es ∨ s.heap.size ≤ q) s.heap s.heap [] := va_S.rf
  have hB : ∀ q, (fun q : Nat => q = out ∨ kOwn D st la ea F S.length q ∨ q = hi ∨ q = es ∨ s.heap.size ≤ q) q → kBase D ≤ q := fun q h => by (have hks := hK.size; (try dsimp only at h); rcases h with h | h | h | h | h <;> first | omega | exact hP_kState_st.ownge h)
  have hl := lv_entry ([.ref x1, .int (kI (x)), .ref out]) (n := 4) (Nat.le_of_ble_eq_true rfl)
  rw [lg_entry_eq]
  generalize (lg_sl ([.ref x1, .int (kI (x)), .ref out]) ++ List.replicate (4 - (lg_sl ([.ref x1, .int (kI (x)), .ref out])).length) Slot.unset).toArray = ls at hl ⊢
  have hl : lv_has ls 4 [(0, .ref x1), (1, .int (kI (x))), (2, .ref out)] := hl
  have hltout := hA_out.lt
  have hd9 := hK.dis
  refine lv_aload_n hx hb dX0_setGap_0 rfl (lv_at hl 2 rfl) ?_
  refine kx_iconst hx hb dX0_setGap_1 ?_
  refine lv_aload_n hx hb dX0_setGap_2 rfl (lv_at hl 0 rfl) ?_
  refine lv_iload_n hx hb dX0_setGap_3 rfl (lv_at hl 1 rfl) ?_
  refine kx_ci (va_runV (As := [.int (kI (x))]) (rest := [.int (kI (0)), .ref out]) ⟨hx, hb, hml, hown, hts⟩ (m_X1_setGap l D s.heap x1 snp hi bu es L st la ea F S gap x hO_x1 hP_kState_st hP_kDq_hi hok hnx bs_hi bs_es ne_x1 hgx) (cwV 1 hts (lw_V q1927 q1928 q1929 q79 q1930) rfl rfl rfl (by decide +kernel) ⟨Nat.le_of_ble_eq_true rfl, Nat.le_of_ble_eq_true rfl⟩) (kx_pv hK hS hB (kx_rc hK hO_x1 (C := RX1) (T := TX1) (N := 4) rfl)) rfl rfl hl.1 rfl (lv_room (Nat.le_of_ble_eq_true rfl)) dX0_setGap_4 ⟨by first | exact Nat.le_of_ble_eq_true rfl | omega | (show _ ≤ _; omega) | (dsimp only [headSpec]; omega), by first | exact Nat.le_of_ble_eq_true rfl | omega | (show _ ≤ _; omega) | (dsimp only [headSpec]; omega)⟩) hS (fun q _ h => Or.inr h) (fun q h => Or.inr h) (fun z_6 H_4 locs_1 hz_3 hF_5 hS_2 => ?_)
  have hzf_7 := hF_5.1
  refine W.widen (k := 47) (n := 1240) (Nat.le_of_ble_eq_true rfl) (Nat.le_of_ble_eq_true rfl) ?_
  obtain ⟨crw, la2w, ea2w, F2w, ea3w, F3w, hv_14, ho_15, ho_16, ho_17, ho_18, hw1, hw2, hw3⟩ := hz_3
  subst z_6
  refine kx_i2l hx hb (z := gap) (by omega) (by omega) dX0_setGap_7 ?_
  have h_19 := hA_out.fr hF_5 (fun h => by rcases h with h | h | h | h <;> first | exact hnO9 _ h rfl | omega)
  have htyo : kTy D H_4 out := Or.inr ⟨2, _, by decide, h_19⟩
  refine kx_last (x := kL (gap)) hx hb hK h_19 hS_2 (by first | rfl | exact Or.inl rfl | exact Or.inr rfl | exact Or.inr (Or.inl rfl) | exact Or.inr (Or.inr rfl) | exact Or.inr (Or.inr (Or.inl rfl)) | exact Or.inr (Or.inr (Or.inr rfl)) | ((try dsimp only); (try simp only [kNW]); omega)) 0 (rfl) (by omega) (by omega) dX0_setGap_8 (fun H_22 locs_23 hA_21 hU_20 hS_24 => ?_)
  have hzu_25 := hU_20.1
  refine lv_goto (tgt := 15) hx hb dX0_setGap_9 (by decide) ?_
  refine kx_iconst hx hb dX0_setGap_15 ?_
  have h_26 := ho_15.up hU_20 (by first | assumption | exact Ne.symm (by assumption)  | omega | (have h9 := ho_15.lt; omega))
  have h_27 := ho_16.fr hd9 (kUp.fr hU_20) (fun x hx => by rw [show x = out from hx]; exact Or.inr ⟨htyo, fun w => by rcases hw2 _ w with z | z; exact hnO9 _ z rfl; omega⟩)
  have h_28 := ho_17.fr hd9 (kUp.fr hU_20) (fun x hx => by rw [show x = out from hx]; exact Or.inr ⟨htyo, fun w => by have h9 := hw1 _ w; omega⟩)
  have h_29 := ho_18.fr (kUp.fr hU_20) ⟨fun hx => ne_out.1 hx, fun hx => ne_out.2.1 hx⟩
  refine vx_ret ?_
  exact kx_iret (z := 0) hx hb hr hlk (⟨crw, la2w, ea2w, F2w, ea3w, F3w, by rfl, h_26, h_27, h_28, h_29, hA_21, by exact hw1, by exact hw2, by exact hw3⟩) hS_24 dX0_setGap_16

set_option maxHeartbeats 4000000 in
set_option maxRecDepth 100000 in
theorem wr_step (l : Launch) (hl9 : l.stackTraces = false) (D : kG) (H : Heap) (x1 : Nat) (snp : Option Nat) (hi : Nat) (bu : Nat) (es : Nat) (L : List Nat) (st : Nat) (la : Nat) (ea : Nat) (F : Fts) (S : Ls) (gap : Int) (ln : Nat) (d : Int) (out : Nat) (go : Nat → Int64) (hO_x1 : kO D H x1 0 [.ref st, va_rf (snp), .ref hi, .ref bu]) (hP_kState_st : kState D H st la ea gap S F) (hP_kDq_hi : kDq D H hi es L) (hA_out : kAl D H out 1 go) (hok : LsOK S gap) (hnx : ∀ q, kOwn D st la ea F S.length q → q ≠ hi ∧ q ≠ es ∧ q ≠ x1) (bs_hi : kBase D ≤ hi) (bs_es : kBase D ≤ es) (ne_x1 : x1 ≠ hi ∧ x1 ≠ es) (hln : ln < S.length) (hG : StG S) (hd : 0 ≤ d ∧ d ≤ 7) (hwn : st_whyNot S ln d = 0) (bs_out : kBase D ≤ out) (hnO9 : ∀ q, kOwn D st la ea F S.length q → q ≠ out) (ne_out : hi ≠ out ∧ es ≠ out ∧ x1 ≠ out) : Met l yX0_step (wsW_ yX0_step cX0_step 5 (some .int) [((0 : Nat), (17 : Nat), (20 : Nat), (13 : Nat)), ((0 : Nat), (17 : Nat), (24 : Nat), (15 : Nat)), ((0 : Nat), (17 : Nat), (28 : Nat), (17 : Nat))]) ({ frames := 10, cells := 60, slots := 1300, locals := 3170 } : Room) (kPre D H [.ref x1, .int (kI ((ln : Nat) : Int)), .int (kI (d)), .ref out]) (kQi (fun (r : Int) H' => ∃ (cr : Nat) (la2 : Nat) (ea2 : Nat) (F2 : Fts) (ea3 : Nat) (F3 : Fts), (r = 0) ∧ (kO D H' x1 0 [.ref st, va_rf (snp), .ref hi, .ref bu]) ∧ (kState D H' st la ea3 gap (S.set ln (w_step (st_ln S ln) d)) F3) ∧ (kState D H' cr la2 ea2 gap S F2) ∧ (kDq D H' hi es ((pushL L cr))) ∧ (kAl D H' out 1 ((kup go 0 (kL (kb (ln_cl (w_step (st_ln S ln) d))))))) ∧ (∀ q, kOwn D cr la2 ea2 F2 S.length q → H.size ≤ q) ∧ (∀ q, kOwn D st la ea3 F3 (S.set ln (w_step (st_ln S ln) d)).length q → kOwn D st la ea F S.length q ∨ H.size ≤ q) ∧ (∀ q, kOwn D cr la2 ea2 F2 S.length q → ¬ kOwn D st la ea3 F3 (S.set ln (w_step (st_ln S ln) d)).length q)) (fun q : Nat => q = out ∨ kOwn D st la ea F S.length q ∨ q = hi ∨ q = es ∨ H.size ≤ q)) (60) (1300) ((fun q : Nat => q = out ∨ kOwn D st la ea F S.length q ∨ q = hi ∨ q = es ∨ H.size ≤ q)) := by
  refine met_of_vx (vx_ofWH (cc := cX0_step) (maxL := 5) (ret := (some .int)) (hh := [((0 : Nat), (17 : Nat), (20 : Nat), (13 : Nat)), ((0 : Nat), (17 : Nat), (24 : Nat), (15 : Nat)), ((0 : Nat), (17 : Nat), (28 : Nat), (17 : Nat))]) (by decide) rfl ?_)
  intro p e s m args below meth c s₁ B hml hv
  obtain ⟨rfl, hH, hK⟩ := hv
  subst hH
  have hx := B.exec
  have hb := B.bytes
  have hr := B.returns
  have hts := atoms_spec (ws := wsW_ yX0_step cX0_step 5 (some .int) [((0 : Nat), (17 : Nat), (20 : Nat), (13 : Nat)), ((0 : Nat), (17 : Nat), (24 : Nat), (15 : Nat)), ((0 : Nat), (17 : Nat), (28 : Nat), (17 : Nat))]) B.pre
  have htab := vx_table (x := yX0_step) B (hts _ List.mem_cons_self)
  have hts : ∀ w ∈ lw_all, w.before _ s = true := fun w h => hts w (List.mem_cons_of_mem _ h)
  have hown : s.vm.findClass RX0 = some m.cls := findClass_of_methodNamed B.named
  have hlk := B.notSynchronized
  have hS : va_S (fun q : Nat => q = out ∨ kOwn D st la ea F S.length q ∨ q = hi ∨ q = es ∨ s.heap.size ≤ q) s.heap s.heap [] := va_S.rf
  have hB : ∀ q, (fun q : Nat => q = out ∨ kOwn D st la ea F S.length q ∨ q = hi ∨ q = es ∨ s.heap.size ≤ q) q → kBase D ≤ q := fun q h => by (have hks := hK.size; (try dsimp only at h); rcases h with h | h | h | h | h <;> first | omega | exact hP_kState_st.ownge h)
  have hl := lv_entry ([.ref x1, .int (kI ((ln : Nat) : Int)), .int (kI (d)), .ref out]) (n := 5) (Nat.le_of_ble_eq_true rfl)
  rw [lg_entry_eq]
  generalize (lg_sl ([.ref x1, .int (kI ((ln : Nat) : Int)), .int (kI (d)), .ref out]) ++ List.replicate (5 - (lg_sl ([.ref x1, .int (kI ((ln : Nat) : Int)), .int (kI (d)), .ref out])).length) Slot.unset).toArray = ls at hl ⊢
  have hl : lv_has ls 5 [(0, .ref x1), (1, .int (kI ((ln : Nat) : Int))), (2, .int (kI (d))), (3, .ref out)] := hl
  have hltout := hA_out.lt
  have hd9 := hK.dis
  refine lv_aload_n hx hb dX0_step_0 rfl (lv_at hl 3 rfl) ?_
  refine kx_iconst hx hb dX0_step_1 ?_
  refine lv_aload_n hx hb dX0_step_2 rfl (lv_at hl 0 rfl) ?_
  refine lv_iload_n hx hb dX0_step_3 rfl (lv_at hl 1 rfl) ?_
  refine lv_iload_n hx hb dX0_step_4 rfl (lv_at hl 2 rfl) ?_
  refine kx_cb (va_runV (As := [.int (kI ((ln : Nat) : Int)), .int (kI (d))]) (rest := [.int (kI (0)), .ref out]) ⟨hx, hb, hml, hown, hts⟩ (m_X1_step l D s.heap x1 snp hi bu es L st la ea F S gap ln d hO_x1 hP_kState_st hP_kDq_hi hok hnx bs_hi bs_es ne_x1 hln hG hd hwn) (cwV 2 hts (lw_V q1856 q1857 q1858 q79 q1859) rfl rfl rfl (by decide +kernel) ⟨Nat.le_of_ble_eq_true rfl, Nat.le_of_ble_eq_true rfl⟩) (kx_pv hK hS hB (kx_rc hK hO_x1 (C := RX1) (T := TX1) (N := 4) rfl)) rfl rfl hl.1 rfl (lv_room (Nat.le_of_ble_eq_true rfl)) dX0_step_5 ⟨by first | exact Nat.le_of_ble_eq_true rfl | omega | (show _ ≤ _; omega) | (dsimp only [headSpec]; omega), by first | exact Nat.le_of_ble_eq_true rfl | omega | (show _ ≤ _; omega) | (dsimp only [headSpec]; omega)⟩) hS (fun q _ h => Or.inr h) (fun q h => Or.inr h) (fun z_6 H_4 locs_1 hz_3 hF_5 hS_2 => ?_)
  have hzf_7 := hF_5.1
  refine W.widen (k := 60) (n := 1300) (Nat.le_of_ble_eq_true rfl) (Nat.le_of_ble_eq_true rfl) ?_
  obtain ⟨crw, la2w, ea2w, F2w, ea3w, F3w, hv_14, ho_15, ho_16, ho_17, ho_18, hw1, hw2, hw3⟩ := hz_3
  subst z_6
  refine kx_ifz (tgt := 15) hx hb dX0_step_8 (by decide) (fun cb9 => ?_) (fun cb9 => ?_)
  · -- taken at 8
    refine kx_lconst0 hx hb dX0_step_15 ?_
    refine kx_eql (kL (kb (ln_cl (w_step (st_ln S ln) d)))) (by rw [cb9]; rfl) ?_
    have h_19 := hA_out.fr hF_5 (fun h => by rcases h with h | h | h | h <;> first | exact hnO9 _ h rfl | omega)
    have htyo : kTy D H_4 out := Or.inr ⟨2, _, by decide, h_19⟩
    refine kx_last (x := kL (kb (ln_cl (w_step (st_ln S ln) d)))) hx hb hK h_19 hS_2 (by first | rfl | exact Or.inl rfl | exact Or.inr rfl | exact Or.inr (Or.inl rfl) | exact Or.inr (Or.inr rfl) | exact Or.inr (Or.inr (Or.inl rfl)) | exact Or.inr (Or.inr (Or.inr rfl)) | ((try dsimp only); (try simp only [kNW]); omega)) 0 (rfl) (by omega) (by omega) dX0_step_16 (fun H_22 locs_23 hA_21 hU_20 hS_24 => ?_)
    have hzu_25 := hU_20.1
    refine lv_goto (tgt := 32) hx hb dX0_step_17 (by decide) ?_
    refine kx_iconst hx hb dX0_step_32 ?_
    have h_26 := ho_15.up hU_20 (by first | assumption | exact Ne.symm (by assumption)  | omega | (have h9 := ho_15.lt; omega))
    have h_27 := ho_16.fr hd9 (kUp.fr hU_20) (fun x hx => by rw [show x = out from hx]; exact Or.inr ⟨htyo, fun w => by rcases hw2 _ w with z | z; exact hnO9 _ z rfl; omega⟩)
    have h_28 := ho_17.fr hd9 (kUp.fr hU_20) (fun x hx => by rw [show x = out from hx]; exact Or.inr ⟨htyo, fun w => by have h9 := hw1 _ w; omega⟩)
    have h_29 := ho_18.fr (kUp.fr hU_20) ⟨fun hx => ne_out.1 hx, fun hx => ne_out.2.1 hx⟩
    refine vx_ret ?_
    exact kx_iret (z := 0) hx hb hr hlk (⟨crw, la2w, ea2w, F2w, ea3w, F3w, by rfl, h_26, h_27, h_28, h_29, hA_21, by exact hw1, by exact hw2, by exact hw3⟩) hS_24 dX0_step_33
  · -- not taken at 8
    refine kx_lconst1 hx hb dX0_step_11 ?_
    refine lv_goto (tgt := 16) hx hb dX0_step_12 (by decide) ?_
    refine kx_eql (kL (kb (ln_cl (w_step (st_ln S ln) d)))) (by rw [cb9]; rfl) ?_
    have h_30 := hA_out.fr hF_5 (fun h => by rcases h with h | h | h | h <;> first | exact hnO9 _ h rfl | omega)
    have htyo : kTy D H_4 out := Or.inr ⟨2, _, by decide, h_30⟩
    refine kx_last (x := kL (kb (ln_cl (w_step (st_ln S ln) d)))) hx hb hK h_30 hS_2 (by first | rfl | exact Or.inl rfl | exact Or.inr rfl | exact Or.inr (Or.inl rfl) | exact Or.inr (Or.inr rfl) | exact Or.inr (Or.inr (Or.inl rfl)) | exact Or.inr (Or.inr (Or.inr rfl)) | ((try dsimp only); (try simp only [kNW]); omega)) 0 (rfl) (by omega) (by omega) dX0_step_16 (fun H_33 locs_34 hA_32 hU_31 hS_35 => ?_)
    have hzu_36 := hU_31.1
    refine lv_goto (tgt := 32) hx hb dX0_step_17 (by decide) ?_
    refine kx_iconst hx hb dX0_step_32 ?_
    have h_37 := ho_15.up hU_31 (by first | assumption | exact Ne.symm (by assumption)  | omega | (have h9 := ho_15.lt; omega))
    have h_38 := ho_16.fr hd9 (kUp.fr hU_31) (fun x hx => by rw [show x = out from hx]; exact Or.inr ⟨htyo, fun w => by rcases hw2 _ w with z | z; exact hnO9 _ z rfl; omega⟩)
    have h_39 := ho_17.fr hd9 (kUp.fr hU_31) (fun x hx => by rw [show x = out from hx]; exact Or.inr ⟨htyo, fun w => by have h9 := hw1 _ w; omega⟩)
    have h_40 := ho_18.fr (kUp.fr hU_31) ⟨fun hx => ne_out.1 hx, fun hx => ne_out.2.1 hx⟩
    refine vx_ret ?_
    exact kx_iret (z := 0) hx hb hr hlk (⟨crw, la2w, ea2w, F2w, ea3w, F3w, by rfl, h_37, h_38, h_39, h_40, hA_32, by exact hw1, by exact hw2, by exact hw3⟩) hS_35 dX0_step_33

set_option maxHeartbeats 4000000 in
set_option maxRecDepth 100000 in
theorem wr_runText (l : Launch) (hl9 : l.stackTraces = false) (D : kG) (H : Heap) (x1 : Nat) (snp : Option Nat) (hi : Nat) (bu : Nat) (es : Nat) (L : List Nat) (st : Nat) (la : Nat) (ea : Nat) (F : Fts) (S : Ls) (gap : Int) (vb : Nat) (t : List Int) (out : Nat) (go : Nat → Int64) (hO_x1 : kO D H x1 0 [.ref st, va_rf (snp), .ref hi, .ref bu]) (hP_kState_st : kState D H st la ea gap S F) (hP_kDq_hi : kDq D H hi es L) (hP_kTx_bu : kTx D H bu vb t) (hA_out : kAl D H out 1 go) (hok : LsOK S gap) (hnx : ∀ q, kOwn D st la ea F S.length q → q ≠ hi ∧ q ≠ es ∧ q ≠ x1) (bs_hi : kBase D ≤ hi) (bs_es : kBase D ≤ es) (ne_x1 : x1 ≠ hi ∧ x1 ≠ es) (hG : StG S) (hyes : (tx_all t).1 = true) (ht24 : t.length ≤ 24) (bs_out : kBase D ≤ out) (hnO9 : ∀ q, kOwn D st la ea F S.length q → q ≠ out) (ne_out : hi ≠ out ∧ es ≠ out ∧ x1 ≠ out) (hrv : -2147483648 ≤ (((tx_go t S gap).1 : Nat) : Int) ∧ (((tx_go t S gap).1 : Nat) : Int) ≤ 2147483647) : Met l yX0_runText (wsW_ yX0_runText cX0_runText 3 (some .int) [((0 : Nat), (8 : Nat), (11 : Nat), (15 : Nat))]) ({ frames := 15, cells := 36240, slots := 103798, locals := 3276 } : Room) (kPre D H [.ref x1, .ref out]) (kQi (fun (r : Int) H' => ∃ (cr : Nat) (la2 : Nat) (ea2 : Nat) (F2 : Fts) (ea3 : Nat) (F3 : Fts), (r = 0) ∧ (kO D H' x1 0 [.ref st, va_rf (snp), .ref hi, .ref bu]) ∧ (kState D H' st la ea3 ((tx_go t S gap).2.2) ((tx_go t S gap).2.1) F3) ∧ (kState D H' cr la2 ea2 gap S F2) ∧ (kDq D H' hi es ((pushL L cr))) ∧ (kAl D H' out 1 ((kup go 0 (kL ((((tx_go t S gap).1 : Nat) : Int)))))) ∧ (∀ q, kOwn D cr la2 ea2 F2 S.length q → H.size ≤ q) ∧ (∀ q, kOwn D st la ea3 F3 ((tx_go t S gap).2.1).length q → kOwn D st la ea F S.length q ∨ H.size ≤ q) ∧ (∀ q, kOwn D cr la2 ea2 F2 S.length q → ¬ kOwn D st la ea3 F3 ((tx_go t S gap).2.1).length q)) (fun q : Nat => q = out ∨ kOwn D st la ea F S.length q ∨ q = hi ∨ q = es ∨ H.size ≤ q)) (36240) (103798) ((fun q : Nat => q = out ∨ kOwn D st la ea F S.length q ∨ q = hi ∨ q = es ∨ H.size ≤ q)) := by
  refine met_of_vx (vx_ofWH (cc := cX0_runText) (maxL := 3) (ret := (some .int)) (hh := [((0 : Nat), (8 : Nat), (11 : Nat), (15 : Nat))]) (by decide) rfl ?_)
  intro p e s m args below meth c s₁ B hml hv
  obtain ⟨rfl, hH, hK⟩ := hv
  subst hH
  have hx := B.exec
  have hb := B.bytes
  have hr := B.returns
  have hts := atoms_spec (ws := wsW_ yX0_runText cX0_runText 3 (some .int) [((0 : Nat), (8 : Nat), (11 : Nat), (15 : Nat))]) B.pre
  have htab := vx_table (x := yX0_runText) B (hts _ List.mem_cons_self)
  have hts : ∀ w ∈ lw_all, w.before _ s = true := fun w h => hts w (List.mem_cons_of_mem _ h)
  have hown : s.vm.findClass RX0 = some m.cls := findClass_of_methodNamed B.named
  have hlk := B.notSynchronized
  have hS : va_S (fun q : Nat => q = out ∨ kOwn D st la ea F S.length q ∨ q = hi ∨ q = es ∨ s.heap.size ≤ q) s.heap s.heap [] := va_S.rf
  have hB : ∀ q, (fun q : Nat => q = out ∨ kOwn D st la ea F S.length q ∨ q = hi ∨ q = es ∨ s.heap.size ≤ q) q → kBase D ≤ q := fun q h => by (have hks := hK.size; (try dsimp only at h); rcases h with h | h | h | h | h <;> first | omega | exact hP_kState_st.ownge h)
  have hl := lv_entry ([.ref x1, .ref out]) (n := 3) (Nat.le_of_ble_eq_true rfl)
  rw [lg_entry_eq]
  generalize (lg_sl ([.ref x1, .ref out]) ++ List.replicate (3 - (lg_sl ([.ref x1, .ref out])).length) Slot.unset).toArray = ls at hl ⊢
  have hl : lv_has ls 3 [(0, .ref x1), (1, .ref out)] := hl
  have hltout := hA_out.lt
  have hd9 := hK.dis
  refine lv_aload_n hx hb dX0_runText_0 rfl (lv_at hl 1 rfl) ?_
  refine kx_iconst hx hb dX0_runText_1 ?_
  refine lv_aload_n hx hb dX0_runText_2 rfl (lv_at hl 0 rfl) ?_
  refine kx_ci (va_runV (As := []) (rest := [.int (kI (0)), .ref out]) ⟨hx, hb, hml, hown, hts⟩ (m_X1_runText l D s.heap x1 snp hi bu es L st la ea F S gap vb t hO_x1 hP_kState_st hP_kDq_hi hP_kTx_bu hok hnx bs_hi bs_es ne_x1 hG hyes ht24) (cwV 0 hts (lw_V q2191 q2192 q2193 q79 q2194) rfl rfl rfl (by decide +kernel) ⟨Nat.le_of_ble_eq_true rfl, Nat.le_of_ble_eq_true rfl⟩) (kx_pv hK hS hB (kx_rc hK hO_x1 (C := RX1) (T := TX1) (N := 4) rfl)) rfl rfl hl.1 rfl (lv_room (Nat.le_of_ble_eq_true rfl)) dX0_runText_3 ⟨by first | exact Nat.le_of_ble_eq_true rfl | omega | (show _ ≤ _; omega) | (dsimp only [headSpec]; omega), by first | exact Nat.le_of_ble_eq_true rfl | omega | (show _ ≤ _; omega) | (dsimp only [headSpec]; omega)⟩) hS (fun q _ h => Or.inr h) (fun q h => Or.inr h) (fun z_6 H_4 locs_1 hz_3 hF_5 hS_2 => ?_)
  have hzf_7 := hF_5.1
  refine W.widen (k := 36240) (n := 103798) (Nat.le_of_ble_eq_true rfl) (Nat.le_of_ble_eq_true rfl) ?_
  obtain ⟨crw, la2w, ea2w, F2w, ea3w, F3w, hv_14, ho_15, ho_16, ho_17, ho_18, hw1, hw2, hw3⟩ := hz_3
  subst z_6
  refine kx_i2l hx hb (z := (((tx_go t S gap).1 : Nat) : Int)) (by omega) (by omega) dX0_runText_6 ?_
  have h_19 := hA_out.fr hF_5 (fun h => by rcases h with h | h | h | h <;> first | exact hnO9 _ h rfl | omega)
  have htyo : kTy D H_4 out := Or.inr ⟨2, _, by decide, h_19⟩
  refine kx_last (x := kL ((((tx_go t S gap).1 : Nat) : Int))) hx hb hK h_19 hS_2 (by first | rfl | exact Or.inl rfl | exact Or.inr rfl | exact Or.inr (Or.inl rfl) | exact Or.inr (Or.inr rfl) | exact Or.inr (Or.inr (Or.inl rfl)) | exact Or.inr (Or.inr (Or.inr rfl)) | ((try dsimp only); (try simp only [kNW]); omega)) 0 (rfl) (by omega) (by omega) dX0_runText_7 (fun H_22 locs_23 hA_21 hU_20 hS_24 => ?_)
  have hzu_25 := hU_20.1
  refine lv_goto (tgt := 14) hx hb dX0_runText_8 (by decide) ?_
  refine kx_iconst hx hb dX0_runText_14 ?_
  have h_26 := ho_15.up hU_20 (by first | assumption | exact Ne.symm (by assumption)  | omega | (have h9 := ho_15.lt; omega))
  have h_27 := ho_16.fr hd9 (kUp.fr hU_20) (fun x hx => by rw [show x = out from hx]; exact Or.inr ⟨htyo, fun w => by rcases hw2 _ w with z | z; exact hnO9 _ z rfl; omega⟩)
  have h_28 := ho_17.fr hd9 (kUp.fr hU_20) (fun x hx => by rw [show x = out from hx]; exact Or.inr ⟨htyo, fun w => by have h9 := hw1 _ w; omega⟩)
  have h_29 := ho_18.fr (kUp.fr hU_20) ⟨fun hx => ne_out.1 hx, fun hx => ne_out.2.1 hx⟩
  refine vx_ret ?_
  exact kx_iret (z := 0) hx hb hr hlk (⟨crw, la2w, ea2w, F2w, ea3w, F3w, by rfl, h_26, h_27, h_28, h_29, hA_21, by exact hw1, by exact hw2, by exact hw3⟩) hS_24 dX0_runText_15

set_option maxHeartbeats 4000000 in
set_option maxRecDepth 100000 in
theorem wr_append (l : Launch) (hl9 : l.stackTraces = false) (D : kG) (H : Heap) (x1 : Nat) (st : Nat) (snp : Option Nat) (hi : Nat) (bu : Nat) (vb : Nat) (t : List Int) (x : Int) (out : Nat) (go : Nat → Int64) (hO_x1 : kO D H x1 0 [.ref st, va_rf (snp), .ref hi, .ref bu]) (hP_kTx_bu : kTx D H bu vb t) (hA_out : kAl D H out 1 go) (bs_bu : kBase D ≤ bu) (bs_vb : kBase D ≤ vb) (hxa : 32 ≤ x ∧ x ≤ 126) (ht9 : t.length < 60) (bs_out : kBase D ≤ out) (ne_ot2 : bu ≠ out ∧ vb ≠ out) (ne_out : x1 ≠ out) (hrv : -2147483648 ≤ ((t.length + 1 : Nat) : Int) ∧ ((t.length + 1 : Nat) : Int) ≤ 2147483647) : Met l yX0_append (wsW_ yX0_append cX0_append 4 (some .int) [((0 : Nat), (9 : Nat), (12 : Nat), (15 : Nat)), ((0 : Nat), (9 : Nat), (15 : Nat), (17 : Nat))]) ({ frames := 7, cells := 1, slots := 70, locals := 167 } : Room) (kPre D H [.ref x1, .int (kI (x)), .ref out]) (kQi (fun (r : Int) H' => ∃ (vb2 : Nat), (r = 0) ∧ (kO D H' x1 0 [.ref st, va_rf (snp), .ref hi, .ref bu]) ∧ (kTx D H' bu vb2 ((t ++ [x]))) ∧ (kAl D H' out 1 ((kup go 0 (kL (((t.length + 1 : Nat) : Int)))))) ∧ (vb2 = vb ∨ H.size ≤ vb2)) (fun q : Nat => q = out ∨ q = bu ∨ q = vb ∨ H.size ≤ q)) (1) (70) ((fun q : Nat => q = out ∨ q = bu ∨ q = vb ∨ H.size ≤ q)) := by
  refine met_of_vx (vx_ofWH (cc := cX0_append) (maxL := 4) (ret := (some .int)) (hh := [((0 : Nat), (9 : Nat), (12 : Nat), (15 : Nat)), ((0 : Nat), (9 : Nat), (15 : Nat), (17 : Nat))]) (by decide) rfl ?_)
  intro p e s m args below meth c s₁ B hml hv
  obtain ⟨rfl, hH, hK⟩ := hv
  subst hH
  have hx := B.exec
  have hb := B.bytes
  have hr := B.returns
  have hts := atoms_spec (ws := wsW_ yX0_append cX0_append 4 (some .int) [((0 : Nat), (9 : Nat), (12 : Nat), (15 : Nat)), ((0 : Nat), (9 : Nat), (15 : Nat), (17 : Nat))]) B.pre
  have htab := vx_table (x := yX0_append) B (hts _ List.mem_cons_self)
  have hts : ∀ w ∈ lw_all, w.before _ s = true := fun w h => hts w (List.mem_cons_of_mem _ h)
  have hown : s.vm.findClass RX0 = some m.cls := findClass_of_methodNamed B.named
  have hlk := B.notSynchronized
  have hS : va_S (fun q : Nat => q = out ∨ q = bu ∨ q = vb ∨ s.heap.size ≤ q) s.heap s.heap [] := va_S.rf
  have hB : ∀ q, (fun q : Nat => q = out ∨ q = bu ∨ q = vb ∨ s.heap.size ≤ q) q → kBase D ≤ q := fun q h => by (have hks := hK.size; (try dsimp only at h); rcases h with h | h | h | h <;> first | omega | exact hP_kState_st.ownge h)
  have hl := lv_entry ([.ref x1, .int (kI (x)), .ref out]) (n := 4) (Nat.le_of_ble_eq_true rfl)
  rw [lg_entry_eq]
  generalize (lg_sl ([.ref x1, .int (kI (x)), .ref out]) ++ List.replicate (4 - (lg_sl ([.ref x1, .int (kI (x)), .ref out])).length) Slot.unset).toArray = ls at hl ⊢
  have hl : lv_has ls 4 [(0, .ref x1), (1, .int (kI (x))), (2, .ref out)] := hl
  have hltout := hA_out.lt
  have hd9 := hK.dis
  refine lv_aload_n hx hb dX0_append_0 rfl (lv_at hl 2 rfl) ?_
  refine kx_iconst hx hb dX0_append_1 ?_
  refine lv_aload_n hx hb dX0_append_2 rfl (lv_at hl 0 rfl) ?_
  refine lv_iload_n hx hb dX0_append_3 rfl (lv_at hl 1 rfl) ?_
  refine kx_ci (va_runV (As := [.int (kI (x))]) (rest := [.int (kI (0)), .ref out]) ⟨hx, hb, hml, hown, hts⟩ (m_X1_append l D s.heap x1 st snp hi bu vb t x hO_x1 hP_kTx_bu bs_bu bs_vb hxa ht9) (cwV 1 hts (lw_V q2167 q2168 q2169 q79 q2170) rfl rfl rfl (by decide +kernel) ⟨Nat.le_of_ble_eq_true rfl, Nat.le_of_ble_eq_true rfl⟩) (kx_pv hK hS hB (kx_rc hK hO_x1 (C := RX1) (T := TX1) (N := 4) rfl)) rfl rfl hl.1 rfl (lv_room (Nat.le_of_ble_eq_true rfl)) dX0_append_4 ⟨by first | exact Nat.le_of_ble_eq_true rfl | omega | (show _ ≤ _; omega) | (dsimp only [headSpec]; omega), by first | exact Nat.le_of_ble_eq_true rfl | omega | (show _ ≤ _; omega) | (dsimp only [headSpec]; omega)⟩) hS (fun q _ h => Or.inr h) (fun q h => Or.inr h) (fun z_6 H_4 locs_1 hz_3 hF_5 hS_2 => ?_)
  have hzf_7 := hF_5.1
  refine W.widen (k := 1) (n := 70) (Nat.le_of_ble_eq_true rfl) (Nat.le_of_ble_eq_true rfl) ?_
  obtain ⟨vb2w, hv_9, ho_10, ho_11, hwv⟩ := hz_3
  subst z_6
  refine kx_i2l hx hb (z := ((t.length + 1 : Nat) : Int)) (by omega) (by omega) dX0_append_7 ?_
  have h_12 := hA_out.fr hF_5 (fun h => by rcases h with h | h | h <;> first | exact hnO9 _ h rfl | omega)
  have htyo : kTy D H_4 out := Or.inr ⟨2, _, by decide, h_12⟩
  refine kx_last (x := kL (((t.length + 1 : Nat) : Int))) hx hb hK h_12 hS_2 (by first | rfl | exact Or.inl rfl | exact Or.inr rfl | exact Or.inr (Or.inl rfl) | exact Or.inr (Or.inr rfl) | exact Or.inr (Or.inr (Or.inl rfl)) | exact Or.inr (Or.inr (Or.inr rfl)) | ((try dsimp only); (try simp only [kNW]); omega)) 0 (rfl) (by omega) (by omega) dX0_append_8 (fun H_15 locs_16 hA_14 hU_13 hS_17 => ?_)
  have hzu_18 := hU_13.1
  refine lv_goto (tgt := 18) hx hb dX0_append_9 (by decide) ?_
  refine kx_iconst hx hb dX0_append_18 ?_
  have h_19 := ho_10.up hU_13 (by first | assumption | exact Ne.symm (by assumption)  | omega | (have h9 := ho_10.lt; omega))
  have h_20 := ho_11.fr (kUp.fr hU_13) ⟨fun hx => ne_ot2.1 hx, fun hx => by have h9 : vb2w = out := hx; rcases hwv with z | z; exact ne_ot2.2 (z.symm.trans h9); omega⟩
  refine vx_ret ?_
  exact kx_iret (z := 0) hx hb hr hlk (⟨vb2w, by rfl, h_19, h_20, hA_14, by exact hwv⟩) hS_17 dX0_append_19

set_option maxHeartbeats 4000000 in
set_option maxRecDepth 100000 in
theorem wr_undo (l : Launch) (hl9 : l.stackTraces = false) (D : kG) (H : Heap) (x1 : Nat) (st : Nat) (snp : Option Nat) (hi : Nat) (bu : Nat) (es : Nat) (L : List Nat) (cs : Nat) (la2 : Nat) (gap2 : Int) (out : Nat) (go : Nat → Int64) (hO_x1 : kO D H x1 0 [.ref st, va_rf (snp), .ref hi, .ref bu]) (hP_kDq_hi : kDq D H hi es L) (hO_cs : kO D H cs 1 [.ref la2, .int (kI (gap2))]) (hA_out : kAl D H out 1 go) (hL0 : L ≠ []) (hcs : L.getD (L.length - 1) 0 = cs) (bs_x1 : kBase D ≤ x1) (bs_hi : kBase D ≤ hi) (bs_es : kBase D ≤ es) (bs_out : kBase D ≤ out) (ne_out : hi ≠ out ∧ es ≠ out ∧ x1 ≠ out) (hrv : -2147483648 ≤ ((L.length - 1 : Nat) : Int) ∧ ((L.length - 1 : Nat) : Int) ≤ 2147483647) : Met l yX0_undo (wsW_ yX0_undo cX0_undo 3 (some .int) [((0 : Nat), (8 : Nat), (11 : Nat), (17 : Nat))]) ({ frames := 4, cells := 0, slots := 0, locals := 85 } : Room) (kPre D H [.ref x1, .ref out]) (kQi (fun (r : Int) H' => (r = 0) ∧ (kO D H' x1 0 [.ref cs, va_rf (snp), .ref hi, .ref bu]) ∧ (kDq D H' hi es L.dropLast) ∧ (kAl D H' out 1 ((kup go 0 (kL (((L.length - 1 : Nat) : Int))))))) (fun q : Nat => q = out ∨ q = x1 ∨ q = hi ∨ q = es)) (0) (0) ((fun q : Nat => q = out ∨ q = x1 ∨ q = hi ∨ q = es)) := by
  refine met_of_vx (vx_ofWH (cc := cX0_undo) (maxL := 3) (ret := (some .int)) (hh := [((0 : Nat), (8 : Nat), (11 : Nat), (17 : Nat))]) (by decide) rfl ?_)
  intro p e s m args below meth c s₁ B hml hv
  obtain ⟨rfl, hH, hK⟩ := hv
  subst hH
  have hx := B.exec
  have hb := B.bytes
  have hr := B.returns
  have hts := atoms_spec (ws := wsW_ yX0_undo cX0_undo 3 (some .int) [((0 : Nat), (8 : Nat), (11 : Nat), (17 : Nat))]) B.pre
  have htab := vx_table (x := yX0_undo) B (hts _ List.mem_cons_self)
  have hts : ∀ w ∈ lw_all, w.before _ s = true := fun w h => hts w (List.mem_cons_of_mem _ h)
  have hown : s.vm.findClass RX0 = some m.cls := findClass_of_methodNamed B.named
  have hlk := B.notSynchronized
  have hS : va_S (fun q : Nat => q = out ∨ q = x1 ∨ q = hi ∨ q = es) s.heap s.heap [] := va_S.rf
  have hB : ∀ q, (fun q : Nat => q = out ∨ q = x1 ∨ q = hi ∨ q = es) q → kBase D ≤ q := fun q h => by (have hks := hK.size; (try dsimp only at h); rcases h with h | h | h | h <;> first | omega | exact hP_kState_st.ownge h)
  have hl := lv_entry ([.ref x1, .ref out]) (n := 3) (Nat.le_of_ble_eq_true rfl)
  rw [lg_entry_eq]
  generalize (lg_sl ([.ref x1, .ref out]) ++ List.replicate (3 - (lg_sl ([.ref x1, .ref out])).length) Slot.unset).toArray = ls at hl ⊢
  have hl : lv_has ls 3 [(0, .ref x1), (1, .ref out)] := hl
  have hltout := hA_out.lt
  have hd9 := hK.dis
  refine lv_aload_n hx hb dX0_undo_0 rfl (lv_at hl 1 rfl) ?_
  refine kx_iconst hx hb dX0_undo_1 ?_
  refine lv_aload_n hx hb dX0_undo_2 rfl (lv_at hl 0 rfl) ?_
  refine kx_ci (va_runV (As := []) (rest := [.int (kI (0)), .ref out]) ⟨hx, hb, hml, hown, hts⟩ (m_X1_undo l D s.heap x1 st snp hi bu es L cs la2 gap2 hO_x1 hP_kDq_hi hO_cs hL0 hcs bs_x1 bs_hi bs_es) (cwV 0 hts (lw_V q2206 q2207 q2208 q79 q2209) rfl rfl rfl (by decide +kernel) ⟨Nat.le_of_ble_eq_true rfl, Nat.le_of_ble_eq_true rfl⟩) (kx_pv hK hS hB (kx_rc hK hO_x1 (C := RX1) (T := TX1) (N := 4) rfl)) rfl rfl hl.1 rfl (lv_room (Nat.le_of_ble_eq_true rfl)) dX0_undo_3 ⟨by first | exact Nat.le_of_ble_eq_true rfl | omega | (show _ ≤ _; omega) | (dsimp only [headSpec]; omega), by first | exact Nat.le_of_ble_eq_true rfl | omega | (show _ ≤ _; omega) | (dsimp only [headSpec]; omega)⟩) hS (fun q _ h => Or.inr h) (fun q h => Or.inr h) (fun z_6 H_4 locs_1 hz_3 hF_5 hS_2 => ?_)
  have hzf_7 := hF_5.1
  refine W.widen (k := 0) (n := 0) (Nat.le_of_ble_eq_true rfl) (Nat.le_of_ble_eq_true rfl) ?_
  obtain ⟨hv_8, ho_9, ho_10⟩ := hz_3
  subst z_6
  refine kx_i2l hx hb (z := ((L.length - 1 : Nat) : Int)) (by omega) (by omega) dX0_undo_6 ?_
  have h_11 := hA_out.fr hF_5 (fun h => by rcases h with h | h | h <;> first | exact hnO9 _ h rfl | omega)
  have htyo : kTy D H_4 out := Or.inr ⟨2, _, by decide, h_11⟩
  refine kx_last (x := kL (((L.length - 1 : Nat) : Int))) hx hb hK h_11 hS_2 (by first | rfl | exact Or.inl rfl | exact Or.inr rfl | exact Or.inr (Or.inl rfl) | exact Or.inr (Or.inr rfl) | exact Or.inr (Or.inr (Or.inl rfl)) | exact Or.inr (Or.inr (Or.inr rfl)) | ((try dsimp only); (try simp only [kNW]); omega)) 0 (rfl) (by omega) (by omega) dX0_undo_7 (fun H_14 locs_15 hA_13 hU_12 hS_16 => ?_)
  have hzu_17 := hU_12.1
  refine lv_goto (tgt := 14) hx hb dX0_undo_8 (by decide) ?_
  refine kx_iconst hx hb dX0_undo_14 ?_
  have h_18 := ho_9.up hU_12 (by first | assumption | exact Ne.symm (by assumption)  | omega | (have h9 := ho_9.lt; omega))
  have h_19 := ho_10.fr (kUp.fr hU_12) ⟨fun hx => ne_out.1 hx, fun hx => ne_out.2.1 hx⟩
  refine vx_ret ?_
  exact kx_iret (z := 0) hx hb hr hlk (⟨by rfl, h_18, h_19, hA_13⟩) hS_16 dX0_undo_15

set_option maxHeartbeats 4000000 in
set_option maxRecDepth 100000 in
theorem wr_restoreSnapshot (l : Launch) (hl9 : l.stackTraces = false) (D : kG) (H : Heap) (x1 : Nat) (hi : Nat) (bu : Nat) (es : Nat) (L : List Nat) (st : Nat) (la : Nat) (ea : Nat) (F : Fts) (S : Ls) (gap : Int) (sp : Nat) (las : Nat) (eas : Nat) (gaps : Int) (Ss : Ls) (Fs : Fts) (out : Nat) (go : Nat → Int64) (hO_x1 : kO D H x1 0 [.ref st, .ref sp, .ref hi, .ref bu]) (hP_kState_st : kState D H st la ea gap S F) (hP_kDq_hi : kDq D H hi es L) (hP_kState_sp : kState D H sp las eas gaps Ss Fs) (hA_out : kAl D H out 1 go) (hok : LsOK S gap) (hnx : ∀ q, kOwn D st la ea F S.length q → q ≠ hi ∧ q ≠ es ∧ q ≠ x1) (bs_hi : kBase D ≤ hi) (bs_es : kBase D ≤ es) (ne_x1 : x1 ≠ hi ∧ x1 ≠ es) (hoks : LsOK Ss gaps) (hnsp : ∀ q, kOwn D sp las eas Fs Ss.length q → q ≠ hi ∧ q ≠ es ∧ q ≠ x1) (bs_x1 : kBase D ≤ x1) (bs_out : kBase D ≤ out) (ne_out : hi ≠ out ∧ es ≠ out ∧ x1 ≠ out) (hnso : ∀ q, kOwn D sp las eas Fs Ss.length q → q ≠ out) (hrv : -2147483648 ≤ ((Ss.length : Nat) : Int) ∧ ((Ss.length : Nat) : Int) ≤ 2147483647) : Met l yX0_restoreSnapshot (wsW_ yX0_restoreSnapshot cX0_restoreSnapshot 3 (some .int) [((0 : Nat), (8 : Nat), (11 : Nat), (17 : Nat))]) ({ frames := 8, cells := 84, slots := 2202, locals := 179 } : Room) (kPre D H [.ref x1, .ref out]) (kQi (fun (r : Int) H' => ∃ (cr : Nat) (la2 : Nat) (ea2 : Nat) (F2 : Fts) (cr2 : Nat) (la3 : Nat) (ea3 : Nat) (F3 : Fts), (r = 0) ∧ (kO D H' x1 0 [.ref cr2, .ref sp, .ref hi, .ref bu]) ∧ (kState D H' cr la2 ea2 gap S F2) ∧ (kState D H' cr2 la3 ea3 gaps Ss F3) ∧ (kState D H' sp las eas gaps Ss Fs) ∧ (kDq D H' hi es ((pushL L cr))) ∧ (kAl D H' out 1 ((kup go 0 (kL (((Ss.length : Nat) : Int)))))) ∧ (∀ q, kOwn D cr la2 ea2 F2 S.length q → H.size ≤ q) ∧ (∀ q, kOwn D cr2 la3 ea3 F3 Ss.length q → H.size ≤ q) ∧ (∀ q, kOwn D cr la2 ea2 F2 S.length q → ¬ kOwn D cr2 la3 ea3 F3 Ss.length q)) (fun q : Nat => q = out ∨ q = x1 ∨ q = hi ∨ q = es ∨ H.size ≤ q)) (84) (2202) ((fun q : Nat => q = out ∨ q = x1 ∨ q = hi ∨ q = es ∨ H.size ≤ q)) := by
  refine met_of_vx (vx_ofWH (cc := cX0_restoreSnapshot) (maxL := 3) (ret := (some .int)) (hh := [((0 : Nat), (8 : Nat), (11 : Nat), (17 : Nat))]) (by decide) rfl ?_)
  intro p e s m args below meth c s₁ B hml hv
  obtain ⟨rfl, hH, hK⟩ := hv
  subst hH
  have hx := B.exec
  have hb := B.bytes
  have hr := B.returns
  have hts := atoms_spec (ws := wsW_ yX0_restoreSnapshot cX0_restoreSnapshot 3 (some .int) [((0 : Nat), (8 : Nat), (11 : Nat), (17 : Nat))]) B.pre
  have htab := vx_table (x := yX0_restoreSnapshot) B (hts _ List.mem_cons_self)
  have hts : ∀ w ∈ lw_all, w.before _ s = true := fun w h => hts w (List.mem_cons_of_mem _ h)
  have hown : s.vm.findClass RX0 = some m.cls := findClass_of_methodNamed B.named
  have hlk := B.notSynchronized
  have hS : va_S (fun q : Nat => q = out ∨ q = x1 ∨ q = hi ∨ q = es ∨ s.heap.size ≤ q) s.heap s.heap [] := va_S.rf
  have hB : ∀ q, (fun q : Nat => q = out ∨ q = x1 ∨ q = hi ∨ q = es ∨ s.heap.size ≤ q) q → kBase D ≤ q := fun q h => by (have hks := hK.size; (try dsimp only at h); rcases h with h | h | h | h | h <;> first | omega | exact hP_kState_st.ownge h)
  have hl := lv_entry ([.ref x1, .ref out]) (n := 3) (Nat.le_of_ble_eq_true rfl)
  rw [lg_entry_eq]
  generalize (lg_sl ([.ref x1, .ref out]) ++ List.replicate (3 - (lg_sl ([.ref x1, .ref out])).length) Slot.unset).toArray = ls at hl ⊢
  have hl : lv_has ls 3 [(0, .ref x1), (1, .ref out)] := hl
  have hltout := hA_out.lt
  have hd9 := hK.dis
  refine lv_aload_n hx hb dX0_restoreSnapshot_0 rfl (lv_at hl 1 rfl) ?_
  refine kx_iconst hx hb dX0_restoreSnapshot_1 ?_
  refine lv_aload_n hx hb dX0_restoreSnapshot_2 rfl (lv_at hl 0 rfl) ?_
  refine kx_ci (va_runV (As := []) (rest := [.int (kI (0)), .ref out]) ⟨hx, hb, hml, hown, hts⟩ (m_X1_restoreSnapshot l D s.heap x1 hi bu es L st la ea F S gap sp las eas gaps Ss Fs hO_x1 hP_kState_st hP_kDq_hi hP_kState_sp hok hnx bs_hi bs_es ne_x1 hoks hnsp bs_x1) (cwV 0 hts (lw_V q2228 q2229 q2230 q79 q2231) rfl rfl rfl (by decide +kernel) ⟨Nat.le_of_ble_eq_true rfl, Nat.le_of_ble_eq_true rfl⟩) (kx_pv hK hS hB (kx_rc hK hO_x1 (C := RX1) (T := TX1) (N := 4) rfl)) rfl rfl hl.1 rfl (lv_room (Nat.le_of_ble_eq_true rfl)) dX0_restoreSnapshot_3 ⟨by first | exact Nat.le_of_ble_eq_true rfl | omega | (show _ ≤ _; omega) | (dsimp only [headSpec]; omega), by first | exact Nat.le_of_ble_eq_true rfl | omega | (show _ ≤ _; omega) | (dsimp only [headSpec]; omega)⟩) hS (fun q _ h => Or.inr h) (fun q h => Or.inr h) (fun z_6 H_4 locs_1 hz_3 hF_5 hS_2 => ?_)
  have hzf_7 := hF_5.1
  refine W.widen (k := 84) (n := 2202) (Nat.le_of_ble_eq_true rfl) (Nat.le_of_ble_eq_true rfl) ?_
  obtain ⟨crw, la2w, ea2w, F2w, cr2w, la3w, ea3w, F3w, hv_16, ho_17, ho_18, ho_19, ho_20, ho_21, hw1, hw2, hw3⟩ := hz_3
  subst z_6
  refine kx_i2l hx hb (z := ((Ss.length : Nat) : Int)) (by omega) (by omega) dX0_restoreSnapshot_6 ?_
  have h_22 := hA_out.fr hF_5 (fun h => by rcases h with h | h | h | h <;> first | exact hnO9 _ h rfl | omega)
  have htyo : kTy D H_4 out := Or.inr ⟨2, _, by decide, h_22⟩
  refine kx_last (x := kL (((Ss.length : Nat) : Int))) hx hb hK h_22 hS_2 (by first | rfl | exact Or.inl rfl | exact Or.inr rfl | exact Or.inr (Or.inl rfl) | exact Or.inr (Or.inr rfl) | exact Or.inr (Or.inr (Or.inl rfl)) | exact Or.inr (Or.inr (Or.inr rfl)) | ((try dsimp only); (try simp only [kNW]); omega)) 0 (rfl) (by omega) (by omega) dX0_restoreSnapshot_7 (fun H_25 locs_26 hA_24 hU_23 hS_27 => ?_)
  have hzu_28 := hU_23.1
  refine lv_goto (tgt := 14) hx hb dX0_restoreSnapshot_8 (by decide) ?_
  refine kx_iconst hx hb dX0_restoreSnapshot_14 ?_
  have h_29 := ho_17.up hU_23 (by first | assumption | exact Ne.symm (by assumption)  | omega | (have h9 := ho_17.lt; omega))
  have h_30 := ho_18.fr hd9 (kUp.fr hU_23) (fun x hx => by rw [show x = out from hx]; exact Or.inr ⟨htyo, fun w => by have h9 := hw1 _ w; omega⟩)
  have h_31 := ho_19.fr hd9 (kUp.fr hU_23) (fun x hx => by rw [show x = out from hx]; exact Or.inr ⟨htyo, fun w => by have h9 := hw2 _ w; omega⟩)
  have h_32 := ho_20.fr hd9 (kUp.fr hU_23) (fun x hx => by rw [show x = out from hx]; exact Or.inr ⟨htyo, fun w => by exact hnso _ w rfl⟩)
  have h_33 := ho_21.fr (kUp.fr hU_23) ⟨fun hx => ne_out.1 hx, fun hx => ne_out.2.1 hx⟩
  refine vx_ret ?_
  exact kx_iret (z := 0) hx hb hr hlk (⟨crw, la2w, ea2w, F2w, cr2w, la3w, ea3w, F3w, by rfl, h_29, h_30, h_31, h_32, h_33, hA_24, by exact hw1, by exact hw2, by exact hw3⟩) hS_27 dX0_restoreSnapshot_15

set_option maxHeartbeats 4000000 in
set_option maxRecDepth 100000 in
theorem wr_levelOf (l : Launch) (hl9 : l.stackTraces = false) (D : kG) (H : Heap) (x1 : Nat) (snp : Option Nat) (hi : Nat) (bu : Nat) (st : Nat) (la : Nat) (mc : Int) (ea : Nat) (F : Fts) (S : Ls) (gap : Int) (ln : Nat) (out : Nat) (go : Nat → Int64) (hO_x1 : kO D H x1 0 [.ref st, va_rf (snp), .ref hi, .ref bu]) (hO_st : kO D H st 1 [.ref la, .int (kI (gap))]) (hO_la : kO D H la 9 [.int (kI (mc)), .ref ea, .int (kI ((S.length : Nat) : Int))]) (hP_kLs_ea : kLs D H ea S.length F) (hP_kLn_F : kLn D H F S) (hA_out : kAl D H out 1 go) (hok : LsOK S gap) (hln : ln < S.length) (bs_out : kBase D ≤ out) (hrv : -2147483648 ≤ ln_lv (st_ln S ln) ∧ ln_lv (st_ln S ln) ≤ 2147483647) : Met l yX0_levelOf (wsW_ yX0_levelOf cX0_levelOf 4 (some .int) [((0 : Nat), (9 : Nat), (12 : Nat), (13 : Nat))]) ({ frames := 5, cells := 0, slots := 0, locals := 106 } : Room) (kPre D H [.ref x1, .int (kI ((ln : Nat) : Int)), .ref out]) (kQi (fun (r : Int) H' => (r = 0) ∧ (kAl D H' out 1 ((kup go 0 (kL (ln_lv (st_ln S ln))))))) (fun q : Nat => q = out)) (0) (0) ((fun q : Nat => q = out)) := by
  refine met_of_vx (vx_ofWH (cc := cX0_levelOf) (maxL := 4) (ret := (some .int)) (hh := [((0 : Nat), (9 : Nat), (12 : Nat), (13 : Nat))]) (by decide) rfl ?_)
  intro p e s m args below meth c s₁ B hml hv
  obtain ⟨rfl, hH, hK⟩ := hv
  subst hH
  have hx := B.exec
  have hb := B.bytes
  have hr := B.returns
  have hts := atoms_spec (ws := wsW_ yX0_levelOf cX0_levelOf 4 (some .int) [((0 : Nat), (9 : Nat), (12 : Nat), (13 : Nat))]) B.pre
  have htab := vx_table (x := yX0_levelOf) B (hts _ List.mem_cons_self)
  have hts : ∀ w ∈ lw_all, w.before _ s = true := fun w h => hts w (List.mem_cons_of_mem _ h)
  have hown : s.vm.findClass RX0 = some m.cls := findClass_of_methodNamed B.named
  have hlk := B.notSynchronized
  have hS : va_S (fun q : Nat => q = out) s.heap s.heap [] := va_S.rf
  have hB : ∀ q, (fun q : Nat => q = out) q → kBase D ≤ q := fun q h => by (have hks := hK.size; (try dsimp only at h); omega)
  have hl := lv_entry ([.ref x1, .int (kI ((ln : Nat) : Int)), .ref out]) (n := 4) (Nat.le_of_ble_eq_true rfl)
  rw [lg_entry_eq]
  generalize (lg_sl ([.ref x1, .int (kI ((ln : Nat) : Int)), .ref out]) ++ List.replicate (4 - (lg_sl ([.ref x1, .int (kI ((ln : Nat) : Int)), .ref out])).length) Slot.unset).toArray = ls at hl ⊢
  have hl : lv_has ls 4 [(0, .ref x1), (1, .int (kI ((ln : Nat) : Int))), (2, .ref out)] := hl
  have hltout := hA_out.lt
  have hd9 := hK.dis
  refine lv_aload_n hx hb dX0_levelOf_0 rfl (lv_at hl 2 rfl) ?_
  refine kx_iconst hx hb dX0_levelOf_1 ?_
  refine lv_aload_n hx hb dX0_levelOf_2 rfl (lv_at hl 0 rfl) ?_
  refine lv_iload_n hx hb dX0_levelOf_3 rfl (lv_at hl 1 rfl) ?_
  refine kx_ci0 (va_runV (As := [.int (kI ((ln : Nat) : Int))]) (rest := [.int (kI (0)), .ref out]) ⟨hx, hb, hml, hown, hts⟩ (m_X1_levelOf l D s.heap x1 snp hi bu st la mc ea F S gap ln hO_x1 hO_st hO_la hP_kLs_ea hP_kLn_F hok hln) (cwV 1 hts (lw_V q1934 q1935 q1936 q79 q1937) rfl rfl rfl (by decide +kernel) ⟨Nat.le_of_ble_eq_true rfl, Nat.le_of_ble_eq_true rfl⟩) (kx_pv hK hS hB (kx_rc hK hO_x1 (C := RX1) (T := TX1) (N := 4) rfl)) rfl rfl hl.1 rfl (lv_room (Nat.le_of_ble_eq_true rfl)) dX0_levelOf_4 ⟨by first | exact Nat.le_of_ble_eq_true rfl | omega | (show _ ≤ _; omega) | (dsimp only [headSpec]; omega), by first | exact Nat.le_of_ble_eq_true rfl | omega | (show _ ≤ _; omega) | (dsimp only [headSpec]; omega)⟩) hS (fun z_4 locs_1 hz_3 hS_2 => ?_)
  subst z_4
  refine kx_i2l hx hb (z := ln_lv (st_ln S ln)) (by omega) (by omega) dX0_levelOf_7 ?_
  have htyo : kTy D s.heap out := Or.inr ⟨2, _, by decide, hA_out⟩
  refine kx_last (x := kL (ln_lv (st_ln S ln))) hx hb hK hA_out hS_2 (by first | rfl | exact Or.inl rfl | exact Or.inr rfl | exact Or.inr (Or.inl rfl) | exact Or.inr (Or.inr rfl) | exact Or.inr (Or.inr (Or.inl rfl)) | exact Or.inr (Or.inr (Or.inr rfl)) | ((try dsimp only); (try simp only [kNW]); omega)) 0 (rfl) (by omega) (by omega) dX0_levelOf_8 (fun H_7 locs_8 hA_6 hU_5 hS_9 => ?_)
  have hzu_10 := hU_5.1
  refine lv_goto (tgt := 15) hx hb dX0_levelOf_9 (by decide) ?_
  refine kx_iconst hx hb dX0_levelOf_15 ?_
  refine vx_ret ?_
  exact kx_iret (z := 0) hx hb hr hlk (⟨by rfl, hA_6⟩) hS_9 dX0_levelOf_16

set_option maxHeartbeats 4000000 in
set_option maxRecDepth 100000 in
theorem wr_stepsOf (l : Launch) (hl9 : l.stackTraces = false) (D : kG) (H : Heap) (x1 : Nat) (snp : Option Nat) (hi : Nat) (bu : Nat) (st : Nat) (la : Nat) (mc : Int) (ea : Nat) (F : Fts) (S : Ls) (gap : Int) (ln : Nat) (out : Nat) (go : Nat → Int64) (hO_x1 : kO D H x1 0 [.ref st, va_rf (snp), .ref hi, .ref bu]) (hO_st : kO D H st 1 [.ref la, .int (kI (gap))]) (hO_la : kO D H la 9 [.int (kI (mc)), .ref ea, .int (kI ((S.length : Nat) : Int))]) (hP_kLs_ea : kLs D H ea S.length F) (hP_kLn_F : kLn D H F S) (hA_out : kAl D H out 1 go) (hok : LsOK S gap) (hln : ln < S.length) (bs_out : kBase D ≤ out) (hrv : -2147483648 ≤ ((ln_n (st_ln S ln) : Nat) : Int) ∧ ((ln_n (st_ln S ln) : Nat) : Int) ≤ 2147483647) : Met l yX0_stepsOf (wsW_ yX0_stepsOf cX0_stepsOf 4 (some .int) [((0 : Nat), (9 : Nat), (12 : Nat), (13 : Nat))]) ({ frames := 5, cells := 0, slots := 0, locals := 106 } : Room) (kPre D H [.ref x1, .int (kI ((ln : Nat) : Int)), .ref out]) (kQi (fun (r : Int) H' => (r = 0) ∧ (kAl D H' out 1 ((kup go 0 (kL (((ln_n (st_ln S ln) : Nat) : Int))))))) (fun q : Nat => q = out)) (0) (0) ((fun q : Nat => q = out)) := by
  refine met_of_vx (vx_ofWH (cc := cX0_stepsOf) (maxL := 4) (ret := (some .int)) (hh := [((0 : Nat), (9 : Nat), (12 : Nat), (13 : Nat))]) (by decide) rfl ?_)
  intro p e s m args below meth c s₁ B hml hv
  obtain ⟨rfl, hH, hK⟩ := hv
  subst hH
  have hx := B.exec
  have hb := B.bytes
  have hr := B.returns
  have hts := atoms_spec (ws := wsW_ yX0_stepsOf cX0_stepsOf 4 (some .int) [((0 : Nat), (9 : Nat), (12 : Nat), (13 : Nat))]) B.pre
  have htab := vx_table (x := yX0_stepsOf) B (hts _ List.mem_cons_self)
  have hts : ∀ w ∈ lw_all, w.before _ s = true := fun w h => hts w (List.mem_cons_of_mem _ h)
  have hown : s.vm.findClass RX0 = some m.cls := findClass_of_methodNamed B.named
  have hlk := B.notSynchronized
  have hS : va_S (fun q : Nat => q = out) s.heap s.heap [] := va_S.rf
  have hB : ∀ q, (fun q : Nat => q = out) q → kBase D ≤ q := fun q h => by (have hks := hK.size; (try dsimp only at h); omega)
  have hl := lv_entry ([.ref x1, .int (kI ((ln : Nat) : Int)), .ref out]) (n := 4) (Nat.le_of_ble_eq_true rfl)
  rw [lg_entry_eq]
  generalize (lg_sl ([.ref x1, .int (kI ((ln : Nat) : Int)), .ref out]) ++ List.replicate (4 - (lg_sl ([.ref x1, .int (kI ((ln : Nat) : Int)), .ref out])).length) Slot.unset).toArray = ls at hl ⊢
  have hl : lv_has ls 4 [(0, .ref x1), (1, .int (kI ((ln : Nat) : Int))), (2, .ref out)] := hl
  have hltout := hA_out.lt
  have hd9 := hK.dis
  refine lv_aload_n hx hb dX0_stepsOf_0 rfl (lv_at hl 2 rfl) ?_
  refine kx_iconst hx hb dX0_stepsOf_1 ?_
  refine lv_aload_n hx hb dX0_stepsOf_2 rfl (lv_at hl 0 rfl) ?_
  refine lv_iload_n hx hb dX0_stepsOf_3 rfl (lv_at hl 1 rfl) ?_
  refine kx_ci0 (va_runV (As := [.int (kI ((ln : Nat) : Int))]) (rest := [.int (kI (0)), .ref out]) ⟨hx, hb, hml, hown, hts⟩ (m_X1_stepsOf l D s.heap x1 snp hi bu st la mc ea F S gap ln hO_x1 hO_st hO_la hP_kLs_ea hP_kLn_F hok hln) (cwV 1 hts (lw_V q1941 q1942 q1943 q79 q1944) rfl rfl rfl (by decide +kernel) ⟨Nat.le_of_ble_eq_true rfl, Nat.le_of_ble_eq_true rfl⟩) (kx_pv hK hS hB (kx_rc hK hO_x1 (C := RX1) (T := TX1) (N := 4) rfl)) rfl rfl hl.1 rfl (lv_room (Nat.le_of_ble_eq_true rfl)) dX0_stepsOf_4 ⟨by first | exact Nat.le_of_ble_eq_true rfl | omega | (show _ ≤ _; omega) | (dsimp only [headSpec]; omega), by first | exact Nat.le_of_ble_eq_true rfl | omega | (show _ ≤ _; omega) | (dsimp only [headSpec]; omega)⟩) hS (fun z_4 locs_1 hz_3 hS_2 => ?_)
  subst z_4
  refine kx_i2l hx hb (z := ((ln_n (st_ln S ln) : Nat) : Int)) (by omega) (by omega) dX0_stepsOf_7 ?_
  have htyo : kTy D s.heap out := Or.inr ⟨2, _, by decide, hA_out⟩
  refine kx_last (x := kL (((ln_n (st_ln S ln) : Nat) : Int))) hx hb hK hA_out hS_2 (by first | rfl | exact Or.inl rfl | exact Or.inr rfl | exact Or.inr (Or.inl rfl) | exact Or.inr (Or.inr rfl) | exact Or.inr (Or.inr (Or.inl rfl)) | exact Or.inr (Or.inr (Or.inr rfl)) | ((try dsimp only); (try simp only [kNW]); omega)) 0 (rfl) (by omega) (by omega) dX0_stepsOf_8 (fun H_7 locs_8 hA_6 hU_5 hS_9 => ?_)
  have hzu_10 := hU_5.1
  refine lv_goto (tgt := 15) hx hb dX0_stepsOf_9 (by decide) ?_
  refine kx_iconst hx hb dX0_stepsOf_15 ?_
  refine vx_ret ?_
  exact kx_iret (z := 0) hx hb hr hlk (⟨by rfl, hA_6⟩) hS_9 dX0_stepsOf_16

set_option maxHeartbeats 4000000 in
set_option maxRecDepth 100000 in
theorem wr_labelOf (l : Launch) (hl9 : l.stackTraces = false) (D : kG) (H : Heap) (x1 : Nat) (snp : Option Nat) (hi : Nat) (bu : Nat) (st : Nat) (la : Nat) (mc : Int) (ea : Nat) (F : Fts) (S : Ls) (gap : Int) (ln : Nat) (out : Nat) (go : Nat → Int64) (hO_x1 : kO D H x1 0 [.ref st, va_rf (snp), .ref hi, .ref bu]) (hO_st : kO D H st 1 [.ref la, .int (kI (gap))]) (hO_la : kO D H la 9 [.int (kI (mc)), .ref ea, .int (kI ((S.length : Nat) : Int))]) (hP_kLs_ea : kLs D H ea S.length F) (hP_kLn_F : kLn D H F S) (hA_out : kAl D H out 1 go) (hok : LsOK S gap) (hln : ln < S.length) (bs_out : kBase D ≤ out) (hrv : -2147483648 ≤ ln_lb (st_ln S ln) ∧ ln_lb (st_ln S ln) ≤ 2147483647) : Met l yX0_labelOf (wsW_ yX0_labelOf cX0_labelOf 4 (some .int) [((0 : Nat), (9 : Nat), (12 : Nat), (13 : Nat))]) ({ frames := 5, cells := 0, slots := 0, locals := 106 } : Room) (kPre D H [.ref x1, .int (kI ((ln : Nat) : Int)), .ref out]) (kQi (fun (r : Int) H' => (r = 0) ∧ (kAl D H' out 1 ((kup go 0 (kL (ln_lb (st_ln S ln))))))) (fun q : Nat => q = out)) (0) (0) ((fun q : Nat => q = out)) := by
  refine met_of_vx (vx_ofWH (cc := cX0_labelOf) (maxL := 4) (ret := (some .int)) (hh := [((0 : Nat), (9 : Nat), (12 : Nat), (13 : Nat))]) (by decide) rfl ?_)
  intro p e s m args below meth c s₁ B hml hv
  obtain ⟨rfl, hH, hK⟩ := hv
  subst hH
  have hx := B.exec
  have hb := B.bytes
  have hr := B.returns
  have hts := atoms_spec (ws := wsW_ yX0_labelOf cX0_labelOf 4 (some .int) [((0 : Nat), (9 : Nat), (12 : Nat), (13 : Nat))]) B.pre
  have htab := vx_table (x := yX0_labelOf) B (hts _ List.mem_cons_self)
  have hts : ∀ w ∈ lw_all, w.before _ s = true := fun w h => hts w (List.mem_cons_of_mem _ h)
  have hown : s.vm.findClass RX0 = some m.cls := findClass_of_methodNamed B.named
  have hlk := B.notSynchronized
  have hS : va_S (fun q : Nat => q = out) s.heap s.heap [] := va_S.rf
  have hB : ∀ q, (fun q : Nat => q = out) q → kBase D ≤ q := fun q h => by (have hks := hK.size; (try dsimp only at h); omega)
  have hl := lv_entry ([.ref x1, .int (kI ((ln : Nat) : Int)), .ref out]) (n := 4) (Nat.le_of_ble_eq_true rfl)
  rw [lg_entry_eq]
  generalize (lg_sl ([.ref x1, .int (kI ((ln : Nat) : Int)), .ref out]) ++ List.replicate (4 - (lg_sl ([.ref x1, .int (kI ((ln : Nat) : Int)), .ref out])).length) Slot.unset).toArray = ls at hl ⊢
  have hl : lv_has ls 4 [(0, .ref x1), (1, .int (kI ((ln : Nat) : Int))), (2, .ref out)] := hl
  have hltout := hA_out.lt
  have hd9 := hK.dis
  refine lv_aload_n hx hb dX0_labelOf_0 rfl (lv_at hl 2 rfl) ?_
  refine kx_iconst hx hb dX0_labelOf_1 ?_
  refine lv_aload_n hx hb dX0_labelOf_2 rfl (lv_at hl 0 rfl) ?_
  refine lv_iload_n hx hb dX0_labelOf_3 rfl (lv_at hl 1 rfl) ?_
  refine kx_ci0 (va_runV (As := [.int (kI ((ln : Nat) : Int))]) (rest := [.int (kI (0)), .ref out]) ⟨hx, hb, hml, hown, hts⟩ (m_X1_labelOf l D s.heap x1 snp hi bu st la mc ea F S gap ln hO_x1 hO_st hO_la hP_kLs_ea hP_kLn_F hok hln) (cwV 1 hts (lw_V q2006 q2007 q2008 q79 q2009) rfl rfl rfl (by decide +kernel) ⟨Nat.le_of_ble_eq_true rfl, Nat.le_of_ble_eq_true rfl⟩) (kx_pv hK hS hB (kx_rc hK hO_x1 (C := RX1) (T := TX1) (N := 4) rfl)) rfl rfl hl.1 rfl (lv_room (Nat.le_of_ble_eq_true rfl)) dX0_labelOf_4 ⟨by first | exact Nat.le_of_ble_eq_true rfl | omega | (show _ ≤ _; omega) | (dsimp only [headSpec]; omega), by first | exact Nat.le_of_ble_eq_true rfl | omega | (show _ ≤ _; omega) | (dsimp only [headSpec]; omega)⟩) hS (fun z_4 locs_1 hz_3 hS_2 => ?_)
  subst z_4
  refine kx_i2l hx hb (z := ln_lb (st_ln S ln)) (by omega) (by omega) dX0_labelOf_7 ?_
  have htyo : kTy D s.heap out := Or.inr ⟨2, _, by decide, hA_out⟩
  refine kx_last (x := kL (ln_lb (st_ln S ln))) hx hb hK hA_out hS_2 (by first | rfl | exact Or.inl rfl | exact Or.inr rfl | exact Or.inr (Or.inl rfl) | exact Or.inr (Or.inr rfl) | exact Or.inr (Or.inr (Or.inl rfl)) | exact Or.inr (Or.inr (Or.inr rfl)) | ((try dsimp only); (try simp only [kNW]); omega)) 0 (rfl) (by omega) (by omega) dX0_labelOf_8 (fun H_7 locs_8 hA_6 hU_5 hS_9 => ?_)
  have hzu_10 := hU_5.1
  refine lv_goto (tgt := 15) hx hb dX0_labelOf_9 (by decide) ?_
  refine kx_iconst hx hb dX0_labelOf_15 ?_
  refine vx_ret ?_
  exact kx_iret (z := 0) hx hb hr hlk (⟨by rfl, hA_6⟩) hS_9 dX0_labelOf_16

set_option maxHeartbeats 4000000 in
set_option maxRecDepth 100000 in
theorem wr_isClosed (l : Launch) (hl9 : l.stackTraces = false) (D : kG) (H : Heap) (x1 : Nat) (snp : Option Nat) (hi : Nat) (bu : Nat) (st : Nat) (la : Nat) (mc : Int) (ea : Nat) (F : Fts) (S : Ls) (gap : Int) (ln : Nat) (out : Nat) (go : Nat → Int64) (hO_x1 : kO D H x1 0 [.ref st, va_rf (snp), .ref hi, .ref bu]) (hO_st : kO D H st 1 [.ref la, .int (kI (gap))]) (hO_la : kO D H la 9 [.int (kI (mc)), .ref ea, .int (kI ((S.length : Nat) : Int))]) (hP_kLs_ea : kLs D H ea S.length F) (hP_kLn_F : kLn D H F S) (hA_out : kAl D H out 1 go) (hok : LsOK S gap) (hln : ln < S.length) (bs_out : kBase D ≤ out) : Met l yX0_isClosed (wsW_ yX0_isClosed cX0_isClosed 4 (some .int) [((0 : Nat), (16 : Nat), (19 : Nat), (13 : Nat))]) ({ frames := 5, cells := 0, slots := 0, locals := 106 } : Room) (kPre D H [.ref x1, .int (kI ((ln : Nat) : Int)), .ref out]) (kQi (fun (r : Int) H' => (r = 0) ∧ (kAl D H' out 1 ((kup go 0 (kL (kb (ln_cl (st_ln S ln)))))))) (fun q : Nat => q = out)) (0) (0) ((fun q : Nat => q = out)) := by
  refine met_of_vx (vx_ofWH (cc := cX0_isClosed) (maxL := 4) (ret := (some .int)) (hh := [((0 : Nat), (16 : Nat), (19 : Nat), (13 : Nat))]) (by decide) rfl ?_)
  intro p e s m args below meth c s₁ B hml hv
  obtain ⟨rfl, hH, hK⟩ := hv
  subst hH
  have hx := B.exec
  have hb := B.bytes
  have hr := B.returns
  have hts := atoms_spec (ws := wsW_ yX0_isClosed cX0_isClosed 4 (some .int) [((0 : Nat), (16 : Nat), (19 : Nat), (13 : Nat))]) B.pre
  have htab := vx_table (x := yX0_isClosed) B (hts _ List.mem_cons_self)
  have hts : ∀ w ∈ lw_all, w.before _ s = true := fun w h => hts w (List.mem_cons_of_mem _ h)
  have hown : s.vm.findClass RX0 = some m.cls := findClass_of_methodNamed B.named
  have hlk := B.notSynchronized
  have hS : va_S (fun q : Nat => q = out) s.heap s.heap [] := va_S.rf
  have hB : ∀ q, (fun q : Nat => q = out) q → kBase D ≤ q := fun q h => by (have hks := hK.size; (try dsimp only at h); omega)
  have hl := lv_entry ([.ref x1, .int (kI ((ln : Nat) : Int)), .ref out]) (n := 4) (Nat.le_of_ble_eq_true rfl)
  rw [lg_entry_eq]
  generalize (lg_sl ([.ref x1, .int (kI ((ln : Nat) : Int)), .ref out]) ++ List.replicate (4 - (lg_sl ([.ref x1, .int (kI ((ln : Nat) : Int)), .ref out])).length) Slot.unset).toArray = ls at hl ⊢
  have hl : lv_has ls 4 [(0, .ref x1), (1, .int (kI ((ln : Nat) : Int))), (2, .ref out)] := hl
  have hltout := hA_out.lt
  have hd9 := hK.dis
  refine lv_aload_n hx hb dX0_isClosed_0 rfl (lv_at hl 2 rfl) ?_
  refine kx_iconst hx hb dX0_isClosed_1 ?_
  refine lv_aload_n hx hb dX0_isClosed_2 rfl (lv_at hl 0 rfl) ?_
  refine lv_iload_n hx hb dX0_isClosed_3 rfl (lv_at hl 1 rfl) ?_
  refine kx_cb0 (va_runV (As := [.int (kI ((ln : Nat) : Int))]) (rest := [.int (kI (0)), .ref out]) ⟨hx, hb, hml, hown, hts⟩ (m_X1_isClosed l D s.heap x1 snp hi bu st la mc ea F S gap ln hO_x1 hO_st hO_la hP_kLs_ea hP_kLn_F hok hln) (cwV 1 hts (lw_V q1962 q1963 q1964 q79 q1965) rfl rfl rfl (by decide +kernel) ⟨Nat.le_of_ble_eq_true rfl, Nat.le_of_ble_eq_true rfl⟩) (kx_pv hK hS hB (kx_rc hK hO_x1 (C := RX1) (T := TX1) (N := 4) rfl)) rfl rfl hl.1 rfl (lv_room (Nat.le_of_ble_eq_true rfl)) dX0_isClosed_4 ⟨by first | exact Nat.le_of_ble_eq_true rfl | omega | (show _ ≤ _; omega) | (dsimp only [headSpec]; omega), by first | exact Nat.le_of_ble_eq_true rfl | omega | (show _ ≤ _; omega) | (dsimp only [headSpec]; omega)⟩) hS (fun z_4 locs_1 hz_3 hS_2 => ?_)
  subst z_4
  refine kx_ifz (tgt := 14) hx hb dX0_isClosed_7 (by decide) (fun cb9 => ?_) (fun cb9 => ?_)
  · -- taken at 7
    refine kx_lconst0 hx hb dX0_isClosed_14 ?_
    refine kx_eql (kL (kb (ln_cl (st_ln S ln)))) (by rw [cb9]; rfl) ?_
    have htyo : kTy D s.heap out := Or.inr ⟨2, _, by decide, hA_out⟩
    refine kx_last (x := kL (kb (ln_cl (st_ln S ln)))) hx hb hK hA_out hS_2 (by first | rfl | exact Or.inl rfl | exact Or.inr rfl | exact Or.inr (Or.inl rfl) | exact Or.inr (Or.inr rfl) | exact Or.inr (Or.inr (Or.inl rfl)) | exact Or.inr (Or.inr (Or.inr rfl)) | ((try dsimp only); (try simp only [kNW]); omega)) 0 (rfl) (by omega) (by omega) dX0_isClosed_15 (fun H_7 locs_8 hA_6 hU_5 hS_9 => ?_)
    have hzu_10 := hU_5.1
    refine lv_goto (tgt := 22) hx hb dX0_isClosed_16 (by decide) ?_
    refine kx_iconst hx hb dX0_isClosed_22 ?_
    refine vx_ret ?_
    exact kx_iret (z := 0) hx hb hr hlk (⟨by rfl, hA_6⟩) hS_9 dX0_isClosed_23
  · -- not taken at 7
    refine kx_lconst1 hx hb dX0_isClosed_10 ?_
    refine lv_goto (tgt := 15) hx hb dX0_isClosed_11 (by decide) ?_
    refine kx_eql (kL (kb (ln_cl (st_ln S ln)))) (by rw [cb9]; rfl) ?_
    have htyo : kTy D s.heap out := Or.inr ⟨2, _, by decide, hA_out⟩
    refine kx_last (x := kL (kb (ln_cl (st_ln S ln)))) hx hb hK hA_out hS_2 (by first | rfl | exact Or.inl rfl | exact Or.inr rfl | exact Or.inr (Or.inl rfl) | exact Or.inr (Or.inr rfl) | exact Or.inr (Or.inr (Or.inl rfl)) | exact Or.inr (Or.inr (Or.inr rfl)) | ((try dsimp only); (try simp only [kNW]); omega)) 0 (rfl) (by omega) (by omega) dX0_isClosed_15 (fun H_13 locs_14 hA_12 hU_11 hS_15 => ?_)
    have hzu_16 := hU_11.1
    refine lv_goto (tgt := 22) hx hb dX0_isClosed_16 (by decide) ?_
    refine kx_iconst hx hb dX0_isClosed_22 ?_
    refine vx_ret ?_
    exact kx_iret (z := 0) hx hb hr hlk (⟨by rfl, hA_12⟩) hS_15 dX0_isClosed_23

set_option maxHeartbeats 4000000 in
set_option maxRecDepth 100000 in
theorem wr_isTurned (l : Launch) (hl9 : l.stackTraces = false) (D : kG) (H : Heap) (x1 : Nat) (snp : Option Nat) (hi : Nat) (bu : Nat) (st : Nat) (la : Nat) (mc : Int) (ea : Nat) (F : Fts) (S : Ls) (gap : Int) (ln : Nat) (out : Nat) (go : Nat → Int64) (hO_x1 : kO D H x1 0 [.ref st, va_rf (snp), .ref hi, .ref bu]) (hO_st : kO D H st 1 [.ref la, .int (kI (gap))]) (hO_la : kO D H la 9 [.int (kI (mc)), .ref ea, .int (kI ((S.length : Nat) : Int))]) (hP_kLs_ea : kLs D H ea S.length F) (hP_kLn_F : kLn D H F S) (hA_out : kAl D H out 1 go) (hok : LsOK S gap) (hln : ln < S.length) (bs_out : kBase D ≤ out) : Met l yX0_isTurned (wsW_ yX0_isTurned cX0_isTurned 4 (some .int) [((0 : Nat), (16 : Nat), (19 : Nat), (13 : Nat))]) ({ frames := 5, cells := 0, slots := 0, locals := 106 } : Room) (kPre D H [.ref x1, .int (kI ((ln : Nat) : Int)), .ref out]) (kQi (fun (r : Int) H' => (r = 0) ∧ (kAl D H' out 1 ((kup go 0 (kL (kb (ln_left (st_ln S ln)))))))) (fun q : Nat => q = out)) (0) (0) ((fun q : Nat => q = out)) := by
  refine met_of_vx (vx_ofWH (cc := cX0_isTurned) (maxL := 4) (ret := (some .int)) (hh := [((0 : Nat), (16 : Nat), (19 : Nat), (13 : Nat))]) (by decide) rfl ?_)
  intro p e s m args below meth c s₁ B hml hv
  obtain ⟨rfl, hH, hK⟩ := hv
  subst hH
  have hx := B.exec
  have hb := B.bytes
  have hr := B.returns
  have hts := atoms_spec (ws := wsW_ yX0_isTurned cX0_isTurned 4 (some .int) [((0 : Nat), (16 : Nat), (19 : Nat), (13 : Nat))]) B.pre
  have htab := vx_table (x := yX0_isTurned) B (hts _ List.mem_cons_self)
  have hts : ∀ w ∈ lw_all, w.before _ s = true := fun w h => hts w (List.mem_cons_of_mem _ h)
  have hown : s.vm.findClass RX0 = some m.cls := findClass_of_methodNamed B.named
  have hlk := B.notSynchronized
  have hS : va_S (fun q : Nat => q = out) s.heap s.heap [] := va_S.rf
  have hB : ∀ q, (fun q : Nat => q = out) q → kBase D ≤ q := fun q h => by (have hks := hK.size; (try dsimp only at h); omega)
  have hl := lv_entry ([.ref x1, .int (kI ((ln : Nat) : Int)), .ref out]) (n := 4) (Nat.le_of_ble_eq_true rfl)
  rw [lg_entry_eq]
  generalize (lg_sl ([.ref x1, .int (kI ((ln : Nat) : Int)), .ref out]) ++ List.replicate (4 - (lg_sl ([.ref x1, .int (kI ((ln : Nat) : Int)), .ref out])).length) Slot.unset).toArray = ls at hl ⊢
  have hl : lv_has ls 4 [(0, .ref x1), (1, .int (kI ((ln : Nat) : Int))), (2, .ref out)] := hl
  have hltout := hA_out.lt
  have hd9 := hK.dis
  refine lv_aload_n hx hb dX0_isTurned_0 rfl (lv_at hl 2 rfl) ?_
  refine kx_iconst hx hb dX0_isTurned_1 ?_
  refine lv_aload_n hx hb dX0_isTurned_2 rfl (lv_at hl 0 rfl) ?_
  refine lv_iload_n hx hb dX0_isTurned_3 rfl (lv_at hl 1 rfl) ?_
  refine kx_cb0 (va_runV (As := [.int (kI ((ln : Nat) : Int))]) (rest := [.int (kI (0)), .ref out]) ⟨hx, hb, hml, hown, hts⟩ (m_X1_isTurned l D s.heap x1 snp hi bu st la mc ea F S gap ln hO_x1 hO_st hO_la hP_kLs_ea hP_kLn_F hok hln) (cwV 1 hts (lw_V q2013 q2014 q2015 q79 q2016) rfl rfl rfl (by decide +kernel) ⟨Nat.le_of_ble_eq_true rfl, Nat.le_of_ble_eq_true rfl⟩) (kx_pv hK hS hB (kx_rc hK hO_x1 (C := RX1) (T := TX1) (N := 4) rfl)) rfl rfl hl.1 rfl (lv_room (Nat.le_of_ble_eq_true rfl)) dX0_isTurned_4 ⟨by first | exact Nat.le_of_ble_eq_true rfl | omega | (show _ ≤ _; omega) | (dsimp only [headSpec]; omega), by first | exact Nat.le_of_ble_eq_true rfl | omega | (show _ ≤ _; omega) | (dsimp only [headSpec]; omega)⟩) hS (fun z_4 locs_1 hz_3 hS_2 => ?_)
  subst z_4
  refine kx_ifz (tgt := 14) hx hb dX0_isTurned_7 (by decide) (fun cb9 => ?_) (fun cb9 => ?_)
  · -- taken at 7
    refine kx_lconst0 hx hb dX0_isTurned_14 ?_
    refine kx_eql (kL (kb (ln_left (st_ln S ln)))) (by rw [cb9]; rfl) ?_
    have htyo : kTy D s.heap out := Or.inr ⟨2, _, by decide, hA_out⟩
    refine kx_last (x := kL (kb (ln_left (st_ln S ln)))) hx hb hK hA_out hS_2 (by first | rfl | exact Or.inl rfl | exact Or.inr rfl | exact Or.inr (Or.inl rfl) | exact Or.inr (Or.inr rfl) | exact Or.inr (Or.inr (Or.inl rfl)) | exact Or.inr (Or.inr (Or.inr rfl)) | ((try dsimp only); (try simp only [kNW]); omega)) 0 (rfl) (by omega) (by omega) dX0_isTurned_15 (fun H_7 locs_8 hA_6 hU_5 hS_9 => ?_)
    have hzu_10 := hU_5.1
    refine lv_goto (tgt := 22) hx hb dX0_isTurned_16 (by decide) ?_
    refine kx_iconst hx hb dX0_isTurned_22 ?_
    refine vx_ret ?_
    exact kx_iret (z := 0) hx hb hr hlk (⟨by rfl, hA_6⟩) hS_9 dX0_isTurned_23
  · -- not taken at 7
    refine kx_lconst1 hx hb dX0_isTurned_10 ?_
    refine lv_goto (tgt := 15) hx hb dX0_isTurned_11 (by decide) ?_
    refine kx_eql (kL (kb (ln_left (st_ln S ln)))) (by rw [cb9]; rfl) ?_
    have htyo : kTy D s.heap out := Or.inr ⟨2, _, by decide, hA_out⟩
    refine kx_last (x := kL (kb (ln_left (st_ln S ln)))) hx hb hK hA_out hS_2 (by first | rfl | exact Or.inl rfl | exact Or.inr rfl | exact Or.inr (Or.inl rfl) | exact Or.inr (Or.inr rfl) | exact Or.inr (Or.inr (Or.inl rfl)) | exact Or.inr (Or.inr (Or.inr rfl)) | ((try dsimp only); (try simp only [kNW]); omega)) 0 (rfl) (by omega) (by omega) dX0_isTurned_15 (fun H_13 locs_14 hA_12 hU_11 hS_15 => ?_)
    have hzu_16 := hU_11.1
    refine lv_goto (tgt := 22) hx hb dX0_isTurned_16 (by decide) ?_
    refine kx_iconst hx hb dX0_isTurned_22 ?_
    refine vx_ret ?_
    exact kx_iret (z := 0) hx hb hr hlk (⟨by rfl, hA_12⟩) hS_15 dX0_isTurned_23

set_option maxHeartbeats 4000000 in
set_option maxRecDepth 100000 in
theorem wr_readFrom (l : Launch) (hl9 : l.stackTraces = false) (D : kG) (H : Heap) (x1 : Nat) (snp : Option Nat) (hi : Nat) (bu : Nat) (st : Nat) (la : Nat) (mc : Int) (ea : Nat) (F : Fts) (S : Ls) (gap : Int) (ln : Nat) (out : Nat) (go : Nat → Int64) (hO_x1 : kO D H x1 0 [.ref st, va_rf (snp), .ref hi, .ref bu]) (hO_st : kO D H st 1 [.ref la, .int (kI (gap))]) (hO_la : kO D H la 9 [.int (kI (mc)), .ref ea, .int (kI ((S.length : Nat) : Int))]) (hP_kLs_ea : kLs D H ea S.length F) (hP_kLn_F : kLn D H F S) (hA_out : kAl D H out 1 go) (hok : LsOK S gap) (hln : ln < S.length) (bs_out : kBase D ≤ out) (hrv : -2147483648 ≤ (if ln_lb (st_ln S ln) = -1 then -1 else if ln_left (st_ln S ln) = true then ln_pos (st_ln S ln) ((ln_lb (st_ln S ln)).toNat + ln_size (st_ln S ln) - 1) else ln_pos (st_ln S ln) (ln_lb (st_ln S ln)).toNat) ∧ (if ln_lb (st_ln S ln) = -1 then -1 else if ln_left (st_ln S ln) = true then ln_pos (st_ln S ln) ((ln_lb (st_ln S ln)).toNat + ln_size (st_ln S ln) - 1) else ln_pos (st_ln S ln) (ln_lb (st_ln S ln)).toNat) ≤ 2147483647) : Met l yX0_readFrom (wsW_ yX0_readFrom cX0_readFrom 4 (some .int) [((0 : Nat), (9 : Nat), (12 : Nat), (13 : Nat))]) ({ frames := 6, cells := 0, slots := 0, locals := 123 } : Room) (kPre D H [.ref x1, .int (kI ((ln : Nat) : Int)), .ref out]) (kQi (fun (r : Int) H' => (r = 0) ∧ (kAl D H' out 1 ((kup go 0 (kL ((if ln_lb (st_ln S ln) = -1 then -1 else if ln_left (st_ln S ln) = true then ln_pos (st_ln S ln) ((ln_lb (st_ln S ln)).toNat + ln_size (st_ln S ln) - 1) else ln_pos (st_ln S ln) (ln_lb (st_ln S ln)).toNat))))))) (fun q : Nat => q = out)) (0) (0) ((fun q : Nat => q = out)) := by
  refine met_of_vx (vx_ofWH (cc := cX0_readFrom) (maxL := 4) (ret := (some .int)) (hh := [((0 : Nat), (9 : Nat), (12 : Nat), (13 : Nat))]) (by decide) rfl ?_)
  intro p e s m args below meth c s₁ B hml hv
  obtain ⟨rfl, hH, hK⟩ := hv
  subst hH
  have hx := B.exec
  have hb := B.bytes
  have hr := B.returns
  have hts := atoms_spec (ws := wsW_ yX0_readFrom cX0_readFrom 4 (some .int) [((0 : Nat), (9 : Nat), (12 : Nat), (13 : Nat))]) B.pre
  have htab := vx_table (x := yX0_readFrom) B (hts _ List.mem_cons_self)
  have hts : ∀ w ∈ lw_all, w.before _ s = true := fun w h => hts w (List.mem_cons_of_mem _ h)
  have hown : s.vm.findClass RX0 = some m.cls := findClass_of_methodNamed B.named
  have hlk := B.notSynchronized
  have hS : va_S (fun q : Nat => q = out) s.heap s.heap [] := va_S.rf
  have hB : ∀ q, (fun q : Nat => q = out) q → kBase D ≤ q := fun q h => by (have hks := hK.size; (try dsimp only at h); omega)
  have hl := lv_entry ([.ref x1, .int (kI ((ln : Nat) : Int)), .ref out]) (n := 4) (Nat.le_of_ble_eq_true rfl)
  rw [lg_entry_eq]
  generalize (lg_sl ([.ref x1, .int (kI ((ln : Nat) : Int)), .ref out]) ++ List.replicate (4 - (lg_sl ([.ref x1, .int (kI ((ln : Nat) : Int)), .ref out])).length) Slot.unset).toArray = ls at hl ⊢
  have hl : lv_has ls 4 [(0, .ref x1), (1, .int (kI ((ln : Nat) : Int))), (2, .ref out)] := hl
  have hltout := hA_out.lt
  have hd9 := hK.dis
  refine lv_aload_n hx hb dX0_readFrom_0 rfl (lv_at hl 2 rfl) ?_
  refine kx_iconst hx hb dX0_readFrom_1 ?_
  refine lv_aload_n hx hb dX0_readFrom_2 rfl (lv_at hl 0 rfl) ?_
  refine lv_iload_n hx hb dX0_readFrom_3 rfl (lv_at hl 1 rfl) ?_
  refine kx_ci0 (va_runV (As := [.int (kI ((ln : Nat) : Int))]) (rest := [.int (kI (0)), .ref out]) ⟨hx, hb, hml, hown, hts⟩ (m_X1_readFrom l D s.heap x1 snp hi bu st la mc ea F S gap ln hO_x1 hO_st hO_la hP_kLs_ea hP_kLn_F hok hln) (cwV 1 hts (lw_V q2024 q2025 q2026 q79 q2027) rfl rfl rfl (by decide +kernel) ⟨Nat.le_of_ble_eq_true rfl, Nat.le_of_ble_eq_true rfl⟩) (kx_pv hK hS hB (kx_rc hK hO_x1 (C := RX1) (T := TX1) (N := 4) rfl)) rfl rfl hl.1 rfl (lv_room (Nat.le_of_ble_eq_true rfl)) dX0_readFrom_4 ⟨by first | exact Nat.le_of_ble_eq_true rfl | omega | (show _ ≤ _; omega) | (dsimp only [headSpec]; omega), by first | exact Nat.le_of_ble_eq_true rfl | omega | (show _ ≤ _; omega) | (dsimp only [headSpec]; omega)⟩) hS (fun z_4 locs_1 hz_3 hS_2 => ?_)
  subst z_4
  refine kx_i2l hx hb (z := (if ln_lb (st_ln S ln) = -1 then -1 else if ln_left (st_ln S ln) = true then ln_pos (st_ln S ln) ((ln_lb (st_ln S ln)).toNat + ln_size (st_ln S ln) - 1) else ln_pos (st_ln S ln) (ln_lb (st_ln S ln)).toNat)) (by omega) (by omega) dX0_readFrom_7 ?_
  have htyo : kTy D s.heap out := Or.inr ⟨2, _, by decide, hA_out⟩
  refine kx_last (x := kL ((if ln_lb (st_ln S ln) = -1 then -1 else if ln_left (st_ln S ln) = true then ln_pos (st_ln S ln) ((ln_lb (st_ln S ln)).toNat + ln_size (st_ln S ln) - 1) else ln_pos (st_ln S ln) (ln_lb (st_ln S ln)).toNat))) hx hb hK hA_out hS_2 (by first | rfl | exact Or.inl rfl | exact Or.inr rfl | exact Or.inr (Or.inl rfl) | exact Or.inr (Or.inr rfl) | exact Or.inr (Or.inr (Or.inl rfl)) | exact Or.inr (Or.inr (Or.inr rfl)) | ((try dsimp only); (try simp only [kNW]); omega)) 0 (rfl) (by omega) (by omega) dX0_readFrom_8 (fun H_7 locs_8 hA_6 hU_5 hS_9 => ?_)
  have hzu_10 := hU_5.1
  refine lv_goto (tgt := 15) hx hb dX0_readFrom_9 (by decide) ?_
  refine kx_iconst hx hb dX0_readFrom_15 ?_
  refine vx_ret ?_
  exact kx_iret (z := 0) hx hb hr hlk (⟨by rfl, hA_6⟩) hS_9 dX0_readFrom_16

set_option maxHeartbeats 4000000 in
set_option maxRecDepth 100000 in
theorem wr_sizeOf (l : Launch) (hl9 : l.stackTraces = false) (D : kG) (H : Heap) (x1 : Nat) (snp : Option Nat) (hi : Nat) (bu : Nat) (st : Nat) (la : Nat) (mc : Int) (ea : Nat) (F : Fts) (S : Ls) (gap : Int) (ln : Nat) (out : Nat) (go : Nat → Int64) (hO_x1 : kO D H x1 0 [.ref st, va_rf (snp), .ref hi, .ref bu]) (hO_st : kO D H st 1 [.ref la, .int (kI (gap))]) (hO_la : kO D H la 9 [.int (kI (mc)), .ref ea, .int (kI ((S.length : Nat) : Int))]) (hP_kLs_ea : kLs D H ea S.length F) (hP_kLn_F : kLn D H F S) (hA_out : kAl D H out 1 go) (hok : LsOK S gap) (hln : ln < S.length) (bs_out : kBase D ≤ out) (hrv : -2147483648 ≤ ((ln_size (st_ln S ln) : Nat) : Int) ∧ ((ln_size (st_ln S ln) : Nat) : Int) ≤ 2147483647) : Met l yX0_sizeOf (wsW_ yX0_sizeOf cX0_sizeOf 4 (some .int) [((0 : Nat), (9 : Nat), (12 : Nat), (13 : Nat))]) ({ frames := 5, cells := 0, slots := 0, locals := 106 } : Room) (kPre D H [.ref x1, .int (kI ((ln : Nat) : Int)), .ref out]) (kQi (fun (r : Int) H' => (r = 0) ∧ (kAl D H' out 1 ((kup go 0 (kL (((ln_size (st_ln S ln) : Nat) : Int))))))) (fun q : Nat => q = out)) (0) (0) ((fun q : Nat => q = out)) := by
  refine met_of_vx (vx_ofWH (cc := cX0_sizeOf) (maxL := 4) (ret := (some .int)) (hh := [((0 : Nat), (9 : Nat), (12 : Nat), (13 : Nat))]) (by decide) rfl ?_)
  intro p e s m args below meth c s₁ B hml hv
  obtain ⟨rfl, hH, hK⟩ := hv
  subst hH
  have hx := B.exec
  have hb := B.bytes
  have hr := B.returns
  have hts := atoms_spec (ws := wsW_ yX0_sizeOf cX0_sizeOf 4 (some .int) [((0 : Nat), (9 : Nat), (12 : Nat), (13 : Nat))]) B.pre
  have htab := vx_table (x := yX0_sizeOf) B (hts _ List.mem_cons_self)
  have hts : ∀ w ∈ lw_all, w.before _ s = true := fun w h => hts w (List.mem_cons_of_mem _ h)
  have hown : s.vm.findClass RX0 = some m.cls := findClass_of_methodNamed B.named
  have hlk := B.notSynchronized
  have hS : va_S (fun q : Nat => q = out) s.heap s.heap [] := va_S.rf
  have hB : ∀ q, (fun q : Nat => q = out) q → kBase D ≤ q := fun q h => by (have hks := hK.size; (try dsimp only at h); omega)
  have hl := lv_entry ([.ref x1, .int (kI ((ln : Nat) : Int)), .ref out]) (n := 4) (Nat.le_of_ble_eq_true rfl)
  rw [lg_entry_eq]
  generalize (lg_sl ([.ref x1, .int (kI ((ln : Nat) : Int)), .ref out]) ++ List.replicate (4 - (lg_sl ([.ref x1, .int (kI ((ln : Nat) : Int)), .ref out])).length) Slot.unset).toArray = ls at hl ⊢
  have hl : lv_has ls 4 [(0, .ref x1), (1, .int (kI ((ln : Nat) : Int))), (2, .ref out)] := hl
  have hltout := hA_out.lt
  have hd9 := hK.dis
  refine lv_aload_n hx hb dX0_sizeOf_0 rfl (lv_at hl 2 rfl) ?_
  refine kx_iconst hx hb dX0_sizeOf_1 ?_
  refine lv_aload_n hx hb dX0_sizeOf_2 rfl (lv_at hl 0 rfl) ?_
  refine lv_iload_n hx hb dX0_sizeOf_3 rfl (lv_at hl 1 rfl) ?_
  refine kx_ci0 (va_runV (As := [.int (kI ((ln : Nat) : Int))]) (rest := [.int (kI (0)), .ref out]) ⟨hx, hb, hml, hown, hts⟩ (m_X1_sizeOf l D s.heap x1 snp hi bu st la mc ea F S gap ln hO_x1 hO_st hO_la hP_kLs_ea hP_kLn_F hok hln) (cwV 1 hts (lw_V q2036 q2037 q2038 q79 q2039) rfl rfl rfl (by decide +kernel) ⟨Nat.le_of_ble_eq_true rfl, Nat.le_of_ble_eq_true rfl⟩) (kx_pv hK hS hB (kx_rc hK hO_x1 (C := RX1) (T := TX1) (N := 4) rfl)) rfl rfl hl.1 rfl (lv_room (Nat.le_of_ble_eq_true rfl)) dX0_sizeOf_4 ⟨by first | exact Nat.le_of_ble_eq_true rfl | omega | (show _ ≤ _; omega) | (dsimp only [headSpec]; omega), by first | exact Nat.le_of_ble_eq_true rfl | omega | (show _ ≤ _; omega) | (dsimp only [headSpec]; omega)⟩) hS (fun z_4 locs_1 hz_3 hS_2 => ?_)
  subst z_4
  refine kx_i2l hx hb (z := ((ln_size (st_ln S ln) : Nat) : Int)) (by omega) (by omega) dX0_sizeOf_7 ?_
  have htyo : kTy D s.heap out := Or.inr ⟨2, _, by decide, hA_out⟩
  refine kx_last (x := kL (((ln_size (st_ln S ln) : Nat) : Int))) hx hb hK hA_out hS_2 (by first | rfl | exact Or.inl rfl | exact Or.inr rfl | exact Or.inr (Or.inl rfl) | exact Or.inr (Or.inr rfl) | exact Or.inr (Or.inr (Or.inl rfl)) | exact Or.inr (Or.inr (Or.inr rfl)) | ((try dsimp only); (try simp only [kNW]); omega)) 0 (rfl) (by omega) (by omega) dX0_sizeOf_8 (fun H_7 locs_8 hA_6 hU_5 hS_9 => ?_)
  have hzu_10 := hU_5.1
  refine lv_goto (tgt := 15) hx hb dX0_sizeOf_9 (by decide) ?_
  refine kx_iconst hx hb dX0_sizeOf_15 ?_
  refine vx_ret ?_
  exact kx_iret (z := 0) hx hb hr hlk (⟨by rfl, hA_6⟩) hS_9 dX0_sizeOf_16

set_option maxHeartbeats 4000000 in
set_option maxRecDepth 100000 in
theorem wr_placesOf (l : Launch) (hl9 : l.stackTraces = false) (D : kG) (H : Heap) (x1 : Nat) (snp : Option Nat) (hi : Nat) (bu : Nat) (st : Nat) (la : Nat) (mc : Int) (ea : Nat) (F : Fts) (S : Ls) (gap : Int) (ln : Nat) (out : Nat) (go : Nat → Int64) (hO_x1 : kO D H x1 0 [.ref st, va_rf (snp), .ref hi, .ref bu]) (hO_st : kO D H st 1 [.ref la, .int (kI (gap))]) (hO_la : kO D H la 9 [.int (kI (mc)), .ref ea, .int (kI ((S.length : Nat) : Int))]) (hP_kLs_ea : kLs D H ea S.length F) (hP_kLn_F : kLn D H F S) (hA_out : kAl D H out 1 go) (hok : LsOK S gap) (hln : ln < S.length) (bs_out : kBase D ≤ out) (hrv : -2147483648 ≤ st_places S gap ln ∧ st_places S gap ln ≤ 2147483647) : Met l yX0_placesOf (wsW_ yX0_placesOf cX0_placesOf 4 (some .int) [((0 : Nat), (9 : Nat), (12 : Nat), (13 : Nat))]) ({ frames := 10, cells := 305, slots := 793, locals := 3168 } : Room) (kPre D H [.ref x1, .int (kI ((ln : Nat) : Int)), .ref out]) (kQi (fun (r : Int) H' => (r = 0) ∧ (kAl D H' out 1 ((kup go 0 (kL (st_places S gap ln)))))) (fun q : Nat => q = out ∨ H.size ≤ q)) (305) (793) ((fun q : Nat => q = out ∨ H.size ≤ q)) := by
  refine met_of_vx (vx_ofWH (cc := cX0_placesOf) (maxL := 4) (ret := (some .int)) (hh := [((0 : Nat), (9 : Nat), (12 : Nat), (13 : Nat))]) (by decide) rfl ?_)
  intro p e s m args below meth c s₁ B hml hv
  obtain ⟨rfl, hH, hK⟩ := hv
  subst hH
  have hx := B.exec
  have hb := B.bytes
  have hr := B.returns
  have hts := atoms_spec (ws := wsW_ yX0_placesOf cX0_placesOf 4 (some .int) [((0 : Nat), (9 : Nat), (12 : Nat), (13 : Nat))]) B.pre
  have htab := vx_table (x := yX0_placesOf) B (hts _ List.mem_cons_self)
  have hts : ∀ w ∈ lw_all, w.before _ s = true := fun w h => hts w (List.mem_cons_of_mem _ h)
  have hown : s.vm.findClass RX0 = some m.cls := findClass_of_methodNamed B.named
  have hlk := B.notSynchronized
  have hS : va_S (fun q : Nat => q = out ∨ s.heap.size ≤ q) s.heap s.heap [] := va_S.rf
  have hB : ∀ q, (fun q : Nat => q = out ∨ s.heap.size ≤ q) q → kBase D ≤ q := fun q h => by (have hks := hK.size; (try dsimp only at h); omega)
  have hl := lv_entry ([.ref x1, .int (kI ((ln : Nat) : Int)), .ref out]) (n := 4) (Nat.le_of_ble_eq_true rfl)
  rw [lg_entry_eq]
  generalize (lg_sl ([.ref x1, .int (kI ((ln : Nat) : Int)), .ref out]) ++ List.replicate (4 - (lg_sl ([.ref x1, .int (kI ((ln : Nat) : Int)), .ref out])).length) Slot.unset).toArray = ls at hl ⊢
  have hl : lv_has ls 4 [(0, .ref x1), (1, .int (kI ((ln : Nat) : Int))), (2, .ref out)] := hl
  have hltout := hA_out.lt
  have hd9 := hK.dis
  refine lv_aload_n hx hb dX0_placesOf_0 rfl (lv_at hl 2 rfl) ?_
  refine kx_iconst hx hb dX0_placesOf_1 ?_
  refine lv_aload_n hx hb dX0_placesOf_2 rfl (lv_at hl 0 rfl) ?_
  refine lv_iload_n hx hb dX0_placesOf_3 rfl (lv_at hl 1 rfl) ?_
  refine kx_ci (va_runV (As := [.int (kI ((ln : Nat) : Int))]) (rest := [.int (kI (0)), .ref out]) ⟨hx, hb, hml, hown, hts⟩ (m_X1_placesOf l D s.heap x1 snp hi bu st la mc ea F S gap ln hO_x1 hO_st hO_la hP_kLs_ea hP_kLn_F hok hln) (cwV 1 hts (lw_V q2056 q2057 q2058 q79 q2059) rfl rfl rfl (by decide +kernel) ⟨Nat.le_of_ble_eq_true rfl, Nat.le_of_ble_eq_true rfl⟩) (kx_pv hK hS hB (kx_rc hK hO_x1 (C := RX1) (T := TX1) (N := 4) rfl)) rfl rfl hl.1 rfl (lv_room (Nat.le_of_ble_eq_true rfl)) dX0_placesOf_4 ⟨by first | exact Nat.le_of_ble_eq_true rfl | omega | (show _ ≤ _; omega) | (dsimp only [headSpec]; omega), by first | exact Nat.le_of_ble_eq_true rfl | omega | (show _ ≤ _; omega) | (dsimp only [headSpec]; omega)⟩) hS (fun q _ h => by have h9 := hS.1; (try dsimp only at h); (try dsimp only); (try simp only [kNW] at h); (try simp only [kNW]); omega) (fun q h => by have h9 := hS.1; (try dsimp only at h); (try dsimp only); (try simp only [kNW] at h); (try simp only [kNW]); omega) (fun z_6 H_4 locs_1 hz_3 hF_5 hS_2 => ?_)
  have hzf_7 := hF_5.1
  have hF_5 := hF_5.nw
  refine W.widen (k := 305) (n := 793) (Nat.le_of_ble_eq_true rfl) (Nat.le_of_ble_eq_true rfl) ?_
  obtain ⟨hv_8, htr_9⟩ := hz_3
  subst z_6
  refine kx_i2l hx hb (z := st_places S gap ln) (by omega) (by omega) dX0_placesOf_7 ?_
  have h_10 := hA_out.ex hF_5
  have htyo : kTy D H_4 out := Or.inr ⟨2, _, by decide, h_10⟩
  refine kx_last (x := kL (st_places S gap ln)) hx hb hK h_10 hS_2 (by first | rfl | exact Or.inl rfl | exact Or.inr rfl | exact Or.inr (Or.inl rfl) | exact Or.inr (Or.inr rfl) | exact Or.inr (Or.inr (Or.inl rfl)) | exact Or.inr (Or.inr (Or.inr rfl)) | ((try dsimp only); (try simp only [kNW]); omega)) 0 (rfl) (by omega) (by omega) dX0_placesOf_8 (fun H_13 locs_14 hA_12 hU_11 hS_15 => ?_)
  have hzu_16 := hU_11.1
  refine lv_goto (tgt := 15) hx hb dX0_placesOf_9 (by decide) ?_
  refine kx_iconst hx hb dX0_placesOf_15 ?_
  refine vx_ret ?_
  exact kx_iret (z := 0) hx hb hr hlk (⟨by rfl, hA_12⟩) hS_15 dX0_placesOf_16

set_option maxHeartbeats 4000000 in
set_option maxRecDepth 100000 in
theorem wr_bestPlace (l : Launch) (hl9 : l.stackTraces = false) (D : kG) (H : Heap) (x1 : Nat) (snp : Option Nat) (hi : Nat) (bu : Nat) (st : Nat) (la : Nat) (mc : Int) (ea : Nat) (F : Fts) (S : Ls) (gap : Int) (ln : Nat) (out : Nat) (go : Nat → Int64) (hO_x1 : kO D H x1 0 [.ref st, va_rf (snp), .ref hi, .ref bu]) (hO_st : kO D H st 1 [.ref la, .int (kI (gap))]) (hO_la : kO D H la 9 [.int (kI (mc)), .ref ea, .int (kI ((S.length : Nat) : Int))]) (hP_kLs_ea : kLs D H ea S.length F) (hP_kLn_F : kLn D H F S) (hA_out : kAl D H out 1 go) (hok : LsOK S gap) (hln : ln < S.length) (bs_out : kBase D ≤ out) (hrv : -2147483648 ≤ st_best S gap ln ∧ st_best S gap ln ≤ 2147483647) : Met l yX0_bestPlace (wsW_ yX0_bestPlace cX0_bestPlace 4 (some .int) [((0 : Nat), (9 : Nat), (12 : Nat), (13 : Nat))]) ({ frames := 10, cells := 369, slots := 1040, locals := 3168 } : Room) (kPre D H [.ref x1, .int (kI ((ln : Nat) : Int)), .ref out]) (kQi (fun (r : Int) H' => (r = 0) ∧ (kAl D H' out 1 ((kup go 0 (kL (st_best S gap ln)))))) (fun q : Nat => q = out ∨ H.size ≤ q)) (369) (1040) ((fun q : Nat => q = out ∨ H.size ≤ q)) := by
  refine met_of_vx (vx_ofWH (cc := cX0_bestPlace) (maxL := 4) (ret := (some .int)) (hh := [((0 : Nat), (9 : Nat), (12 : Nat), (13 : Nat))]) (by decide) rfl ?_)
  intro p e s m args below meth c s₁ B hml hv
  obtain ⟨rfl, hH, hK⟩ := hv
  subst hH
  have hx := B.exec
  have hb := B.bytes
  have hr := B.returns
  have hts := atoms_spec (ws := wsW_ yX0_bestPlace cX0_bestPlace 4 (some .int) [((0 : Nat), (9 : Nat), (12 : Nat), (13 : Nat))]) B.pre
  have htab := vx_table (x := yX0_bestPlace) B (hts _ List.mem_cons_self)
  have hts : ∀ w ∈ lw_all, w.before _ s = true := fun w h => hts w (List.mem_cons_of_mem _ h)
  have hown : s.vm.findClass RX0 = some m.cls := findClass_of_methodNamed B.named
  have hlk := B.notSynchronized
  have hS : va_S (fun q : Nat => q = out ∨ s.heap.size ≤ q) s.heap s.heap [] := va_S.rf
  have hB : ∀ q, (fun q : Nat => q = out ∨ s.heap.size ≤ q) q → kBase D ≤ q := fun q h => by (have hks := hK.size; (try dsimp only at h); omega)
  have hl := lv_entry ([.ref x1, .int (kI ((ln : Nat) : Int)), .ref out]) (n := 4) (Nat.le_of_ble_eq_true rfl)
  rw [lg_entry_eq]
  generalize (lg_sl ([.ref x1, .int (kI ((ln : Nat) : Int)), .ref out]) ++ List.replicate (4 - (lg_sl ([.ref x1, .int (kI ((ln : Nat) : Int)), .ref out])).length) Slot.unset).toArray = ls at hl ⊢
  have hl : lv_has ls 4 [(0, .ref x1), (1, .int (kI ((ln : Nat) : Int))), (2, .ref out)] := hl
  have hltout := hA_out.lt
  have hd9 := hK.dis
  refine lv_aload_n hx hb dX0_bestPlace_0 rfl (lv_at hl 2 rfl) ?_
  refine kx_iconst hx hb dX0_bestPlace_1 ?_
  refine lv_aload_n hx hb dX0_bestPlace_2 rfl (lv_at hl 0 rfl) ?_
  refine lv_iload_n hx hb dX0_bestPlace_3 rfl (lv_at hl 1 rfl) ?_
  refine kx_ci (va_runV (As := [.int (kI ((ln : Nat) : Int))]) (rest := [.int (kI (0)), .ref out]) ⟨hx, hb, hml, hown, hts⟩ (m_X1_bestPlace l D s.heap x1 snp hi bu st la mc ea F S gap ln hO_x1 hO_st hO_la hP_kLs_ea hP_kLn_F hok hln) (cwV 1 hts (lw_V q2067 q2068 q2069 q79 q2070) rfl rfl rfl (by decide +kernel) ⟨Nat.le_of_ble_eq_true rfl, Nat.le_of_ble_eq_true rfl⟩) (kx_pv hK hS hB (kx_rc hK hO_x1 (C := RX1) (T := TX1) (N := 4) rfl)) rfl rfl hl.1 rfl (lv_room (Nat.le_of_ble_eq_true rfl)) dX0_bestPlace_4 ⟨by first | exact Nat.le_of_ble_eq_true rfl | omega | (show _ ≤ _; omega) | (dsimp only [headSpec]; omega), by first | exact Nat.le_of_ble_eq_true rfl | omega | (show _ ≤ _; omega) | (dsimp only [headSpec]; omega)⟩) hS (fun q _ h => by have h9 := hS.1; (try dsimp only at h); (try dsimp only); (try simp only [kNW] at h); (try simp only [kNW]); omega) (fun q h => by have h9 := hS.1; (try dsimp only at h); (try dsimp only); (try simp only [kNW] at h); (try simp only [kNW]); omega) (fun z_6 H_4 locs_1 hz_3 hF_5 hS_2 => ?_)
  have hzf_7 := hF_5.1
  have hF_5 := hF_5.nw
  refine W.widen (k := 369) (n := 1040) (Nat.le_of_ble_eq_true rfl) (Nat.le_of_ble_eq_true rfl) ?_
  obtain ⟨hv_8, htr_9⟩ := hz_3
  subst z_6
  refine kx_i2l hx hb (z := st_best S gap ln) (by omega) (by omega) dX0_bestPlace_7 ?_
  have h_10 := hA_out.ex hF_5
  have htyo : kTy D H_4 out := Or.inr ⟨2, _, by decide, h_10⟩
  refine kx_last (x := kL (st_best S gap ln)) hx hb hK h_10 hS_2 (by first | rfl | exact Or.inl rfl | exact Or.inr rfl | exact Or.inr (Or.inl rfl) | exact Or.inr (Or.inr rfl) | exact Or.inr (Or.inr (Or.inl rfl)) | exact Or.inr (Or.inr (Or.inr rfl)) | ((try dsimp only); (try simp only [kNW]); omega)) 0 (rfl) (by omega) (by omega) dX0_bestPlace_8 (fun H_13 locs_14 hA_12 hU_11 hS_15 => ?_)
  have hzu_16 := hU_11.1
  refine lv_goto (tgt := 15) hx hb dX0_bestPlace_9 (by decide) ?_
  refine kx_iconst hx hb dX0_bestPlace_15 ?_
  refine vx_ret ?_
  exact kx_iret (z := 0) hx hb hr hlk (⟨by rfl, hA_12⟩) hS_15 dX0_bestPlace_16

set_option maxHeartbeats 4000000 in
set_option maxRecDepth 100000 in
theorem wr_pointsWithin (l : Launch) (hl9 : l.stackTraces = false) (D : kG) (H : Heap) (x1 : Nat) (snp : Option Nat) (hi : Nat) (bu : Nat) (st : Nat) (la : Nat) (mc : Int) (ea : Nat) (F : Fts) (S : Ls) (gap : Int) (ln : Nat) (out : Nat) (go : Nat → Int64) (hO_x1 : kO D H x1 0 [.ref st, va_rf (snp), .ref hi, .ref bu]) (hO_st : kO D H st 1 [.ref la, .int (kI (gap))]) (hO_la : kO D H la 9 [.int (kI (mc)), .ref ea, .int (kI ((S.length : Nat) : Int))]) (hP_kLs_ea : kLs D H ea S.length F) (hP_kLn_F : kLn D H F S) (hA_out : kAl D H out 1 go) (hok : LsOK S gap) (hln : ln < S.length) (hdis : StDis S) (bs_out : kBase D ≤ out) (hrv : -2147483648 ≤ st_ptsTo S ln 384 ∧ st_ptsTo S ln 384 ≤ 2147483647) : Met l yX0_pointsWithin (wsW_ yX0_pointsWithin cX0_pointsWithin 4 (some .int) [((0 : Nat), (9 : Nat), (12 : Nat), (13 : Nat))]) ({ frames := 6, cells := 0, slots := 0, locals := 131 } : Room) (kPre D H [.ref x1, .int (kI ((ln : Nat) : Int)), .ref out]) (kQi (fun (r : Int) H' => (r = 0) ∧ (kAl D H' out 1 ((kup go 0 (kL (st_ptsTo S ln 384)))))) (fun q : Nat => q = out)) (0) (0) ((fun q : Nat => q = out)) := by
  refine met_of_vx (vx_ofWH (cc := cX0_pointsWithin) (maxL := 4) (ret := (some .int)) (hh := [((0 : Nat), (9 : Nat), (12 : Nat), (13 : Nat))]) (by decide) rfl ?_)
  intro p e s m args below meth c s₁ B hml hv
  obtain ⟨rfl, hH, hK⟩ := hv
  subst hH
  have hx := B.exec
  have hb := B.bytes
  have hr := B.returns
  have hts := atoms_spec (ws := wsW_ yX0_pointsWithin cX0_pointsWithin 4 (some .int) [((0 : Nat), (9 : Nat), (12 : Nat), (13 : Nat))]) B.pre
  have htab := vx_table (x := yX0_pointsWithin) B (hts _ List.mem_cons_self)
  have hts : ∀ w ∈ lw_all, w.before _ s = true := fun w h => hts w (List.mem_cons_of_mem _ h)
  have hown : s.vm.findClass RX0 = some m.cls := findClass_of_methodNamed B.named
  have hlk := B.notSynchronized
  have hS : va_S (fun q : Nat => q = out) s.heap s.heap [] := va_S.rf
  have hB : ∀ q, (fun q : Nat => q = out) q → kBase D ≤ q := fun q h => by (have hks := hK.size; (try dsimp only at h); omega)
  have hl := lv_entry ([.ref x1, .int (kI ((ln : Nat) : Int)), .ref out]) (n := 4) (Nat.le_of_ble_eq_true rfl)
  rw [lg_entry_eq]
  generalize (lg_sl ([.ref x1, .int (kI ((ln : Nat) : Int)), .ref out]) ++ List.replicate (4 - (lg_sl ([.ref x1, .int (kI ((ln : Nat) : Int)), .ref out])).length) Slot.unset).toArray = ls at hl ⊢
  have hl : lv_has ls 4 [(0, .ref x1), (1, .int (kI ((ln : Nat) : Int))), (2, .ref out)] := hl
  have hltout := hA_out.lt
  have hd9 := hK.dis
  refine lv_aload_n hx hb dX0_pointsWithin_0 rfl (lv_at hl 2 rfl) ?_
  refine kx_iconst hx hb dX0_pointsWithin_1 ?_
  refine lv_aload_n hx hb dX0_pointsWithin_2 rfl (lv_at hl 0 rfl) ?_
  refine lv_iload_n hx hb dX0_pointsWithin_3 rfl (lv_at hl 1 rfl) ?_
  refine kx_ci0 (va_runV (As := [.int (kI ((ln : Nat) : Int))]) (rest := [.int (kI (0)), .ref out]) ⟨hx, hb, hml, hown, hts⟩ (m_X1_pointsWithin l D s.heap x1 snp hi bu st la mc ea F S gap ln hO_x1 hO_st hO_la hP_kLs_ea hP_kLn_F hok hln hdis) (cwV 1 hts (lw_V q2120 q2121 q2122 q79 q2123) rfl rfl rfl (by decide +kernel) ⟨Nat.le_of_ble_eq_true rfl, Nat.le_of_ble_eq_true rfl⟩) (kx_pv hK hS hB (kx_rc hK hO_x1 (C := RX1) (T := TX1) (N := 4) rfl)) rfl rfl hl.1 rfl (lv_room (Nat.le_of_ble_eq_true rfl)) dX0_pointsWithin_4 ⟨by first | exact Nat.le_of_ble_eq_true rfl | omega | (show _ ≤ _; omega) | (dsimp only [headSpec]; omega), by first | exact Nat.le_of_ble_eq_true rfl | omega | (show _ ≤ _; omega) | (dsimp only [headSpec]; omega)⟩) hS (fun z_4 locs_1 hz_3 hS_2 => ?_)
  subst z_4
  refine kx_i2l hx hb (z := st_ptsTo S ln 384) (by omega) (by omega) dX0_pointsWithin_7 ?_
  have htyo : kTy D s.heap out := Or.inr ⟨2, _, by decide, hA_out⟩
  refine kx_last (x := kL (st_ptsTo S ln 384)) hx hb hK hA_out hS_2 (by first | rfl | exact Or.inl rfl | exact Or.inr rfl | exact Or.inr (Or.inl rfl) | exact Or.inr (Or.inr rfl) | exact Or.inr (Or.inr (Or.inl rfl)) | exact Or.inr (Or.inr (Or.inr rfl)) | ((try dsimp only); (try simp only [kNW]); omega)) 0 (rfl) (by omega) (by omega) dX0_pointsWithin_8 (fun H_7 locs_8 hA_6 hU_5 hS_9 => ?_)
  have hzu_10 := hU_5.1
  refine lv_goto (tgt := 15) hx hb dX0_pointsWithin_9 (by decide) ?_
  refine kx_iconst hx hb dX0_pointsWithin_15 ?_
  refine vx_ret ?_
  exact kx_iret (z := 0) hx hb hr hlk (⟨by rfl, hA_6⟩) hS_9 dX0_pointsWithin_16

set_option maxHeartbeats 4000000 in
set_option maxRecDepth 100000 in
theorem wr_lineRound (l : Launch) (hl9 : l.stackTraces = false) (D : kG) (H : Heap) (x1 : Nat) (snp : Option Nat) (hi : Nat) (bu : Nat) (st : Nat) (la : Nat) (mc : Int) (ea : Nat) (F : Fts) (S : Ls) (gap : Int) (ln : Nat) (out : Nat) (go : Nat → Int64) (hO_x1 : kO D H x1 0 [.ref st, va_rf (snp), .ref hi, .ref bu]) (hO_st : kO D H st 1 [.ref la, .int (kI (gap))]) (hO_la : kO D H la 9 [.int (kI (mc)), .ref ea, .int (kI ((S.length : Nat) : Int))]) (hP_kLs_ea : kLs D H ea S.length F) (hP_kLn_F : kLn D H F S) (hA_out : kAl D H out 1 go) (hok : LsOK S gap) (hln : ln < S.length) (hdis : StDis S) (bs_out : kBase D ≤ out) (hrv : -2147483648 ≤ st_round S ln ∧ st_round S ln ≤ 2147483647) : Met l yX0_lineRound (wsW_ yX0_lineRound cX0_lineRound 4 (some .int) [((0 : Nat), (9 : Nat), (12 : Nat), (13 : Nat))]) ({ frames := 6, cells := 0, slots := 0, locals := 132 } : Room) (kPre D H [.ref x1, .int (kI ((ln : Nat) : Int)), .ref out]) (kQi (fun (r : Int) H' => (r = 0) ∧ (kAl D H' out 1 ((kup go 0 (kL (st_round S ln)))))) (fun q : Nat => q = out)) (0) (0) ((fun q : Nat => q = out)) := by
  refine met_of_vx (vx_ofWH (cc := cX0_lineRound) (maxL := 4) (ret := (some .int)) (hh := [((0 : Nat), (9 : Nat), (12 : Nat), (13 : Nat))]) (by decide) rfl ?_)
  intro p e s m args below meth c s₁ B hml hv
  obtain ⟨rfl, hH, hK⟩ := hv
  subst hH
  have hx := B.exec
  have hb := B.bytes
  have hr := B.returns
  have hts := atoms_spec (ws := wsW_ yX0_lineRound cX0_lineRound 4 (some .int) [((0 : Nat), (9 : Nat), (12 : Nat), (13 : Nat))]) B.pre
  have htab := vx_table (x := yX0_lineRound) B (hts _ List.mem_cons_self)
  have hts : ∀ w ∈ lw_all, w.before _ s = true := fun w h => hts w (List.mem_cons_of_mem _ h)
  have hown : s.vm.findClass RX0 = some m.cls := findClass_of_methodNamed B.named
  have hlk := B.notSynchronized
  have hS : va_S (fun q : Nat => q = out) s.heap s.heap [] := va_S.rf
  have hB : ∀ q, (fun q : Nat => q = out) q → kBase D ≤ q := fun q h => by (have hks := hK.size; (try dsimp only at h); omega)
  have hl := lv_entry ([.ref x1, .int (kI ((ln : Nat) : Int)), .ref out]) (n := 4) (Nat.le_of_ble_eq_true rfl)
  rw [lg_entry_eq]
  generalize (lg_sl ([.ref x1, .int (kI ((ln : Nat) : Int)), .ref out]) ++ List.replicate (4 - (lg_sl ([.ref x1, .int (kI ((ln : Nat) : Int)), .ref out])).length) Slot.unset).toArray = ls at hl ⊢
  have hl : lv_has ls 4 [(0, .ref x1), (1, .int (kI ((ln : Nat) : Int))), (2, .ref out)] := hl
  have hltout := hA_out.lt
  have hd9 := hK.dis
  refine lv_aload_n hx hb dX0_lineRound_0 rfl (lv_at hl 2 rfl) ?_
  refine kx_iconst hx hb dX0_lineRound_1 ?_
  refine lv_aload_n hx hb dX0_lineRound_2 rfl (lv_at hl 0 rfl) ?_
  refine lv_iload_n hx hb dX0_lineRound_3 rfl (lv_at hl 1 rfl) ?_
  refine kx_ci0 (va_runV (As := [.int (kI ((ln : Nat) : Int))]) (rest := [.int (kI (0)), .ref out]) ⟨hx, hb, hml, hown, hts⟩ (m_X1_lineRound l D s.heap x1 snp hi bu st la mc ea F S gap ln hO_x1 hO_st hO_la hP_kLs_ea hP_kLn_F hok hln hdis) (cwV 1 hts (lw_V q2132 q2133 q2134 q79 q2135) rfl rfl rfl (by decide +kernel) ⟨Nat.le_of_ble_eq_true rfl, Nat.le_of_ble_eq_true rfl⟩) (kx_pv hK hS hB (kx_rc hK hO_x1 (C := RX1) (T := TX1) (N := 4) rfl)) rfl rfl hl.1 rfl (lv_room (Nat.le_of_ble_eq_true rfl)) dX0_lineRound_4 ⟨by first | exact Nat.le_of_ble_eq_true rfl | omega | (show _ ≤ _; omega) | (dsimp only [headSpec]; omega), by first | exact Nat.le_of_ble_eq_true rfl | omega | (show _ ≤ _; omega) | (dsimp only [headSpec]; omega)⟩) hS (fun z_4 locs_1 hz_3 hS_2 => ?_)
  subst z_4
  refine kx_i2l hx hb (z := st_round S ln) (by omega) (by omega) dX0_lineRound_7 ?_
  have htyo : kTy D s.heap out := Or.inr ⟨2, _, by decide, hA_out⟩
  refine kx_last (x := kL (st_round S ln)) hx hb hK hA_out hS_2 (by first | rfl | exact Or.inl rfl | exact Or.inr rfl | exact Or.inr (Or.inl rfl) | exact Or.inr (Or.inr rfl) | exact Or.inr (Or.inr (Or.inl rfl)) | exact Or.inr (Or.inr (Or.inr rfl)) | ((try dsimp only); (try simp only [kNW]); omega)) 0 (rfl) (by omega) (by omega) dX0_lineRound_8 (fun H_7 locs_8 hA_6 hU_5 hS_9 => ?_)
  have hzu_10 := hU_5.1
  refine lv_goto (tgt := 15) hx hb dX0_lineRound_9 (by decide) ?_
  refine kx_iconst hx hb dX0_lineRound_15 ?_
  refine vx_ret ?_
  exact kx_iret (z := 0) hx hb hr hlk (⟨by rfl, hA_6⟩) hS_9 dX0_lineRound_16

set_option maxHeartbeats 4000000 in
set_option maxRecDepth 100000 in
theorem wr_isSteady (l : Launch) (hl9 : l.stackTraces = false) (D : kG) (H : Heap) (x1 : Nat) (snp : Option Nat) (hi : Nat) (bu : Nat) (st : Nat) (la : Nat) (mc : Int) (ea : Nat) (F : Fts) (S : Ls) (gap : Int) (ln : Nat) (out : Nat) (go : Nat → Int64) (hO_x1 : kO D H x1 0 [.ref st, va_rf (snp), .ref hi, .ref bu]) (hO_st : kO D H st 1 [.ref la, .int (kI (gap))]) (hO_la : kO D H la 9 [.int (kI (mc)), .ref ea, .int (kI ((S.length : Nat) : Int))]) (hP_kLs_ea : kLs D H ea S.length F) (hP_kLn_F : kLn D H F S) (hA_out : kAl D H out 1 go) (hok : LsOK S gap) (hln : ln < S.length) (hdis : StDis S) (bs_out : kBase D ≤ out) : Met l yX0_isSteady (wsW_ yX0_isSteady cX0_isSteady 4 (some .int) [((0 : Nat), (16 : Nat), (19 : Nat), (13 : Nat))]) ({ frames := 7, cells := 0, slots := 0, locals := 154 } : Room) (kPre D H [.ref x1, .int (kI ((ln : Nat) : Int)), .ref out]) (kQi (fun (r : Int) H' => (r = 0) ∧ (kAl D H' out 1 ((kup go 0 (kL (kb (st_steady S ln))))))) (fun q : Nat => q = out)) (0) (0) ((fun q : Nat => q = out)) := by
  refine met_of_vx (vx_ofWH (cc := cX0_isSteady) (maxL := 4) (ret := (some .int)) (hh := [((0 : Nat), (16 : Nat), (19 : Nat), (13 : Nat))]) (by decide) rfl ?_)
  intro p e s m args below meth c s₁ B hml hv
  obtain ⟨rfl, hH, hK⟩ := hv
  subst hH
  have hx := B.exec
  have hb := B.bytes
  have hr := B.returns
  have hts := atoms_spec (ws := wsW_ yX0_isSteady cX0_isSteady 4 (some .int) [((0 : Nat), (16 : Nat), (19 : Nat), (13 : Nat))]) B.pre
  have htab := vx_table (x := yX0_isSteady) B (hts _ List.mem_cons_self)
  have hts : ∀ w ∈ lw_all, w.before _ s = true := fun w h => hts w (List.mem_cons_of_mem _ h)
  have hown : s.vm.findClass RX0 = some m.cls := findClass_of_methodNamed B.named
  have hlk := B.notSynchronized
  have hS : va_S (fun q : Nat => q = out) s.heap s.heap [] := va_S.rf
  have hB : ∀ q, (fun q : Nat => q = out) q → kBase D ≤ q := fun q h => by (have hks := hK.size; (try dsimp only at h); omega)
  have hl := lv_entry ([.ref x1, .int (kI ((ln : Nat) : Int)), .ref out]) (n := 4) (Nat.le_of_ble_eq_true rfl)
  rw [lg_entry_eq]
  generalize (lg_sl ([.ref x1, .int (kI ((ln : Nat) : Int)), .ref out]) ++ List.replicate (4 - (lg_sl ([.ref x1, .int (kI ((ln : Nat) : Int)), .ref out])).length) Slot.unset).toArray = ls at hl ⊢
  have hl : lv_has ls 4 [(0, .ref x1), (1, .int (kI ((ln : Nat) : Int))), (2, .ref out)] := hl
  have hltout := hA_out.lt
  have hd9 := hK.dis
  refine lv_aload_n hx hb dX0_isSteady_0 rfl (lv_at hl 2 rfl) ?_
  refine kx_iconst hx hb dX0_isSteady_1 ?_
  refine lv_aload_n hx hb dX0_isSteady_2 rfl (lv_at hl 0 rfl) ?_
  refine lv_iload_n hx hb dX0_isSteady_3 rfl (lv_at hl 1 rfl) ?_
  refine kx_cb0 (va_runV (As := [.int (kI ((ln : Nat) : Int))]) (rest := [.int (kI (0)), .ref out]) ⟨hx, hb, hml, hown, hts⟩ (m_X1_isSteady l D s.heap x1 snp hi bu st la mc ea F S gap ln hO_x1 hO_st hO_la hP_kLs_ea hP_kLn_F hok hln hdis) (cwV 1 hts (lw_V q2143 q2144 q2145 q79 q2146) rfl rfl rfl (by decide +kernel) ⟨Nat.le_of_ble_eq_true rfl, Nat.le_of_ble_eq_true rfl⟩) (kx_pv hK hS hB (kx_rc hK hO_x1 (C := RX1) (T := TX1) (N := 4) rfl)) rfl rfl hl.1 rfl (lv_room (Nat.le_of_ble_eq_true rfl)) dX0_isSteady_4 ⟨by first | exact Nat.le_of_ble_eq_true rfl | omega | (show _ ≤ _; omega) | (dsimp only [headSpec]; omega), by first | exact Nat.le_of_ble_eq_true rfl | omega | (show _ ≤ _; omega) | (dsimp only [headSpec]; omega)⟩) hS (fun z_4 locs_1 hz_3 hS_2 => ?_)
  subst z_4
  refine kx_ifz (tgt := 14) hx hb dX0_isSteady_7 (by decide) (fun cb9 => ?_) (fun cb9 => ?_)
  · -- taken at 7
    refine kx_lconst0 hx hb dX0_isSteady_14 ?_
    refine kx_eql (kL (kb (st_steady S ln))) (by rw [cb9]; rfl) ?_
    have htyo : kTy D s.heap out := Or.inr ⟨2, _, by decide, hA_out⟩
    refine kx_last (x := kL (kb (st_steady S ln))) hx hb hK hA_out hS_2 (by first | rfl | exact Or.inl rfl | exact Or.inr rfl | exact Or.inr (Or.inl rfl) | exact Or.inr (Or.inr rfl) | exact Or.inr (Or.inr (Or.inl rfl)) | exact Or.inr (Or.inr (Or.inr rfl)) | ((try dsimp only); (try simp only [kNW]); omega)) 0 (rfl) (by omega) (by omega) dX0_isSteady_15 (fun H_7 locs_8 hA_6 hU_5 hS_9 => ?_)
    have hzu_10 := hU_5.1
    refine lv_goto (tgt := 22) hx hb dX0_isSteady_16 (by decide) ?_
    refine kx_iconst hx hb dX0_isSteady_22 ?_
    refine vx_ret ?_
    exact kx_iret (z := 0) hx hb hr hlk (⟨by rfl, hA_6⟩) hS_9 dX0_isSteady_23
  · -- not taken at 7
    refine kx_lconst1 hx hb dX0_isSteady_10 ?_
    refine lv_goto (tgt := 15) hx hb dX0_isSteady_11 (by decide) ?_
    refine kx_eql (kL (kb (st_steady S ln))) (by rw [cb9]; rfl) ?_
    have htyo : kTy D s.heap out := Or.inr ⟨2, _, by decide, hA_out⟩
    refine kx_last (x := kL (kb (st_steady S ln))) hx hb hK hA_out hS_2 (by first | rfl | exact Or.inl rfl | exact Or.inr rfl | exact Or.inr (Or.inl rfl) | exact Or.inr (Or.inr rfl) | exact Or.inr (Or.inr (Or.inl rfl)) | exact Or.inr (Or.inr (Or.inr rfl)) | ((try dsimp only); (try simp only [kNW]); omega)) 0 (rfl) (by omega) (by omega) dX0_isSteady_15 (fun H_13 locs_14 hA_12 hU_11 hS_15 => ?_)
    have hzu_16 := hU_11.1
    refine lv_goto (tgt := 22) hx hb dX0_isSteady_16 (by decide) ?_
    refine kx_iconst hx hb dX0_isSteady_22 ?_
    refine vx_ret ?_
    exact kx_iret (z := 0) hx hb hr hlk (⟨by rfl, hA_12⟩) hS_15 dX0_isSteady_23

set_option maxHeartbeats 4000000 in
set_option maxRecDepth 100000 in
theorem wr_pointOf (l : Launch) (hl9 : l.stackTraces = false) (D : kG) (H : Heap) (x1 : Nat) (snp : Option Nat) (hi : Nat) (bu : Nat) (st : Nat) (la : Nat) (mc : Int) (ea : Nat) (F : Fts) (S : Ls) (gap : Int) (ln : Nat) (k : Nat) (out : Nat) (go : Nat → Int64) (hO_x1 : kO D H x1 0 [.ref st, va_rf (snp), .ref hi, .ref bu]) (hO_st : kO D H st 1 [.ref la, .int (kI (gap))]) (hO_la : kO D H la 9 [.int (kI (mc)), .ref ea, .int (kI ((S.length : Nat) : Int))]) (hP_kLs_ea : kLs D H ea S.length F) (hP_kLn_F : kLn D H F S) (hA_out : kAl D H out 1 go) (hok : LsOK S gap) (hln : ln < S.length) (hk : k ≤ ln_n (st_ln S ln)) (bs_out : kBase D ≤ out) (hrv : -2147483648 ≤ ln_pos (st_ln S ln) k ∧ ln_pos (st_ln S ln) k ≤ 2147483647) : Met l yX0_pointOf (wsW_ yX0_pointOf cX0_pointOf 5 (some .int) [((0 : Nat), (10 : Nat), (13 : Nat), (13 : Nat))]) ({ frames := 6, cells := 0, slots := 0, locals := 130 } : Room) (kPre D H [.ref x1, .int (kI ((ln : Nat) : Int)), .int (kI ((k : Nat) : Int)), .ref out]) (kQi (fun (r : Int) H' => (r = 0) ∧ (kAl D H' out 1 ((kup go 0 (kL (ln_pos (st_ln S ln) k)))))) (fun q : Nat => q = out)) (0) (0) ((fun q : Nat => q = out)) := by
  refine met_of_vx (vx_ofWH (cc := cX0_pointOf) (maxL := 5) (ret := (some .int)) (hh := [((0 : Nat), (10 : Nat), (13 : Nat), (13 : Nat))]) (by decide) rfl ?_)
  intro p e s m args below meth c s₁ B hml hv
  obtain ⟨rfl, hH, hK⟩ := hv
  subst hH
  have hx := B.exec
  have hb := B.bytes
  have hr := B.returns
  have hts := atoms_spec (ws := wsW_ yX0_pointOf cX0_pointOf 5 (some .int) [((0 : Nat), (10 : Nat), (13 : Nat), (13 : Nat))]) B.pre
  have htab := vx_table (x := yX0_pointOf) B (hts _ List.mem_cons_self)
  have hts : ∀ w ∈ lw_all, w.before _ s = true := fun w h => hts w (List.mem_cons_of_mem _ h)
  have hown : s.vm.findClass RX0 = some m.cls := findClass_of_methodNamed B.named
  have hlk := B.notSynchronized
  have hS : va_S (fun q : Nat => q = out) s.heap s.heap [] := va_S.rf
  have hB : ∀ q, (fun q : Nat => q = out) q → kBase D ≤ q := fun q h => by (have hks := hK.size; (try dsimp only at h); omega)
  have hl := lv_entry ([.ref x1, .int (kI ((ln : Nat) : Int)), .int (kI ((k : Nat) : Int)), .ref out]) (n := 5) (Nat.le_of_ble_eq_true rfl)
  rw [lg_entry_eq]
  generalize (lg_sl ([.ref x1, .int (kI ((ln : Nat) : Int)), .int (kI ((k : Nat) : Int)), .ref out]) ++ List.replicate (5 - (lg_sl ([.ref x1, .int (kI ((ln : Nat) : Int)), .int (kI ((k : Nat) : Int)), .ref out])).length) Slot.unset).toArray = ls at hl ⊢
  have hl : lv_has ls 5 [(0, .ref x1), (1, .int (kI ((ln : Nat) : Int))), (2, .int (kI ((k : Nat) : Int))), (3, .ref out)] := hl
  have hltout := hA_out.lt
  have hd9 := hK.dis
  refine lv_aload_n hx hb dX0_pointOf_0 rfl (lv_at hl 3 rfl) ?_
  refine kx_iconst hx hb dX0_pointOf_1 ?_
  refine lv_aload_n hx hb dX0_pointOf_2 rfl (lv_at hl 0 rfl) ?_
  refine lv_iload_n hx hb dX0_pointOf_3 rfl (lv_at hl 1 rfl) ?_
  refine lv_iload_n hx hb dX0_pointOf_4 rfl (lv_at hl 2 rfl) ?_
  refine kx_ci0 (va_runV (As := [.int (kI ((ln : Nat) : Int)), .int (kI ((k : Nat) : Int))]) (rest := [.int (kI (0)), .ref out]) ⟨hx, hb, hml, hown, hts⟩ (m_X1_pointOf l D s.heap x1 snp hi bu st la mc ea F S gap ln k hO_x1 hO_st hO_la hP_kLs_ea hP_kLn_F hok hln hk) (cwV 2 hts (lw_V q1948 q1949 q1950 q79 q1951) rfl rfl rfl (by decide +kernel) ⟨Nat.le_of_ble_eq_true rfl, Nat.le_of_ble_eq_true rfl⟩) (kx_pv hK hS hB (kx_rc hK hO_x1 (C := RX1) (T := TX1) (N := 4) rfl)) rfl rfl hl.1 rfl (lv_room (Nat.le_of_ble_eq_true rfl)) dX0_pointOf_5 ⟨by first | exact Nat.le_of_ble_eq_true rfl | omega | (show _ ≤ _; omega) | (dsimp only [headSpec]; omega), by first | exact Nat.le_of_ble_eq_true rfl | omega | (show _ ≤ _; omega) | (dsimp only [headSpec]; omega)⟩) hS (fun z_4 locs_1 hz_3 hS_2 => ?_)
  subst z_4
  refine kx_i2l hx hb (z := ln_pos (st_ln S ln) k) (by omega) (by omega) dX0_pointOf_8 ?_
  have htyo : kTy D s.heap out := Or.inr ⟨2, _, by decide, hA_out⟩
  refine kx_last (x := kL (ln_pos (st_ln S ln) k)) hx hb hK hA_out hS_2 (by first | rfl | exact Or.inl rfl | exact Or.inr rfl | exact Or.inr (Or.inl rfl) | exact Or.inr (Or.inr rfl) | exact Or.inr (Or.inr (Or.inl rfl)) | exact Or.inr (Or.inr (Or.inr rfl)) | ((try dsimp only); (try simp only [kNW]); omega)) 0 (rfl) (by omega) (by omega) dX0_pointOf_9 (fun H_7 locs_8 hA_6 hU_5 hS_9 => ?_)
  have hzu_10 := hU_5.1
  refine lv_goto (tgt := 17) hx hb dX0_pointOf_10 (by decide) ?_
  refine kx_iconst hx hb dX0_pointOf_17 ?_
  refine vx_ret ?_
  exact kx_iret (z := 0) hx hb hr hlk (⟨by rfl, hA_6⟩) hS_9 dX0_pointOf_18

set_option maxHeartbeats 4000000 in
set_option maxRecDepth 100000 in
theorem wr_bendAt (l : Launch) (hl9 : l.stackTraces = false) (D : kG) (H : Heap) (x1 : Nat) (snp : Option Nat) (hi : Nat) (bu : Nat) (st : Nat) (la : Nat) (mc : Int) (ea : Nat) (F : Fts) (S : Ls) (gap : Int) (ln : Nat) (k : Nat) (out : Nat) (go : Nat → Int64) (hO_x1 : kO D H x1 0 [.ref st, va_rf (snp), .ref hi, .ref bu]) (hO_st : kO D H st 1 [.ref la, .int (kI (gap))]) (hO_la : kO D H la 9 [.int (kI (mc)), .ref ea, .int (kI ((S.length : Nat) : Int))]) (hP_kLs_ea : kLs D H ea S.length F) (hP_kLn_F : kLn D H F S) (hA_out : kAl D H out 1 go) (hok : LsOK S gap) (hln : ln < S.length) (hk : k ≤ ln_n (st_ln S ln)) (bs_out : kBase D ≤ out) (hrv : -2147483648 ≤ ln_bend (st_ln S ln) k ∧ ln_bend (st_ln S ln) k ≤ 2147483647) : Met l yX0_bendAt (wsW_ yX0_bendAt cX0_bendAt 5 (some .int) [((0 : Nat), (10 : Nat), (13 : Nat), (13 : Nat))]) ({ frames := 6, cells := 0, slots := 0, locals := 130 } : Room) (kPre D H [.ref x1, .int (kI ((ln : Nat) : Int)), .int (kI ((k : Nat) : Int)), .ref out]) (kQi (fun (r : Int) H' => (r = 0) ∧ (kAl D H' out 1 ((kup go 0 (kL (ln_bend (st_ln S ln) k)))))) (fun q : Nat => q = out)) (0) (0) ((fun q : Nat => q = out)) := by
  refine met_of_vx (vx_ofWH (cc := cX0_bendAt) (maxL := 5) (ret := (some .int)) (hh := [((0 : Nat), (10 : Nat), (13 : Nat), (13 : Nat))]) (by decide) rfl ?_)
  intro p e s m args below meth c s₁ B hml hv
  obtain ⟨rfl, hH, hK⟩ := hv
  subst hH
  have hx := B.exec
  have hb := B.bytes
  have hr := B.returns
  have hts := atoms_spec (ws := wsW_ yX0_bendAt cX0_bendAt 5 (some .int) [((0 : Nat), (10 : Nat), (13 : Nat), (13 : Nat))]) B.pre
  have htab := vx_table (x := yX0_bendAt) B (hts _ List.mem_cons_self)
  have hts : ∀ w ∈ lw_all, w.before _ s = true := fun w h => hts w (List.mem_cons_of_mem _ h)
  have hown : s.vm.findClass RX0 = some m.cls := findClass_of_methodNamed B.named
  have hlk := B.notSynchronized
  have hS : va_S (fun q : Nat => q = out) s.heap s.heap [] := va_S.rf
  have hB : ∀ q, (fun q : Nat => q = out) q → kBase D ≤ q := fun q h => by (have hks := hK.size; (try dsimp only at h); omega)
  have hl := lv_entry ([.ref x1, .int (kI ((ln : Nat) : Int)), .int (kI ((k : Nat) : Int)), .ref out]) (n := 5) (Nat.le_of_ble_eq_true rfl)
  rw [lg_entry_eq]
  generalize (lg_sl ([.ref x1, .int (kI ((ln : Nat) : Int)), .int (kI ((k : Nat) : Int)), .ref out]) ++ List.replicate (5 - (lg_sl ([.ref x1, .int (kI ((ln : Nat) : Int)), .int (kI ((k : Nat) : Int)), .ref out])).length) Slot.unset).toArray = ls at hl ⊢
  have hl : lv_has ls 5 [(0, .ref x1), (1, .int (kI ((ln : Nat) : Int))), (2, .int (kI ((k : Nat) : Int))), (3, .ref out)] := hl
  have hltout := hA_out.lt
  have hd9 := hK.dis
  refine lv_aload_n hx hb dX0_bendAt_0 rfl (lv_at hl 3 rfl) ?_
  refine kx_iconst hx hb dX0_bendAt_1 ?_
  refine lv_aload_n hx hb dX0_bendAt_2 rfl (lv_at hl 0 rfl) ?_
  refine lv_iload_n hx hb dX0_bendAt_3 rfl (lv_at hl 1 rfl) ?_
  refine lv_iload_n hx hb dX0_bendAt_4 rfl (lv_at hl 2 rfl) ?_
  refine kx_ci0 (va_runV (As := [.int (kI ((ln : Nat) : Int)), .int (kI ((k : Nat) : Int))]) (rest := [.int (kI (0)), .ref out]) ⟨hx, hb, hml, hown, hts⟩ (m_X1_bendAt l D s.heap x1 snp hi bu st la mc ea F S gap ln k hO_x1 hO_st hO_la hP_kLs_ea hP_kLn_F hok hln hk) (cwV 2 hts (lw_V q1973 q1974 q1975 q79 q1976) rfl rfl rfl (by decide +kernel) ⟨Nat.le_of_ble_eq_true rfl, Nat.le_of_ble_eq_true rfl⟩) (kx_pv hK hS hB (kx_rc hK hO_x1 (C := RX1) (T := TX1) (N := 4) rfl)) rfl rfl hl.1 rfl (lv_room (Nat.le_of_ble_eq_true rfl)) dX0_bendAt_5 ⟨by first | exact Nat.le_of_ble_eq_true rfl | omega | (show _ ≤ _; omega) | (dsimp only [headSpec]; omega), by first | exact Nat.le_of_ble_eq_true rfl | omega | (show _ ≤ _; omega) | (dsimp only [headSpec]; omega)⟩) hS (fun z_4 locs_1 hz_3 hS_2 => ?_)
  subst z_4
  refine kx_i2l hx hb (z := ln_bend (st_ln S ln) k) (by omega) (by omega) dX0_bendAt_8 ?_
  have htyo : kTy D s.heap out := Or.inr ⟨2, _, by decide, hA_out⟩
  refine kx_last (x := kL (ln_bend (st_ln S ln) k)) hx hb hK hA_out hS_2 (by first | rfl | exact Or.inl rfl | exact Or.inr rfl | exact Or.inr (Or.inl rfl) | exact Or.inr (Or.inr rfl) | exact Or.inr (Or.inr (Or.inl rfl)) | exact Or.inr (Or.inr (Or.inr rfl)) | ((try dsimp only); (try simp only [kNW]); omega)) 0 (rfl) (by omega) (by omega) dX0_bendAt_9 (fun H_7 locs_8 hA_6 hU_5 hS_9 => ?_)
  have hzu_10 := hU_5.1
  refine lv_goto (tgt := 17) hx hb dX0_bendAt_10 (by decide) ?_
  refine kx_iconst hx hb dX0_bendAt_17 ?_
  refine vx_ret ?_
  exact kx_iret (z := 0) hx hb hr hlk (⟨by rfl, hA_6⟩) hS_9 dX0_bendAt_18

set_option maxHeartbeats 4000000 in
set_option maxRecDepth 100000 in
theorem wr_bendOf (l : Launch) (hl9 : l.stackTraces = false) (D : kG) (H : Heap) (x1 : Nat) (snp : Option Nat) (hi : Nat) (bu : Nat) (st : Nat) (la : Nat) (mc : Int) (ea : Nat) (F : Fts) (S : Ls) (gap : Int) (ln : Nat) (k : Nat) (out : Nat) (go : Nat → Int64) (hO_x1 : kO D H x1 0 [.ref st, va_rf (snp), .ref hi, .ref bu]) (hO_st : kO D H st 1 [.ref la, .int (kI (gap))]) (hO_la : kO D H la 9 [.int (kI (mc)), .ref ea, .int (kI ((S.length : Nat) : Int))]) (hP_kLs_ea : kLs D H ea S.length F) (hP_kLn_F : kLn D H F S) (hA_out : kAl D H out 1 go) (hok : LsOK S gap) (hln : ln < S.length) (hk : k ≤ ln_n (st_ln S ln)) (bs_out : kBase D ≤ out) (hrv : -2147483648 ≤ (if ln_isPlace (st_ln S ln) (k : Int) = true then ln_bends (st_ln S ln) (k : Int) else -1) ∧ (if ln_isPlace (st_ln S ln) (k : Int) = true then ln_bends (st_ln S ln) (k : Int) else -1) ≤ 2147483647) : Met l yX0_bendOf (wsW_ yX0_bendOf cX0_bendOf 5 (some .int) [((0 : Nat), (10 : Nat), (13 : Nat), (13 : Nat))]) ({ frames := 6, cells := 0, slots := 0, locals := 131 } : Room) (kPre D H [.ref x1, .int (kI ((ln : Nat) : Int)), .int (kI ((k : Nat) : Int)), .ref out]) (kQi (fun (r : Int) H' => (r = 0) ∧ (kAl D H' out 1 ((kup go 0 (kL ((if ln_isPlace (st_ln S ln) (k : Int) = true then ln_bends (st_ln S ln) (k : Int) else -1))))))) (fun q : Nat => q = out)) (0) (0) ((fun q : Nat => q = out)) := by
  refine met_of_vx (vx_ofWH (cc := cX0_bendOf) (maxL := 5) (ret := (some .int)) (hh := [((0 : Nat), (10 : Nat), (13 : Nat), (13 : Nat))]) (by decide) rfl ?_)
  intro p e s m args below meth c s₁ B hml hv
  obtain ⟨rfl, hH, hK⟩ := hv
  subst hH
  have hx := B.exec
  have hb := B.bytes
  have hr := B.returns
  have hts := atoms_spec (ws := wsW_ yX0_bendOf cX0_bendOf 5 (some .int) [((0 : Nat), (10 : Nat), (13 : Nat), (13 : Nat))]) B.pre
  have htab := vx_table (x := yX0_bendOf) B (hts _ List.mem_cons_self)
  have hts : ∀ w ∈ lw_all, w.before _ s = true := fun w h => hts w (List.mem_cons_of_mem _ h)
  have hown : s.vm.findClass RX0 = some m.cls := findClass_of_methodNamed B.named
  have hlk := B.notSynchronized
  have hS : va_S (fun q : Nat => q = out) s.heap s.heap [] := va_S.rf
  have hB : ∀ q, (fun q : Nat => q = out) q → kBase D ≤ q := fun q h => by (have hks := hK.size; (try dsimp only at h); omega)
  have hl := lv_entry ([.ref x1, .int (kI ((ln : Nat) : Int)), .int (kI ((k : Nat) : Int)), .ref out]) (n := 5) (Nat.le_of_ble_eq_true rfl)
  rw [lg_entry_eq]
  generalize (lg_sl ([.ref x1, .int (kI ((ln : Nat) : Int)), .int (kI ((k : Nat) : Int)), .ref out]) ++ List.replicate (5 - (lg_sl ([.ref x1, .int (kI ((ln : Nat) : Int)), .int (kI ((k : Nat) : Int)), .ref out])).length) Slot.unset).toArray = ls at hl ⊢
  have hl : lv_has ls 5 [(0, .ref x1), (1, .int (kI ((ln : Nat) : Int))), (2, .int (kI ((k : Nat) : Int))), (3, .ref out)] := hl
  have hltout := hA_out.lt
  have hd9 := hK.dis
  refine lv_aload_n hx hb dX0_bendOf_0 rfl (lv_at hl 3 rfl) ?_
  refine kx_iconst hx hb dX0_bendOf_1 ?_
  refine lv_aload_n hx hb dX0_bendOf_2 rfl (lv_at hl 0 rfl) ?_
  refine lv_iload_n hx hb dX0_bendOf_3 rfl (lv_at hl 1 rfl) ?_
  refine lv_iload_n hx hb dX0_bendOf_4 rfl (lv_at hl 2 rfl) ?_
  refine kx_ci0 (va_runV (As := [.int (kI ((ln : Nat) : Int)), .int (kI ((k : Nat) : Int))]) (rest := [.int (kI (0)), .ref out]) ⟨hx, hb, hml, hown, hts⟩ (m_X1_bendOf l D s.heap x1 snp hi bu st la mc ea F S gap ln k hO_x1 hO_st hO_la hP_kLs_ea hP_kLn_F hok hln hk) (cwV 2 hts (lw_V q2044 q2045 q2046 q79 q2047) rfl rfl rfl (by decide +kernel) ⟨Nat.le_of_ble_eq_true rfl, Nat.le_of_ble_eq_true rfl⟩) (kx_pv hK hS hB (kx_rc hK hO_x1 (C := RX1) (T := TX1) (N := 4) rfl)) rfl rfl hl.1 rfl (lv_room (Nat.le_of_ble_eq_true rfl)) dX0_bendOf_5 ⟨by first | exact Nat.le_of_ble_eq_true rfl | omega | (show _ ≤ _; omega) | (dsimp only [headSpec]; omega), by first | exact Nat.le_of_ble_eq_true rfl | omega | (show _ ≤ _; omega) | (dsimp only [headSpec]; omega)⟩) hS (fun z_4 locs_1 hz_3 hS_2 => ?_)
  subst z_4
  refine kx_i2l hx hb (z := (if ln_isPlace (st_ln S ln) (k : Int) = true then ln_bends (st_ln S ln) (k : Int) else -1)) (by omega) (by omega) dX0_bendOf_8 ?_
  have htyo : kTy D s.heap out := Or.inr ⟨2, _, by decide, hA_out⟩
  refine kx_last (x := kL ((if ln_isPlace (st_ln S ln) (k : Int) = true then ln_bends (st_ln S ln) (k : Int) else -1))) hx hb hK hA_out hS_2 (by first | rfl | exact Or.inl rfl | exact Or.inr rfl | exact Or.inr (Or.inl rfl) | exact Or.inr (Or.inr rfl) | exact Or.inr (Or.inr (Or.inl rfl)) | exact Or.inr (Or.inr (Or.inr rfl)) | ((try dsimp only); (try simp only [kNW]); omega)) 0 (rfl) (by omega) (by omega) dX0_bendOf_9 (fun H_7 locs_8 hA_6 hU_5 hS_9 => ?_)
  have hzu_10 := hU_5.1
  refine lv_goto (tgt := 17) hx hb dX0_bendOf_10 (by decide) ?_
  refine kx_iconst hx hb dX0_bendOf_17 ?_
  refine vx_ret ?_
  exact kx_iret (z := 0) hx hb hr hlk (⟨by rfl, hA_6⟩) hS_9 dX0_bendOf_18

set_option maxHeartbeats 4000000 in
set_option maxRecDepth 100000 in
theorem wr_whyNotLabelled (l : Launch) (hl9 : l.stackTraces = false) (D : kG) (H : Heap) (x1 : Nat) (snp : Option Nat) (hi : Nat) (bu : Nat) (st : Nat) (la : Nat) (mc : Int) (ea : Nat) (F : Fts) (S : Ls) (gap : Int) (ln : Nat) (pl : Nat) (out : Nat) (go : Nat → Int64) (hO_x1 : kO D H x1 0 [.ref st, va_rf (snp), .ref hi, .ref bu]) (hO_st : kO D H st 1 [.ref la, .int (kI (gap))]) (hO_la : kO D H la 9 [.int (kI (mc)), .ref ea, .int (kI ((S.length : Nat) : Int))]) (hP_kLs_ea : kLs D H ea S.length F) (hP_kLn_F : kLn D H F S) (hA_out : kAl D H out 1 go) (hok : LsOK S gap) (hln : ln < S.length) (hpl : pl ≤ ln_n (st_ln S ln)) (bs_out : kBase D ≤ out) (hrv : -2147483648 ≤ st_whyL S gap ln pl ∧ st_whyL S gap ln pl ≤ 2147483647) : Met l yX0_whyNotLabelled (wsW_ yX0_whyNotLabelled cX0_whyNotLabelled 5 (some .int) [((0 : Nat), (10 : Nat), (13 : Nat), (13 : Nat))]) ({ frames := 9, cells := 5, slots := 13, locals := 3146 } : Room) (kPre D H [.ref x1, .int (kI ((ln : Nat) : Int)), .int (kI ((pl : Nat) : Int)), .ref out]) (kQi (fun (r : Int) H' => (r = 0) ∧ (kAl D H' out 1 ((kup go 0 (kL (st_whyL S gap ln pl)))))) (fun q : Nat => q = out ∨ H.size ≤ q)) (5) (13) ((fun q : Nat => q = out ∨ H.size ≤ q)) := by
  refine met_of_vx (vx_ofWH (cc := cX0_whyNotLabelled) (maxL := 5) (ret := (some .int)) (hh := [((0 : Nat), (10 : Nat), (13 : Nat), (13 : Nat))]) (by decide) rfl ?_)
  intro p e s m args below meth c s₁ B hml hv
  obtain ⟨rfl, hH, hK⟩ := hv
  subst hH
  have hx := B.exec
  have hb := B.bytes
  have hr := B.returns
  have hts := atoms_spec (ws := wsW_ yX0_whyNotLabelled cX0_whyNotLabelled 5 (some .int) [((0 : Nat), (10 : Nat), (13 : Nat), (13 : Nat))]) B.pre
  have htab := vx_table (x := yX0_whyNotLabelled) B (hts _ List.mem_cons_self)
  have hts : ∀ w ∈ lw_all, w.before _ s = true := fun w h => hts w (List.mem_cons_of_mem _ h)
  have hown : s.vm.findClass RX0 = some m.cls := findClass_of_methodNamed B.named
  have hlk := B.notSynchronized
  have hS : va_S (fun q : Nat => q = out ∨ s.heap.size ≤ q) s.heap s.heap [] := va_S.rf
  have hB : ∀ q, (fun q : Nat => q = out ∨ s.heap.size ≤ q) q → kBase D ≤ q := fun q h => by (have hks := hK.size; (try dsimp only at h); omega)
  have hl := lv_entry ([.ref x1, .int (kI ((ln : Nat) : Int)), .int (kI ((pl : Nat) : Int)), .ref out]) (n := 5) (Nat.le_of_ble_eq_true rfl)
  rw [lg_entry_eq]
  generalize (lg_sl ([.ref x1, .int (kI ((ln : Nat) : Int)), .int (kI ((pl : Nat) : Int)), .ref out]) ++ List.replicate (5 - (lg_sl ([.ref x1, .int (kI ((ln : Nat) : Int)), .int (kI ((pl : Nat) : Int)), .ref out])).length) Slot.unset).toArray = ls at hl ⊢
  have hl : lv_has ls 5 [(0, .ref x1), (1, .int (kI ((ln : Nat) : Int))), (2, .int (kI ((pl : Nat) : Int))), (3, .ref out)] := hl
  have hltout := hA_out.lt
  have hd9 := hK.dis
  refine lv_aload_n hx hb dX0_whyNotLabelled_0 rfl (lv_at hl 3 rfl) ?_
  refine kx_iconst hx hb dX0_whyNotLabelled_1 ?_
  refine lv_aload_n hx hb dX0_whyNotLabelled_2 rfl (lv_at hl 0 rfl) ?_
  refine lv_iload_n hx hb dX0_whyNotLabelled_3 rfl (lv_at hl 1 rfl) ?_
  refine lv_iload_n hx hb dX0_whyNotLabelled_4 rfl (lv_at hl 2 rfl) ?_
  refine kx_ci (va_runV (As := [.int (kI ((ln : Nat) : Int)), .int (kI ((pl : Nat) : Int))]) (rest := [.int (kI (0)), .ref out]) ⟨hx, hb, hml, hown, hts⟩ (m_X1_whyNotLabelled l D s.heap x1 snp hi bu st la mc ea F S gap ln pl hO_x1 hO_st hO_la hP_kLs_ea hP_kLn_F hok hln hpl) (cwV 2 hts (lw_V q2052 q1897 q1898 q79 q1899) rfl rfl rfl (by decide +kernel) ⟨Nat.le_of_ble_eq_true rfl, Nat.le_of_ble_eq_true rfl⟩) (kx_pv hK hS hB (kx_rc hK hO_x1 (C := RX1) (T := TX1) (N := 4) rfl)) rfl rfl hl.1 rfl (lv_room (Nat.le_of_ble_eq_true rfl)) dX0_whyNotLabelled_5 ⟨by first | exact Nat.le_of_ble_eq_true rfl | omega | (show _ ≤ _; omega) | (dsimp only [headSpec]; omega), by first | exact Nat.le_of_ble_eq_true rfl | omega | (show _ ≤ _; omega) | (dsimp only [headSpec]; omega)⟩) hS (fun q _ h => by have h9 := hS.1; (try dsimp only at h); (try dsimp only); (try simp only [kNW] at h); (try simp only [kNW]); omega) (fun q h => by have h9 := hS.1; (try dsimp only at h); (try dsimp only); (try simp only [kNW] at h); (try simp only [kNW]); omega) (fun z_6 H_4 locs_1 hz_3 hF_5 hS_2 => ?_)
  have hzf_7 := hF_5.1
  have hF_5 := hF_5.nw
  refine W.widen (k := 5) (n := 13) (Nat.le_of_ble_eq_true rfl) (Nat.le_of_ble_eq_true rfl) ?_
  obtain ⟨hv_8, htr_9⟩ := hz_3
  subst z_6
  refine kx_i2l hx hb (z := st_whyL S gap ln pl) (by omega) (by omega) dX0_whyNotLabelled_8 ?_
  have h_10 := hA_out.ex hF_5
  have htyo : kTy D H_4 out := Or.inr ⟨2, _, by decide, h_10⟩
  refine kx_last (x := kL (st_whyL S gap ln pl)) hx hb hK h_10 hS_2 (by first | rfl | exact Or.inl rfl | exact Or.inr rfl | exact Or.inr (Or.inl rfl) | exact Or.inr (Or.inr rfl) | exact Or.inr (Or.inr (Or.inl rfl)) | exact Or.inr (Or.inr (Or.inr rfl)) | ((try dsimp only); (try simp only [kNW]); omega)) 0 (rfl) (by omega) (by omega) dX0_whyNotLabelled_9 (fun H_13 locs_14 hA_12 hU_11 hS_15 => ?_)
  have hzu_16 := hU_11.1
  refine lv_goto (tgt := 17) hx hb dX0_whyNotLabelled_10 (by decide) ?_
  refine kx_iconst hx hb dX0_whyNotLabelled_17 ?_
  refine vx_ret ?_
  exact kx_iret (z := 0) hx hb hr hlk (⟨by rfl, hA_12⟩) hS_15 dX0_whyNotLabelled_18

set_option maxHeartbeats 4000000 in
set_option maxRecDepth 100000 in
theorem wr_lineAt (l : Launch) (hl9 : l.stackTraces = false) (D : kG) (H : Heap) (x1 : Nat) (snp : Option Nat) (hi : Nat) (bu : Nat) (st : Nat) (la : Nat) (mc : Int) (ea : Nat) (F : Fts) (S : Ls) (gap : Int) (x : Int) (out : Nat) (go : Nat → Int64) (hO_x1 : kO D H x1 0 [.ref st, va_rf (snp), .ref hi, .ref bu]) (hO_st : kO D H st 1 [.ref la, .int (kI (gap))]) (hO_la : kO D H la 9 [.int (kI (mc)), .ref ea, .int (kI ((S.length : Nat) : Int))]) (hP_kLs_ea : kLs D H ea S.length F) (hP_kLn_F : kLn D H F S) (hA_out : kAl D H out 1 go) (hok : LsOK S gap) (hpt : 0 ≤ x ∧ x ≤ 383) (bs_out : kBase D ≤ out) (hrv : -2147483648 ≤ st_owner S x ∧ st_owner S x ≤ 2147483647) : Met l yX0_lineAt (wsW_ yX0_lineAt cX0_lineAt 4 (some .int) [((0 : Nat), (9 : Nat), (12 : Nat), (13 : Nat))]) ({ frames := 5, cells := 0, slots := 0, locals := 107 } : Room) (kPre D H [.ref x1, .int (kI (x)), .ref out]) (kQi (fun (r : Int) H' => (r = 0) ∧ (kAl D H' out 1 ((kup go 0 (kL (st_owner S x)))))) (fun q : Nat => q = out)) (0) (0) ((fun q : Nat => q = out)) := by
  refine met_of_vx (vx_ofWH (cc := cX0_lineAt) (maxL := 4) (ret := (some .int)) (hh := [((0 : Nat), (9 : Nat), (12 : Nat), (13 : Nat))]) (by decide) rfl ?_)
  intro p e s m args below meth c s₁ B hml hv
  obtain ⟨rfl, hH, hK⟩ := hv
  subst hH
  have hx := B.exec
  have hb := B.bytes
  have hr := B.returns
  have hts := atoms_spec (ws := wsW_ yX0_lineAt cX0_lineAt 4 (some .int) [((0 : Nat), (9 : Nat), (12 : Nat), (13 : Nat))]) B.pre
  have htab := vx_table (x := yX0_lineAt) B (hts _ List.mem_cons_self)
  have hts : ∀ w ∈ lw_all, w.before _ s = true := fun w h => hts w (List.mem_cons_of_mem _ h)
  have hown : s.vm.findClass RX0 = some m.cls := findClass_of_methodNamed B.named
  have hlk := B.notSynchronized
  have hS : va_S (fun q : Nat => q = out) s.heap s.heap [] := va_S.rf
  have hB : ∀ q, (fun q : Nat => q = out) q → kBase D ≤ q := fun q h => by (have hks := hK.size; (try dsimp only at h); omega)
  have hl := lv_entry ([.ref x1, .int (kI (x)), .ref out]) (n := 4) (Nat.le_of_ble_eq_true rfl)
  rw [lg_entry_eq]
  generalize (lg_sl ([.ref x1, .int (kI (x)), .ref out]) ++ List.replicate (4 - (lg_sl ([.ref x1, .int (kI (x)), .ref out])).length) Slot.unset).toArray = ls at hl ⊢
  have hl : lv_has ls 4 [(0, .ref x1), (1, .int (kI (x))), (2, .ref out)] := hl
  have hltout := hA_out.lt
  have hd9 := hK.dis
  refine lv_aload_n hx hb dX0_lineAt_0 rfl (lv_at hl 2 rfl) ?_
  refine kx_iconst hx hb dX0_lineAt_1 ?_
  refine lv_aload_n hx hb dX0_lineAt_2 rfl (lv_at hl 0 rfl) ?_
  refine lv_iload_n hx hb dX0_lineAt_3 rfl (lv_at hl 1 rfl) ?_
  refine kx_ci0 (va_runV (As := [.int (kI (x))]) (rest := [.int (kI (0)), .ref out]) ⟨hx, hb, hml, hown, hts⟩ (m_X1_lineAt l D s.heap x1 snp hi bu st la mc ea F S gap x hO_x1 hO_st hO_la hP_kLs_ea hP_kLn_F hok hpt) (cwV 1 hts (lw_V q1955 q1956 q1957 q79 q1958) rfl rfl rfl (by decide +kernel) ⟨Nat.le_of_ble_eq_true rfl, Nat.le_of_ble_eq_true rfl⟩) (kx_pv hK hS hB (kx_rc hK hO_x1 (C := RX1) (T := TX1) (N := 4) rfl)) rfl rfl hl.1 rfl (lv_room (Nat.le_of_ble_eq_true rfl)) dX0_lineAt_4 ⟨by first | exact Nat.le_of_ble_eq_true rfl | omega | (show _ ≤ _; omega) | (dsimp only [headSpec]; omega), by first | exact Nat.le_of_ble_eq_true rfl | omega | (show _ ≤ _; omega) | (dsimp only [headSpec]; omega)⟩) hS (fun z_4 locs_1 hz_3 hS_2 => ?_)
  subst z_4
  refine kx_i2l hx hb (z := st_owner S x) (by omega) (by omega) dX0_lineAt_7 ?_
  have htyo : kTy D s.heap out := Or.inr ⟨2, _, by decide, hA_out⟩
  refine kx_last (x := kL (st_owner S x)) hx hb hK hA_out hS_2 (by first | rfl | exact Or.inl rfl | exact Or.inr rfl | exact Or.inr (Or.inl rfl) | exact Or.inr (Or.inr rfl) | exact Or.inr (Or.inr (Or.inl rfl)) | exact Or.inr (Or.inr (Or.inr rfl)) | ((try dsimp only); (try simp only [kNW]); omega)) 0 (rfl) (by omega) (by omega) dX0_lineAt_8 (fun H_7 locs_8 hA_6 hU_5 hS_9 => ?_)
  have hzu_10 := hU_5.1
  refine lv_goto (tgt := 15) hx hb dX0_lineAt_9 (by decide) ?_
  refine kx_iconst hx hb dX0_lineAt_15 ?_
  refine vx_ret ?_
  exact kx_iret (z := 0) hx hb hr hlk (⟨by rfl, hA_6⟩) hS_9 dX0_lineAt_16

set_option maxHeartbeats 4000000 in
set_option maxRecDepth 100000 in
theorem wr_whyNotStepped (l : Launch) (hl9 : l.stackTraces = false) (D : kG) (H : Heap) (x1 : Nat) (snp : Option Nat) (hi : Nat) (bu : Nat) (st : Nat) (la : Nat) (mc : Int) (ea : Nat) (F : Fts) (S : Ls) (gap : Int) (ln : Nat) (d : Int) (out : Nat) (go : Nat → Int64) (hO_x1 : kO D H x1 0 [.ref st, va_rf (snp), .ref hi, .ref bu]) (hO_st : kO D H st 1 [.ref la, .int (kI (gap))]) (hO_la : kO D H la 9 [.int (kI (mc)), .ref ea, .int (kI ((S.length : Nat) : Int))]) (hP_kLs_ea : kLs D H ea S.length F) (hP_kLn_F : kLn D H F S) (hA_out : kAl D H out 1 go) (hok : LsOK S gap) (hln : ln < S.length) (hd : 0 ≤ d ∧ d ≤ 7) (bs_out : kBase D ≤ out) (hrv : -2147483648 ≤ st_whyNot S ln d ∧ st_whyNot S ln d ≤ 2147483647) : Met l yX0_whyNotStepped (wsW_ yX0_whyNotStepped cX0_whyNotStepped 5 (some .int) [((0 : Nat), (10 : Nat), (13 : Nat), (13 : Nat)), ((0 : Nat), (10 : Nat), (17 : Nat), (15 : Nat))]) ({ frames := 9, cells := 6, slots := 14, locals := 3147 } : Room) (kPre D H [.ref x1, .int (kI ((ln : Nat) : Int)), .int (kI (d)), .ref out]) (kQi (fun (r : Int) H' => (r = 0) ∧ (kAl D H' out 1 ((kup go 0 (kL (st_whyNot S ln d)))))) (fun q : Nat => q = out ∨ H.size ≤ q)) (6) (14) ((fun q : Nat => q = out ∨ H.size ≤ q)) := by
  refine met_of_vx (vx_ofWH (cc := cX0_whyNotStepped) (maxL := 5) (ret := (some .int)) (hh := [((0 : Nat), (10 : Nat), (13 : Nat), (13 : Nat)), ((0 : Nat), (10 : Nat), (17 : Nat), (15 : Nat))]) (by decide) rfl ?_)
  intro p e s m args below meth c s₁ B hml hv
  obtain ⟨rfl, hH, hK⟩ := hv
  subst hH
  have hx := B.exec
  have hb := B.bytes
  have hr := B.returns
  have hts := atoms_spec (ws := wsW_ yX0_whyNotStepped cX0_whyNotStepped 5 (some .int) [((0 : Nat), (10 : Nat), (13 : Nat), (13 : Nat)), ((0 : Nat), (10 : Nat), (17 : Nat), (15 : Nat))]) B.pre
  have htab := vx_table (x := yX0_whyNotStepped) B (hts _ List.mem_cons_self)
  have hts : ∀ w ∈ lw_all, w.before _ s = true := fun w h => hts w (List.mem_cons_of_mem _ h)
  have hown : s.vm.findClass RX0 = some m.cls := findClass_of_methodNamed B.named
  have hlk := B.notSynchronized
  have hS : va_S (fun q : Nat => q = out ∨ s.heap.size ≤ q) s.heap s.heap [] := va_S.rf
  have hB : ∀ q, (fun q : Nat => q = out ∨ s.heap.size ≤ q) q → kBase D ≤ q := fun q h => by (have hks := hK.size; (try dsimp only at h); omega)
  have hl := lv_entry ([.ref x1, .int (kI ((ln : Nat) : Int)), .int (kI (d)), .ref out]) (n := 5) (Nat.le_of_ble_eq_true rfl)
  rw [lg_entry_eq]
  generalize (lg_sl ([.ref x1, .int (kI ((ln : Nat) : Int)), .int (kI (d)), .ref out]) ++ List.replicate (5 - (lg_sl ([.ref x1, .int (kI ((ln : Nat) : Int)), .int (kI (d)), .ref out])).length) Slot.unset).toArray = ls at hl ⊢
  have hl : lv_has ls 5 [(0, .ref x1), (1, .int (kI ((ln : Nat) : Int))), (2, .int (kI (d))), (3, .ref out)] := hl
  have hltout := hA_out.lt
  have hd9 := hK.dis
  refine lv_aload_n hx hb dX0_whyNotStepped_0 rfl (lv_at hl 3 rfl) ?_
  refine kx_iconst hx hb dX0_whyNotStepped_1 ?_
  refine lv_aload_n hx hb dX0_whyNotStepped_2 rfl (lv_at hl 0 rfl) ?_
  refine lv_iload_n hx hb dX0_whyNotStepped_3 rfl (lv_at hl 1 rfl) ?_
  refine lv_iload_n hx hb dX0_whyNotStepped_4 rfl (lv_at hl 2 rfl) ?_
  refine kx_ci (va_runV (As := [.int (kI ((ln : Nat) : Int)), .int (kI (d))]) (rest := [.int (kI (0)), .ref out]) ⟨hx, hb, hml, hown, hts⟩ (m_X1_whyNotStepped l D s.heap x1 snp hi bu st la mc ea F S gap ln d hO_x1 hO_st hO_la hP_kLs_ea hP_kLn_F hok hln hd) (cwV 2 hts (lw_V q1969 q1861 q1862 q79 q1863) rfl rfl rfl (by decide +kernel) ⟨Nat.le_of_ble_eq_true rfl, Nat.le_of_ble_eq_true rfl⟩) (kx_pv hK hS hB (kx_rc hK hO_x1 (C := RX1) (T := TX1) (N := 4) rfl)) rfl rfl hl.1 rfl (lv_room (Nat.le_of_ble_eq_true rfl)) dX0_whyNotStepped_5 ⟨by first | exact Nat.le_of_ble_eq_true rfl | omega | (show _ ≤ _; omega) | (dsimp only [headSpec]; omega), by first | exact Nat.le_of_ble_eq_true rfl | omega | (show _ ≤ _; omega) | (dsimp only [headSpec]; omega)⟩) hS (fun q _ h => by have h9 := hS.1; (try dsimp only at h); (try dsimp only); (try simp only [kNW] at h); (try simp only [kNW]); omega) (fun q h => by have h9 := hS.1; (try dsimp only at h); (try dsimp only); (try simp only [kNW] at h); (try simp only [kNW]); omega) (fun z_6 H_4 locs_1 hz_3 hF_5 hS_2 => ?_)
  have hzf_7 := hF_5.1
  have hF_5 := hF_5.nw
  refine W.widen (k := 6) (n := 14) (Nat.le_of_ble_eq_true rfl) (Nat.le_of_ble_eq_true rfl) ?_
  obtain ⟨hv_8, htr_9⟩ := hz_3
  subst z_6
  refine kx_i2l hx hb (z := st_whyNot S ln d) (by omega) (by omega) dX0_whyNotStepped_8 ?_
  have h_10 := hA_out.ex hF_5
  have htyo : kTy D H_4 out := Or.inr ⟨2, _, by decide, h_10⟩
  refine kx_last (x := kL (st_whyNot S ln d)) hx hb hK h_10 hS_2 (by first | rfl | exact Or.inl rfl | exact Or.inr rfl | exact Or.inr (Or.inl rfl) | exact Or.inr (Or.inr rfl) | exact Or.inr (Or.inr (Or.inl rfl)) | exact Or.inr (Or.inr (Or.inr rfl)) | ((try dsimp only); (try simp only [kNW]); omega)) 0 (rfl) (by omega) (by omega) dX0_whyNotStepped_9 (fun H_13 locs_14 hA_12 hU_11 hS_15 => ?_)
  have hzu_16 := hU_11.1
  refine lv_goto (tgt := 21) hx hb dX0_whyNotStepped_10 (by decide) ?_
  refine kx_iconst hx hb dX0_whyNotStepped_21 ?_
  refine vx_ret ?_
  exact kx_iret (z := 0) hx hb hr hlk (⟨by rfl, hA_12⟩) hS_15 dX0_whyNotStepped_22

set_option maxHeartbeats 4000000 in
set_option maxRecDepth 100000 in
theorem wr_lengthByKinds (l : Launch) (hl9 : l.stackTraces = false) (D : kG) (H : Heap) (x1 : Nat) (snp : Option Nat) (hi : Nat) (bu : Nat) (st : Nat) (la : Nat) (mc : Int) (ea : Nat) (F : Fts) (S : Ls) (gap : Int) (ln : Nat) (out : Nat) (go : Nat → UInt64) (hO_x1 : kO D H x1 0 [.ref st, va_rf (snp), .ref hi, .ref bu]) (hO_st : kO D H st 1 [.ref la, .int (kI (gap))]) (hO_la : kO D H la 9 [.int (kI (mc)), .ref ea, .int (kI ((S.length : Nat) : Int))]) (hP_kLs_ea : kLs D H ea S.length F) (hP_kLn_F : kLn D H F S) (hA_out : kAd D H out 1 go) (hok : LsOK S gap) (hln : ln < S.length) (bs_out : kBase D ≤ out) : Met l yX0_lengthByKinds (wsW_ yX0_lengthByKinds cX0_lengthByKinds 4 (some .int) [((0 : Nat), (8 : Nat), (11 : Nat), (13 : Nat))]) ({ frames := 5, cells := 0, slots := 0, locals := 108 } : Room) (kPre D H [.ref x1, .int (kI ((ln : Nat) : Int)), .ref out]) (kQi (fun (r : Int) H' => (r = 0) ∧ (kAd D H' out 1 ((kup go 0 (ln_lenK (st_ln S ln)))))) (fun q : Nat => q = out)) (0) (0) ((fun q : Nat => q = out)) := by
  refine met_of_vx (vx_ofWH (cc := cX0_lengthByKinds) (maxL := 4) (ret := (some .int)) (hh := [((0 : Nat), (8 : Nat), (11 : Nat), (13 : Nat))]) (by decide) rfl ?_)
  intro p e s m args below meth c s₁ B hml hv
  obtain ⟨rfl, hH, hK⟩ := hv
  subst hH
  have hx := B.exec
  have hb := B.bytes
  have hr := B.returns
  have hts := atoms_spec (ws := wsW_ yX0_lengthByKinds cX0_lengthByKinds 4 (some .int) [((0 : Nat), (8 : Nat), (11 : Nat), (13 : Nat))]) B.pre
  have htab := vx_table (x := yX0_lengthByKinds) B (hts _ List.mem_cons_self)
  have hts : ∀ w ∈ lw_all, w.before _ s = true := fun w h => hts w (List.mem_cons_of_mem _ h)
  have hown : s.vm.findClass RX0 = some m.cls := findClass_of_methodNamed B.named
  have hlk := B.notSynchronized
  have hS : va_S (fun q : Nat => q = out) s.heap s.heap [] := va_S.rf
  have hB : ∀ q, (fun q : Nat => q = out) q → kBase D ≤ q := fun q h => by (have hks := hK.size; (try dsimp only at h); omega)
  have hl := lv_entry ([.ref x1, .int (kI ((ln : Nat) : Int)), .ref out]) (n := 4) (Nat.le_of_ble_eq_true rfl)
  rw [lg_entry_eq]
  generalize (lg_sl ([.ref x1, .int (kI ((ln : Nat) : Int)), .ref out]) ++ List.replicate (4 - (lg_sl ([.ref x1, .int (kI ((ln : Nat) : Int)), .ref out])).length) Slot.unset).toArray = ls at hl ⊢
  have hl : lv_has ls 4 [(0, .ref x1), (1, .int (kI ((ln : Nat) : Int))), (2, .ref out)] := hl
  have hltout := hA_out.lt
  have hd9 := hK.dis
  refine lv_aload_n hx hb dX0_lengthByKinds_0 rfl (lv_at hl 2 rfl) ?_
  refine kx_iconst hx hb dX0_lengthByKinds_1 ?_
  refine lv_aload_n hx hb dX0_lengthByKinds_2 rfl (lv_at hl 0 rfl) ?_
  refine lv_iload_n hx hb dX0_lengthByKinds_3 rfl (lv_at hl 1 rfl) ?_
  refine kx_cd0 (va_runV (As := [.int (kI ((ln : Nat) : Int))]) (rest := [.int (kI (0)), .ref out]) ⟨hx, hb, hml, hown, hts⟩ (m_X1_lengthByKinds l D s.heap x1 snp hi bu st la mc ea F S gap ln hO_x1 hO_st hO_la hP_kLs_ea hP_kLn_F hok hln) (cwV 1 hts (lw_V q1981 q1982 q1983 q79 q1984) rfl rfl rfl (by decide +kernel) ⟨Nat.le_of_ble_eq_true rfl, Nat.le_of_ble_eq_true rfl⟩) (kx_pv hK hS hB (kx_rc hK hO_x1 (C := RX1) (T := TX1) (N := 4) rfl)) rfl rfl hl.1 rfl (lv_room (Nat.le_of_ble_eq_true rfl)) dX0_lengthByKinds_4 ⟨by first | exact Nat.le_of_ble_eq_true rfl | omega | (show _ ≤ _; omega) | (dsimp only [headSpec]; omega), by first | exact Nat.le_of_ble_eq_true rfl | omega | (show _ ≤ _; omega) | (dsimp only [headSpec]; omega)⟩) hS (fun z_4 locs_1 hz_3 hS_2 => ?_)
  subst z_4
  have htyo : kTy D s.heap out := Or.inr ⟨3, _, by decide, hA_out⟩
  refine kx_dast (x := ln_lenK (st_ln S ln)) hx hb hK hA_out hS_2 (by first | rfl | exact Or.inl rfl | exact Or.inr rfl | exact Or.inr (Or.inl rfl) | exact Or.inr (Or.inr rfl) | exact Or.inr (Or.inr (Or.inl rfl)) | exact Or.inr (Or.inr (Or.inr rfl)) | ((try dsimp only); (try simp only [kNW]); omega)) 0 (rfl) (by omega) (by omega) dX0_lengthByKinds_7 (fun H_7 locs_8 hA_6 hU_5 hS_9 => ?_)
  have hzu_10 := hU_5.1
  refine lv_goto (tgt := 14) hx hb dX0_lengthByKinds_8 (by decide) ?_
  refine kx_iconst hx hb dX0_lengthByKinds_14 ?_
  refine vx_ret ?_
  exact kx_iret (z := 0) hx hb hr hlk (⟨by rfl, hA_6⟩) hS_9 dX0_lengthByKinds_15

set_option maxHeartbeats 4000000 in
set_option maxRecDepth 100000 in
theorem wr_lengthBySteps (l : Launch) (hl9 : l.stackTraces = false) (D : kG) (H : Heap) (x1 : Nat) (snp : Option Nat) (hi : Nat) (bu : Nat) (st : Nat) (la : Nat) (mc : Int) (ea : Nat) (F : Fts) (S : Ls) (gap : Int) (ln : Nat) (out : Nat) (go : Nat → UInt64) (hO_x1 : kO D H x1 0 [.ref st, va_rf (snp), .ref hi, .ref bu]) (hO_st : kO D H st 1 [.ref la, .int (kI (gap))]) (hO_la : kO D H la 9 [.int (kI (mc)), .ref ea, .int (kI ((S.length : Nat) : Int))]) (hP_kLs_ea : kLs D H ea S.length F) (hP_kLn_F : kLn D H F S) (hA_out : kAd D H out 1 go) (hok : LsOK S gap) (hln : ln < S.length) (bs_out : kBase D ≤ out) : Met l yX0_lengthBySteps (wsW_ yX0_lengthBySteps cX0_lengthBySteps 4 (some .int) [((0 : Nat), (8 : Nat), (11 : Nat), (13 : Nat))]) ({ frames := 5, cells := 0, slots := 0, locals := 106 } : Room) (kPre D H [.ref x1, .int (kI ((ln : Nat) : Int)), .ref out]) (kQi (fun (r : Int) H' => (r = 0) ∧ (kAd D H' out 1 ((kup go 0 (ln_lenS (st_ln S ln)))))) (fun q : Nat => q = out)) (0) (0) ((fun q : Nat => q = out)) := by
  refine met_of_vx (vx_ofWH (cc := cX0_lengthBySteps) (maxL := 4) (ret := (some .int)) (hh := [((0 : Nat), (8 : Nat), (11 : Nat), (13 : Nat))]) (by decide) rfl ?_)
  intro p e s m args below meth c s₁ B hml hv
  obtain ⟨rfl, hH, hK⟩ := hv
  subst hH
  have hx := B.exec
  have hb := B.bytes
  have hr := B.returns
  have hts := atoms_spec (ws := wsW_ yX0_lengthBySteps cX0_lengthBySteps 4 (some .int) [((0 : Nat), (8 : Nat), (11 : Nat), (13 : Nat))]) B.pre
  have htab := vx_table (x := yX0_lengthBySteps) B (hts _ List.mem_cons_self)
  have hts : ∀ w ∈ lw_all, w.before _ s = true := fun w h => hts w (List.mem_cons_of_mem _ h)
  have hown : s.vm.findClass RX0 = some m.cls := findClass_of_methodNamed B.named
  have hlk := B.notSynchronized
  have hS : va_S (fun q : Nat => q = out) s.heap s.heap [] := va_S.rf
  have hB : ∀ q, (fun q : Nat => q = out) q → kBase D ≤ q := fun q h => by (have hks := hK.size; (try dsimp only at h); omega)
  have hl := lv_entry ([.ref x1, .int (kI ((ln : Nat) : Int)), .ref out]) (n := 4) (Nat.le_of_ble_eq_true rfl)
  rw [lg_entry_eq]
  generalize (lg_sl ([.ref x1, .int (kI ((ln : Nat) : Int)), .ref out]) ++ List.replicate (4 - (lg_sl ([.ref x1, .int (kI ((ln : Nat) : Int)), .ref out])).length) Slot.unset).toArray = ls at hl ⊢
  have hl : lv_has ls 4 [(0, .ref x1), (1, .int (kI ((ln : Nat) : Int))), (2, .ref out)] := hl
  have hltout := hA_out.lt
  have hd9 := hK.dis
  refine lv_aload_n hx hb dX0_lengthBySteps_0 rfl (lv_at hl 2 rfl) ?_
  refine kx_iconst hx hb dX0_lengthBySteps_1 ?_
  refine lv_aload_n hx hb dX0_lengthBySteps_2 rfl (lv_at hl 0 rfl) ?_
  refine lv_iload_n hx hb dX0_lengthBySteps_3 rfl (lv_at hl 1 rfl) ?_
  refine kx_cd0 (va_runV (As := [.int (kI ((ln : Nat) : Int))]) (rest := [.int (kI (0)), .ref out]) ⟨hx, hb, hml, hown, hts⟩ (m_X1_lengthBySteps l D s.heap x1 snp hi bu st la mc ea F S gap ln hO_x1 hO_st hO_la hP_kLs_ea hP_kLn_F hok hln) (cwV 1 hts (lw_V q1994 q1995 q1996 q79 q1997) rfl rfl rfl (by decide +kernel) ⟨Nat.le_of_ble_eq_true rfl, Nat.le_of_ble_eq_true rfl⟩) (kx_pv hK hS hB (kx_rc hK hO_x1 (C := RX1) (T := TX1) (N := 4) rfl)) rfl rfl hl.1 rfl (lv_room (Nat.le_of_ble_eq_true rfl)) dX0_lengthBySteps_4 ⟨by first | exact Nat.le_of_ble_eq_true rfl | omega | (show _ ≤ _; omega) | (dsimp only [headSpec]; omega), by first | exact Nat.le_of_ble_eq_true rfl | omega | (show _ ≤ _; omega) | (dsimp only [headSpec]; omega)⟩) hS (fun z_4 locs_1 hz_3 hS_2 => ?_)
  subst z_4
  have htyo : kTy D s.heap out := Or.inr ⟨3, _, by decide, hA_out⟩
  refine kx_dast (x := ln_lenS (st_ln S ln)) hx hb hK hA_out hS_2 (by first | rfl | exact Or.inl rfl | exact Or.inr rfl | exact Or.inr (Or.inl rfl) | exact Or.inr (Or.inr rfl) | exact Or.inr (Or.inr (Or.inl rfl)) | exact Or.inr (Or.inr (Or.inr rfl)) | ((try dsimp only); (try simp only [kNW]); omega)) 0 (rfl) (by omega) (by omega) dX0_lengthBySteps_7 (fun H_7 locs_8 hA_6 hU_5 hS_9 => ?_)
  have hzu_10 := hU_5.1
  refine lv_goto (tgt := 14) hx hb dX0_lengthBySteps_8 (by decide) ?_
  refine kx_iconst hx hb dX0_lengthBySteps_14 ?_
  refine vx_ret ?_
  exact kx_iret (z := 0) hx hb hr hlk (⟨by rfl, hA_6⟩) hS_9 dX0_lengthBySteps_15

set_option maxHeartbeats 4000000 in
set_option maxRecDepth 100000 in
theorem wr_isWithinByRays (l : Launch) (hl9 : l.stackTraces = false) (D : kG) (H : Heap) (x1 : Nat) (snp : Option Nat) (hi : Nat) (bu : Nat) (st : Nat) (la : Nat) (mc : Int) (ea : Nat) (F : Fts) (S : Ls) (gap : Int) (ln : Nat) (x : Int) (out : Nat) (go : Nat → Int64) (hO_x1 : kO D H x1 0 [.ref st, va_rf (snp), .ref hi, .ref bu]) (hO_st : kO D H st 1 [.ref la, .int (kI (gap))]) (hO_la : kO D H la 9 [.int (kI (mc)), .ref ea, .int (kI ((S.length : Nat) : Int))]) (hP_kLs_ea : kLs D H ea S.length F) (hP_kLn_F : kLn D H F S) (hA_out : kAl D H out 1 go) (hok : LsOK S gap) (hln : ln < S.length) (hpt : 0 ≤ x ∧ x ≤ 383) (hdis : StDis S) (bs_out : kBase D ≤ out) : Met l yX0_isWithinByRays (wsW_ yX0_isWithinByRays cX0_isWithinByRays 5 (some .int) [((0 : Nat), (17 : Nat), (20 : Nat), (13 : Nat))]) ({ frames := 5, cells := 0, slots := 0, locals := 109 } : Room) (kPre D H [.ref x1, .int (kI ((ln : Nat) : Int)), .int (kI (x)), .ref out]) (kQi (fun (r : Int) H' => (r = 0) ∧ (kAl D H' out 1 ((kup go 0 (kL (kb (st_cont S ln x))))))) (fun q : Nat => q = out)) (0) (0) ((fun q : Nat => q = out)) := by
  refine met_of_vx (vx_ofWH (cc := cX0_isWithinByRays) (maxL := 5) (ret := (some .int)) (hh := [((0 : Nat), (17 : Nat), (20 : Nat), (13 : Nat))]) (by decide) rfl ?_)
  intro p e s m args below meth c s₁ B hml hv
  obtain ⟨rfl, hH, hK⟩ := hv
  subst hH
  have hx := B.exec
  have hb := B.bytes
  have hr := B.returns
  have hts := atoms_spec (ws := wsW_ yX0_isWithinByRays cX0_isWithinByRays 5 (some .int) [((0 : Nat), (17 : Nat), (20 : Nat), (13 : Nat))]) B.pre
  have htab := vx_table (x := yX0_isWithinByRays) B (hts _ List.mem_cons_self)
  have hts : ∀ w ∈ lw_all, w.before _ s = true := fun w h => hts w (List.mem_cons_of_mem _ h)
  have hown : s.vm.findClass RX0 = some m.cls := findClass_of_methodNamed B.named
  have hlk := B.notSynchronized
  have hS : va_S (fun q : Nat => q = out) s.heap s.heap [] := va_S.rf
  have hB : ∀ q, (fun q : Nat => q = out) q → kBase D ≤ q := fun q h => by (have hks := hK.size; (try dsimp only at h); omega)
  have hl := lv_entry ([.ref x1, .int (kI ((ln : Nat) : Int)), .int (kI (x)), .ref out]) (n := 5) (Nat.le_of_ble_eq_true rfl)
  rw [lg_entry_eq]
  generalize (lg_sl ([.ref x1, .int (kI ((ln : Nat) : Int)), .int (kI (x)), .ref out]) ++ List.replicate (5 - (lg_sl ([.ref x1, .int (kI ((ln : Nat) : Int)), .int (kI (x)), .ref out])).length) Slot.unset).toArray = ls at hl ⊢
  have hl : lv_has ls 5 [(0, .ref x1), (1, .int (kI ((ln : Nat) : Int))), (2, .int (kI (x))), (3, .ref out)] := hl
  have hltout := hA_out.lt
  have hd9 := hK.dis
  refine lv_aload_n hx hb dX0_isWithinByRays_0 rfl (lv_at hl 3 rfl) ?_
  refine kx_iconst hx hb dX0_isWithinByRays_1 ?_
  refine lv_aload_n hx hb dX0_isWithinByRays_2 rfl (lv_at hl 0 rfl) ?_
  refine lv_iload_n hx hb dX0_isWithinByRays_3 rfl (lv_at hl 1 rfl) ?_
  refine lv_iload_n hx hb dX0_isWithinByRays_4 rfl (lv_at hl 2 rfl) ?_
  refine kx_cb0 (va_runV (As := [.int (kI ((ln : Nat) : Int)), .int (kI (x))]) (rest := [.int (kI (0)), .ref out]) ⟨hx, hb, hml, hown, hts⟩ (m_X1_isWithinByRays l D s.heap x1 snp hi bu st la mc ea F S gap ln x hO_x1 hO_st hO_la hP_kLs_ea hP_kLn_F hok hln hpt hdis) (cwV 2 hts (lw_V q2074 q2075 q2076 q79 q2077) rfl rfl rfl (by decide +kernel) ⟨Nat.le_of_ble_eq_true rfl, Nat.le_of_ble_eq_true rfl⟩) (kx_pv hK hS hB (kx_rc hK hO_x1 (C := RX1) (T := TX1) (N := 4) rfl)) rfl rfl hl.1 rfl (lv_room (Nat.le_of_ble_eq_true rfl)) dX0_isWithinByRays_5 ⟨by first | exact Nat.le_of_ble_eq_true rfl | omega | (show _ ≤ _; omega) | (dsimp only [headSpec]; omega), by first | exact Nat.le_of_ble_eq_true rfl | omega | (show _ ≤ _; omega) | (dsimp only [headSpec]; omega)⟩) hS (fun z_4 locs_1 hz_3 hS_2 => ?_)
  subst z_4
  refine kx_ifz (tgt := 15) hx hb dX0_isWithinByRays_8 (by decide) (fun cb9 => ?_) (fun cb9 => ?_)
  · -- taken at 8
    refine kx_lconst0 hx hb dX0_isWithinByRays_15 ?_
    refine kx_eql (kL (kb (st_cont S ln x))) (by rw [cb9]; rfl) ?_
    have htyo : kTy D s.heap out := Or.inr ⟨2, _, by decide, hA_out⟩
    refine kx_last (x := kL (kb (st_cont S ln x))) hx hb hK hA_out hS_2 (by first | rfl | exact Or.inl rfl | exact Or.inr rfl | exact Or.inr (Or.inl rfl) | exact Or.inr (Or.inr rfl) | exact Or.inr (Or.inr (Or.inl rfl)) | exact Or.inr (Or.inr (Or.inr rfl)) | ((try dsimp only); (try simp only [kNW]); omega)) 0 (rfl) (by omega) (by omega) dX0_isWithinByRays_16 (fun H_7 locs_8 hA_6 hU_5 hS_9 => ?_)
    have hzu_10 := hU_5.1
    refine lv_goto (tgt := 24) hx hb dX0_isWithinByRays_17 (by decide) ?_
    refine kx_iconst hx hb dX0_isWithinByRays_24 ?_
    refine vx_ret ?_
    exact kx_iret (z := 0) hx hb hr hlk (⟨by rfl, hA_6⟩) hS_9 dX0_isWithinByRays_25
  · -- not taken at 8
    refine kx_lconst1 hx hb dX0_isWithinByRays_11 ?_
    refine lv_goto (tgt := 16) hx hb dX0_isWithinByRays_12 (by decide) ?_
    refine kx_eql (kL (kb (st_cont S ln x))) (by rw [cb9]; rfl) ?_
    have htyo : kTy D s.heap out := Or.inr ⟨2, _, by decide, hA_out⟩
    refine kx_last (x := kL (kb (st_cont S ln x))) hx hb hK hA_out hS_2 (by first | rfl | exact Or.inl rfl | exact Or.inr rfl | exact Or.inr (Or.inl rfl) | exact Or.inr (Or.inr rfl) | exact Or.inr (Or.inr (Or.inl rfl)) | exact Or.inr (Or.inr (Or.inr rfl)) | ((try dsimp only); (try simp only [kNW]); omega)) 0 (rfl) (by omega) (by omega) dX0_isWithinByRays_16 (fun H_13 locs_14 hA_12 hU_11 hS_15 => ?_)
    have hzu_16 := hU_11.1
    refine lv_goto (tgt := 24) hx hb dX0_isWithinByRays_17 (by decide) ?_
    refine kx_iconst hx hb dX0_isWithinByRays_24 ?_
    refine vx_ret ?_
    exact kx_iret (z := 0) hx hb hr hlk (⟨by rfl, hA_12⟩) hS_15 dX0_isWithinByRays_25

set_option maxHeartbeats 4000000 in
set_option maxRecDepth 100000 in
theorem wr_isWithinBySpreading (l : Launch) (hl9 : l.stackTraces = false) (D : kG) (H : Heap) (x1 : Nat) (snp : Option Nat) (hi : Nat) (bu : Nat) (st : Nat) (la : Nat) (mc : Int) (ea : Nat) (F : Fts) (S : Ls) (gap : Int) (ln : Nat) (x : Int) (out : Nat) (go : Nat → Int64) (hO_x1 : kO D H x1 0 [.ref st, va_rf (snp), .ref hi, .ref bu]) (hO_st : kO D H st 1 [.ref la, .int (kI (gap))]) (hO_la : kO D H la 9 [.int (kI (mc)), .ref ea, .int (kI ((S.length : Nat) : Int))]) (hP_kLs_ea : kLs D H ea S.length F) (hP_kLn_F : kLn D H F S) (hA_out : kAl D H out 1 go) (hok : LsOK S gap) (hln : ln < S.length) (hpt : 0 ≤ x ∧ x ≤ 383) (hdis : StDis S) (hspr : ln_cl (st_ln S ln) = true → SprOK (st_ln S ln)) (bs_out : kBase D ≤ out) : Met l yX0_isWithinBySpreading (wsW_ yX0_isWithinBySpreading cX0_isWithinBySpreading 5 (some .int) [((0 : Nat), (17 : Nat), (20 : Nat), (13 : Nat))]) ({ frames := 6, cells := 2, slots := 3570, locals := 149 } : Room) (kPre D H [.ref x1, .int (kI ((ln : Nat) : Int)), .int (kI (x)), .ref out]) (kQi (fun (r : Int) H' => (r = 0) ∧ (kAl D H' out 1 ((kup go 0 (kL (kb (st_cont S ln x))))))) (fun q : Nat => q = out ∨ H.size ≤ q)) (2) (3570) ((fun q : Nat => q = out ∨ H.size ≤ q)) := by
  refine met_of_vx (vx_ofWH (cc := cX0_isWithinBySpreading) (maxL := 5) (ret := (some .int)) (hh := [((0 : Nat), (17 : Nat), (20 : Nat), (13 : Nat))]) (by decide) rfl ?_)
  intro p e s m args below meth c s₁ B hml hv
  obtain ⟨rfl, hH, hK⟩ := hv
  subst hH
  have hx := B.exec
  have hb := B.bytes
  have hr := B.returns
  have hts := atoms_spec (ws := wsW_ yX0_isWithinBySpreading cX0_isWithinBySpreading 5 (some .int) [((0 : Nat), (17 : Nat), (20 : Nat), (13 : Nat))]) B.pre
  have htab := vx_table (x := yX0_isWithinBySpreading) B (hts _ List.mem_cons_self)
  have hts : ∀ w ∈ lw_all, w.before _ s = true := fun w h => hts w (List.mem_cons_of_mem _ h)
  have hown : s.vm.findClass RX0 = some m.cls := findClass_of_methodNamed B.named
  have hlk := B.notSynchronized
  have hS : va_S (fun q : Nat => q = out ∨ s.heap.size ≤ q) s.heap s.heap [] := va_S.rf
  have hB : ∀ q, (fun q : Nat => q = out ∨ s.heap.size ≤ q) q → kBase D ≤ q := fun q h => by (have hks := hK.size; (try dsimp only at h); omega)
  have hl := lv_entry ([.ref x1, .int (kI ((ln : Nat) : Int)), .int (kI (x)), .ref out]) (n := 5) (Nat.le_of_ble_eq_true rfl)
  rw [lg_entry_eq]
  generalize (lg_sl ([.ref x1, .int (kI ((ln : Nat) : Int)), .int (kI (x)), .ref out]) ++ List.replicate (5 - (lg_sl ([.ref x1, .int (kI ((ln : Nat) : Int)), .int (kI (x)), .ref out])).length) Slot.unset).toArray = ls at hl ⊢
  have hl : lv_has ls 5 [(0, .ref x1), (1, .int (kI ((ln : Nat) : Int))), (2, .int (kI (x))), (3, .ref out)] := hl
  have hltout := hA_out.lt
  have hd9 := hK.dis
  refine lv_aload_n hx hb dX0_isWithinBySpreading_0 rfl (lv_at hl 3 rfl) ?_
  refine kx_iconst hx hb dX0_isWithinBySpreading_1 ?_
  refine lv_aload_n hx hb dX0_isWithinBySpreading_2 rfl (lv_at hl 0 rfl) ?_
  refine lv_iload_n hx hb dX0_isWithinBySpreading_3 rfl (lv_at hl 1 rfl) ?_
  refine lv_iload_n hx hb dX0_isWithinBySpreading_4 rfl (lv_at hl 2 rfl) ?_
  refine kx_cb (va_runV (As := [.int (kI ((ln : Nat) : Int)), .int (kI (x))]) (rest := [.int (kI (0)), .ref out]) ⟨hx, hb, hml, hown, hts⟩ (m_X1_isWithinBySpreading l D s.heap x1 snp hi bu st la mc ea F S gap ln x hO_x1 hO_st hO_la hP_kLs_ea hP_kLn_F hok hln hpt hdis hspr) (cwV 2 hts (lw_V q2089 q2090 q2091 q79 q2092) rfl rfl rfl (by decide +kernel) ⟨Nat.le_of_ble_eq_true rfl, Nat.le_of_ble_eq_true rfl⟩) (kx_pv hK hS hB (kx_rc hK hO_x1 (C := RX1) (T := TX1) (N := 4) rfl)) rfl rfl hl.1 rfl (lv_room (Nat.le_of_ble_eq_true rfl)) dX0_isWithinBySpreading_5 ⟨by first | exact Nat.le_of_ble_eq_true rfl | omega | (show _ ≤ _; omega) | (dsimp only [headSpec]; omega), by first | exact Nat.le_of_ble_eq_true rfl | omega | (show _ ≤ _; omega) | (dsimp only [headSpec]; omega)⟩) hS (fun q _ h => by have h9 := hS.1; (try dsimp only at h); (try dsimp only); (try simp only [kNW] at h); (try simp only [kNW]); omega) (fun q h => by have h9 := hS.1; (try dsimp only at h); (try dsimp only); (try simp only [kNW] at h); (try simp only [kNW]); omega) (fun z_6 H_4 locs_1 hz_3 hF_5 hS_2 => ?_)
  have hzf_7 := hF_5.1
  have hF_5 := hF_5.nw
  refine W.widen (k := 2) (n := 3570) (Nat.le_of_ble_eq_true rfl) (Nat.le_of_ble_eq_true rfl) ?_
  obtain ⟨hv_8, htr_9⟩ := hz_3
  subst z_6
  refine kx_ifz (tgt := 15) hx hb dX0_isWithinBySpreading_8 (by decide) (fun cb9 => ?_) (fun cb9 => ?_)
  · -- taken at 8
    refine kx_lconst0 hx hb dX0_isWithinBySpreading_15 ?_
    refine kx_eql (kL (kb (st_cont S ln x))) (by rw [cb9]; rfl) ?_
    have h_10 := hA_out.ex hF_5
    have htyo : kTy D H_4 out := Or.inr ⟨2, _, by decide, h_10⟩
    refine kx_last (x := kL (kb (st_cont S ln x))) hx hb hK h_10 hS_2 (by first | rfl | exact Or.inl rfl | exact Or.inr rfl | exact Or.inr (Or.inl rfl) | exact Or.inr (Or.inr rfl) | exact Or.inr (Or.inr (Or.inl rfl)) | exact Or.inr (Or.inr (Or.inr rfl)) | ((try dsimp only); (try simp only [kNW]); omega)) 0 (rfl) (by omega) (by omega) dX0_isWithinBySpreading_16 (fun H_13 locs_14 hA_12 hU_11 hS_15 => ?_)
    have hzu_16 := hU_11.1
    refine lv_goto (tgt := 24) hx hb dX0_isWithinBySpreading_17 (by decide) ?_
    refine kx_iconst hx hb dX0_isWithinBySpreading_24 ?_
    refine vx_ret ?_
    exact kx_iret (z := 0) hx hb hr hlk (⟨by rfl, hA_12⟩) hS_15 dX0_isWithinBySpreading_25
  · -- not taken at 8
    refine kx_lconst1 hx hb dX0_isWithinBySpreading_11 ?_
    refine lv_goto (tgt := 16) hx hb dX0_isWithinBySpreading_12 (by decide) ?_
    refine kx_eql (kL (kb (st_cont S ln x))) (by rw [cb9]; rfl) ?_
    have h_17 := hA_out.ex hF_5
    have htyo : kTy D H_4 out := Or.inr ⟨2, _, by decide, h_17⟩
    refine kx_last (x := kL (kb (st_cont S ln x))) hx hb hK h_17 hS_2 (by first | rfl | exact Or.inl rfl | exact Or.inr rfl | exact Or.inr (Or.inl rfl) | exact Or.inr (Or.inr rfl) | exact Or.inr (Or.inr (Or.inl rfl)) | exact Or.inr (Or.inr (Or.inr rfl)) | ((try dsimp only); (try simp only [kNW]); omega)) 0 (rfl) (by omega) (by omega) dX0_isWithinBySpreading_16 (fun H_20 locs_21 hA_19 hU_18 hS_22 => ?_)
    have hzu_23 := hU_18.1
    refine lv_goto (tgt := 24) hx hb dX0_isWithinBySpreading_17 (by decide) ?_
    refine kx_iconst hx hb dX0_isWithinBySpreading_24 ?_
    refine vx_ret ?_
    exact kx_iret (z := 0) hx hb hr hlk (⟨by rfl, hA_19⟩) hS_22 dX0_isWithinBySpreading_25

set_option maxHeartbeats 4000000 in
set_option maxRecDepth 100000 in
theorem wr_lineByLevel (l : Launch) (hl9 : l.stackTraces = false) (D : kG) (H : Heap) (x1 : Nat) (snp : Option Nat) (hi : Nat) (bu : Nat) (st : Nat) (la : Nat) (mc : Int) (ea : Nat) (F : Fts) (S : Ls) (gap : Int) (ln : Nat) (out : Nat) (go : Nat → Int64) (hO_x1 : kO D H x1 0 [.ref st, va_rf (snp), .ref hi, .ref bu]) (hO_st : kO D H st 1 [.ref la, .int (kI (gap))]) (hO_la : kO D H la 9 [.int (kI (mc)), .ref ea, .int (kI ((S.length : Nat) : Int))]) (hP_kLs_ea : kLs D H ea S.length F) (hP_kLn_F : kLn D H F S) (hA_out : kAl D H out 1 go) (hok : LsOK S gap) (hln : ln < S.length) (bs_out : kBase D ≤ out) (hrv : -2147483648 ≤ st_byLv S ((ln : Nat) : Int) ∧ st_byLv S ((ln : Nat) : Int) ≤ 2147483647) : Met l yX0_lineByLevel (wsW_ yX0_lineByLevel cX0_lineByLevel 4 (some .int) [((0 : Nat), (9 : Nat), (12 : Nat), (13 : Nat))]) ({ frames := 10, cells := 19, slots := 70, locals := 225 } : Room) (kPre D H [.ref x1, .int (kI ((ln : Nat) : Int)), .ref out]) (kQi (fun (r : Int) H' => (r = 0) ∧ (kAl D H' out 1 ((kup go 0 (kL (st_byLv S ((ln : Nat) : Int))))))) (fun q : Nat => q = out ∨ H.size ≤ q)) (19) (70) ((fun q : Nat => q = out ∨ H.size ≤ q)) := by
  refine met_of_vx (vx_ofWH (cc := cX0_lineByLevel) (maxL := 4) (ret := (some .int)) (hh := [((0 : Nat), (9 : Nat), (12 : Nat), (13 : Nat))]) (by decide) rfl ?_)
  intro p e s m args below meth c s₁ B hml hv
  obtain ⟨rfl, hH, hK⟩ := hv
  subst hH
  have hx := B.exec
  have hb := B.bytes
  have hr := B.returns
  have hts := atoms_spec (ws := wsW_ yX0_lineByLevel cX0_lineByLevel 4 (some .int) [((0 : Nat), (9 : Nat), (12 : Nat), (13 : Nat))]) B.pre
  have htab := vx_table (x := yX0_lineByLevel) B (hts _ List.mem_cons_self)
  have hts : ∀ w ∈ lw_all, w.before _ s = true := fun w h => hts w (List.mem_cons_of_mem _ h)
  have hown : s.vm.findClass RX0 = some m.cls := findClass_of_methodNamed B.named
  have hlk := B.notSynchronized
  have hS : va_S (fun q : Nat => q = out ∨ s.heap.size ≤ q) s.heap s.heap [] := va_S.rf
  have hB : ∀ q, (fun q : Nat => q = out ∨ s.heap.size ≤ q) q → kBase D ≤ q := fun q h => by (have hks := hK.size; (try dsimp only at h); omega)
  have hl := lv_entry ([.ref x1, .int (kI ((ln : Nat) : Int)), .ref out]) (n := 4) (Nat.le_of_ble_eq_true rfl)
  rw [lg_entry_eq]
  generalize (lg_sl ([.ref x1, .int (kI ((ln : Nat) : Int)), .ref out]) ++ List.replicate (4 - (lg_sl ([.ref x1, .int (kI ((ln : Nat) : Int)), .ref out])).length) Slot.unset).toArray = ls at hl ⊢
  have hl : lv_has ls 4 [(0, .ref x1), (1, .int (kI ((ln : Nat) : Int))), (2, .ref out)] := hl
  have hltout := hA_out.lt
  have hd9 := hK.dis
  refine lv_aload_n hx hb dX0_lineByLevel_0 rfl (lv_at hl 2 rfl) ?_
  refine kx_iconst hx hb dX0_lineByLevel_1 ?_
  refine lv_aload_n hx hb dX0_lineByLevel_2 rfl (lv_at hl 0 rfl) ?_
  refine lv_iload_n hx hb dX0_lineByLevel_3 rfl (lv_at hl 1 rfl) ?_
  refine kx_ci (va_runV (As := [.int (kI ((ln : Nat) : Int))]) (rest := [.int (kI (0)), .ref out]) ⟨hx, hb, hml, hown, hts⟩ (m_X1_lineByLevel l D s.heap x1 snp hi bu st la mc ea F S gap ln hO_x1 hO_st hO_la hP_kLs_ea hP_kLn_F hok hln) (cwV 1 hts (lw_V q2156 q2157 q2158 q79 q2159) rfl rfl rfl (by decide +kernel) ⟨Nat.le_of_ble_eq_true rfl, Nat.le_of_ble_eq_true rfl⟩) (kx_pv hK hS hB (kx_rc hK hO_x1 (C := RX1) (T := TX1) (N := 4) rfl)) rfl rfl hl.1 rfl (lv_room (Nat.le_of_ble_eq_true rfl)) dX0_lineByLevel_4 ⟨by first | exact Nat.le_of_ble_eq_true rfl | omega | (show _ ≤ _; omega) | (dsimp only [headSpec]; omega), by first | exact Nat.le_of_ble_eq_true rfl | omega | (show _ ≤ _; omega) | (dsimp only [headSpec]; omega)⟩) hS (fun q _ h => by have h9 := hS.1; (try dsimp only at h); (try dsimp only); (try simp only [kNW] at h); (try simp only [kNW]); omega) (fun q h => by have h9 := hS.1; (try dsimp only at h); (try dsimp only); (try simp only [kNW] at h); (try simp only [kNW]); omega) (fun z_6 H_4 locs_1 hz_3 hF_5 hS_2 => ?_)
  have hzf_7 := hF_5.1
  have hF_5 := hF_5.nw
  refine W.widen (k := 19) (n := 70) (Nat.le_of_ble_eq_true rfl) (Nat.le_of_ble_eq_true rfl) ?_
  obtain ⟨hv_8, htr_9⟩ := hz_3
  subst z_6
  refine kx_i2l hx hb (z := st_byLv S ((ln : Nat) : Int)) (by omega) (by omega) dX0_lineByLevel_7 ?_
  have h_10 := hA_out.ex hF_5
  have htyo : kTy D H_4 out := Or.inr ⟨2, _, by decide, h_10⟩
  refine kx_last (x := kL (st_byLv S ((ln : Nat) : Int))) hx hb hK h_10 hS_2 (by first | rfl | exact Or.inl rfl | exact Or.inr rfl | exact Or.inr (Or.inl rfl) | exact Or.inr (Or.inr rfl) | exact Or.inr (Or.inr (Or.inl rfl)) | exact Or.inr (Or.inr (Or.inr rfl)) | ((try dsimp only); (try simp only [kNW]); omega)) 0 (rfl) (by omega) (by omega) dX0_lineByLevel_8 (fun H_13 locs_14 hA_12 hU_11 hS_15 => ?_)
  have hzu_16 := hU_11.1
  refine lv_goto (tgt := 15) hx hb dX0_lineByLevel_9 (by decide) ?_
  refine kx_iconst hx hb dX0_lineByLevel_15 ?_
  refine vx_ret ?_
  exact kx_iret (z := 0) hx hb hr hlk (⟨by rfl, hA_12⟩) hS_15 dX0_lineByLevel_16

set_option maxHeartbeats 4000000 in
set_option maxRecDepth 100000 in
theorem wx_begin_1 (l : Launch) (hl9 : l.stackTraces = false) (D : kG) (H : Heap) (x1 : Nat) (snp : Option Nat) (hi : Nat) (bu : Nat) (st : Nat) (la : Nat) (mc : Int) (ea : Nat) (F : Fts) (S : Ls) (gap : Int) (lv : Int) (x : Int) (out : Nat) (hO_x1 : kO D H x1 0 [.ref st, va_rf (snp), .ref hi, .ref bu]) (hO_st : kO D H st 1 [.ref la, .int (kI (gap))]) (hO_la : kO D H la 9 [.int (kI (mc)), .ref ea, .int (kI ((S.length : Nat) : Int))]) (hP_kLs_ea : kLs D H ea S.length F) (hP_kLn_F : kLn D H F S) (hok : LsOK S gap) (hr_lv : -2147483648 ≤ lv ∧ lv ≤ 2147483647) (hr_x : -2147483648 ≤ x ∧ x ≤ 2147483647) (hpt : x < 0 ∨ 384 ≤ x) : Met l yX0_begin (wsW_ yX0_begin cX0_begin 5 (some .int) [((0 : Nat), (10 : Nat), (13 : Nat), (13 : Nat)), ((0 : Nat), (10 : Nat), (17 : Nat), (15 : Nat)), ((0 : Nat), (10 : Nat), (21 : Nat), (17 : Nat))]) ({ frames := 9, cells := 1, slots := 6, locals := 183 } : Room) (kPre D H [.ref x1, .int (kI (lv)), .int (kI (x)), .ref out]) (kQi (fun (r : Int) H' => (r = 1) ∧ (True)) (kNW H)) (1) (6) ((kNW H)) := by
  refine met_of_vx (vx_ofWH (cc := cX0_begin) (maxL := 5) (ret := (some .int)) (hh := [((0 : Nat), (10 : Nat), (13 : Nat), (13 : Nat)), ((0 : Nat), (10 : Nat), (17 : Nat), (15 : Nat)), ((0 : Nat), (10 : Nat), (21 : Nat), (17 : Nat))]) (by decide) rfl ?_)
  intro p e s m args below meth c s₁ B hml hv
  obtain ⟨rfl, hH, hK⟩ := hv
  subst hH
  have hx := B.exec
  have hb := B.bytes
  have hr := B.returns
  have hts := atoms_spec (ws := wsW_ yX0_begin cX0_begin 5 (some .int) [((0 : Nat), (10 : Nat), (13 : Nat), (13 : Nat)), ((0 : Nat), (10 : Nat), (17 : Nat), (15 : Nat)), ((0 : Nat), (10 : Nat), (21 : Nat), (17 : Nat))]) B.pre
  have htab := vx_table (x := yX0_begin) B (hts _ List.mem_cons_self)
  have hts : ∀ w ∈ lw_all, w.before _ s = true := fun w h => hts w (List.mem_cons_of_mem _ h)
  have hown : s.vm.findClass RX0 = some m.cls := findClass_of_methodNamed B.named
  have hlk := B.notSynchronized
  have hS : va_S (kNW s.heap) s.heap s.heap [] := va_S.rf
  have hB : ∀ q, (kNW s.heap) q → kBase D ≤ q := fun q h => Nat.le_trans hK.size h
  have hl := lv_entry ([.ref x1, .int (kI (lv)), .int (kI (x)), .ref out]) (n := 5) (Nat.le_of_ble_eq_true rfl)
  rw [lg_entry_eq]
  generalize (lg_sl ([.ref x1, .int (kI (lv)), .int (kI (x)), .ref out]) ++ List.replicate (5 - (lg_sl ([.ref x1, .int (kI (lv)), .int (kI (x)), .ref out])).length) Slot.unset).toArray = ls at hl ⊢
  have hl : lv_has ls 5 [(0, .ref x1), (1, .int (kI (lv))), (2, .int (kI (x))), (3, .ref out)] := hl
  refine lv_aload_n hx hb dX0_begin_0 rfl (lv_at hl 3 rfl) ?_
  refine kx_iconst hx hb dX0_begin_1 ?_
  refine lv_aload_n hx hb dX0_begin_2 rfl (lv_at hl 0 rfl) ?_
  refine lv_iload_n hx hb dX0_begin_3 rfl (lv_at hl 1 rfl) ?_
  refine lv_iload_n hx hb dX0_begin_4 rfl (lv_at hl 2 rfl) ?_
  refine kx_catch (own := RX0) (nm := "java/lang/IndexOutOfBoundsException") (vx_runV (As := [.int (kI (lv)), .int (kI (x))]) (rest := [.int (kI (0)), .ref out]) ⟨hx, hb, hml, hown, hts⟩ (x_begin_1 l hl9 D s.heap x1 snp hi bu st la mc ea F S gap lv x hO_x1 hO_st hO_la hP_kLs_ea hP_kLn_F (by first | assumption | omega) (by first | assumption | omega) (by first | assumption | omega) (by first | assumption | omega)) (cwV 2 hts (lw_V q1813 q1814 q1815 q79 q1816) rfl rfl rfl (by decide +kernel) ⟨Nat.le_of_ble_eq_true rfl, Nat.le_of_ble_eq_true rfl⟩) (kx_pv hK hS hB (kx_rc hK hO_x1 (C := RX1) (T := TX1) (N := 4) rfl)) rfl rfl hl.1 rfl (lv_room (Nat.le_of_ble_eq_true rfl)) dX0_begin_5 ⟨by first | exact Nat.le_of_ble_eq_true rfl | omega | (show _ ≤ _; omega) | (dsimp only [headSpec]; omega), by first | exact Nat.le_of_ble_eq_true rfl | omega | (show _ ≤ _; omega) | (dsimp only [headSpec]; omega)⟩) hS (fun q _ h => by have h9 := hS.1; (try dsimp only at h); (try dsimp only); (try simp only [kNW] at h); (try simp only [kNW]); omega) (fun q h => by have h9 := hS.1; (try dsimp only at h); (try dsimp only); (try simp only [kNW] at h); (try simp only [kNW]); omega) hts hK hown [] ⟨0, 10, 13, 13⟩ [⟨0, 10, 17, 15⟩, ⟨0, 10, 21, 17⟩] (by rw [htab]; rfl) (fun z hz => by cases hz) (by decide) (by decide) q1808 q1825 (fun q9_1 H_2 locs_3 hF_4 hS_5 => ?_)
  have hF_4 := hF_4.nw
  refine W.widen (k := 1) (n := 6) (Nat.le_of_ble_eq_true rfl) (Nat.le_of_ble_eq_true rfl) ?_
  refine lv_astore (lv' := [(4, .ref q9_1), (0, .ref x1), (1, .int (kI (lv))), (2, .int (kI (x))), (3, .ref out)]) hx hb dX0_begin_13 hl (by decide) rfl (fun ls hl => ?_)
  refine kx_iconst hx hb dX0_begin_15 ?_
  refine vx_ret ?_
  exact kx_iret (z := 1) hx hb hr hlk (⟨by rfl, by first | assumption | rfl | omega | grind⟩) hS_5 dX0_begin_16

set_option maxHeartbeats 4000000 in
set_option maxRecDepth 100000 in
theorem wx_begin_2 (l : Launch) (hl9 : l.stackTraces = false) (D : kG) (H : Heap) (x1 : Nat) (snp : Option Nat) (hi : Nat) (bu : Nat) (st : Nat) (la : Nat) (mc : Int) (ea : Nat) (F : Fts) (S : Ls) (gap : Int) (lv : Int) (x : Int) (out : Nat) (hO_x1 : kO D H x1 0 [.ref st, va_rf (snp), .ref hi, .ref bu]) (hO_st : kO D H st 1 [.ref la, .int (kI (gap))]) (hO_la : kO D H la 9 [.int (kI (mc)), .ref ea, .int (kI ((S.length : Nat) : Int))]) (hP_kLs_ea : kLs D H ea S.length F) (hP_kLn_F : kLn D H F S) (hok : LsOK S gap) (hpt : 0 ≤ x ∧ x ≤ 383) (hr_lv : -2147483648 ≤ lv ∧ lv ≤ 2147483647) (hlv : lv < 0 ∨ 99 < lv) : Met l yX0_begin (wsW_ yX0_begin cX0_begin 5 (some .int) [((0 : Nat), (10 : Nat), (13 : Nat), (13 : Nat)), ((0 : Nat), (10 : Nat), (17 : Nat), (15 : Nat)), ((0 : Nat), (10 : Nat), (21 : Nat), (17 : Nat))]) ({ frames := 8, cells := 1, slots := 6, locals := 164 } : Room) (kPre D H [.ref x1, .int (kI (lv)), .int (kI (x)), .ref out]) (kQi (fun (r : Int) H' => (r = 2) ∧ (True)) (kNW H)) (1) (6) ((kNW H)) := by
  refine met_of_vx (vx_ofWH (cc := cX0_begin) (maxL := 5) (ret := (some .int)) (hh := [((0 : Nat), (10 : Nat), (13 : Nat), (13 : Nat)), ((0 : Nat), (10 : Nat), (17 : Nat), (15 : Nat)), ((0 : Nat), (10 : Nat), (21 : Nat), (17 : Nat))]) (by decide) rfl ?_)
  intro p e s m args below meth c s₁ B hml hv
  obtain ⟨rfl, hH, hK⟩ := hv
  subst hH
  have hx := B.exec
  have hb := B.bytes
  have hr := B.returns
  have hts := atoms_spec (ws := wsW_ yX0_begin cX0_begin 5 (some .int) [((0 : Nat), (10 : Nat), (13 : Nat), (13 : Nat)), ((0 : Nat), (10 : Nat), (17 : Nat), (15 : Nat)), ((0 : Nat), (10 : Nat), (21 : Nat), (17 : Nat))]) B.pre
  have htab := vx_table (x := yX0_begin) B (hts _ List.mem_cons_self)
  have hts : ∀ w ∈ lw_all, w.before _ s = true := fun w h => hts w (List.mem_cons_of_mem _ h)
  have hown : s.vm.findClass RX0 = some m.cls := findClass_of_methodNamed B.named
  have hlk := B.notSynchronized
  have hS : va_S (kNW s.heap) s.heap s.heap [] := va_S.rf
  have hB : ∀ q, (kNW s.heap) q → kBase D ≤ q := fun q h => Nat.le_trans hK.size h
  have hl := lv_entry ([.ref x1, .int (kI (lv)), .int (kI (x)), .ref out]) (n := 5) (Nat.le_of_ble_eq_true rfl)
  rw [lg_entry_eq]
  generalize (lg_sl ([.ref x1, .int (kI (lv)), .int (kI (x)), .ref out]) ++ List.replicate (5 - (lg_sl ([.ref x1, .int (kI (lv)), .int (kI (x)), .ref out])).length) Slot.unset).toArray = ls at hl ⊢
  have hl : lv_has ls 5 [(0, .ref x1), (1, .int (kI (lv))), (2, .int (kI (x))), (3, .ref out)] := hl
  refine lv_aload_n hx hb dX0_begin_0 rfl (lv_at hl 3 rfl) ?_
  refine kx_iconst hx hb dX0_begin_1 ?_
  refine lv_aload_n hx hb dX0_begin_2 rfl (lv_at hl 0 rfl) ?_
  refine lv_iload_n hx hb dX0_begin_3 rfl (lv_at hl 1 rfl) ?_
  refine lv_iload_n hx hb dX0_begin_4 rfl (lv_at hl 2 rfl) ?_
  refine kx_catch (own := RX0) (nm := "java/lang/IllegalArgumentException") (vx_runV (As := [.int (kI (lv)), .int (kI (x))]) (rest := [.int (kI (0)), .ref out]) ⟨hx, hb, hml, hown, hts⟩ (x_begin_2 l hl9 D s.heap x1 snp hi bu st la mc ea F S gap lv x hO_x1 hO_st hO_la hP_kLs_ea hP_kLn_F (by first | assumption | omega) (by first | assumption | omega) (by first | assumption | omega) (by first | assumption | omega)) (cwV 2 hts (lw_V q1813 q1814 q1815 q79 q1816) rfl rfl rfl (by decide +kernel) ⟨Nat.le_of_ble_eq_true rfl, Nat.le_of_ble_eq_true rfl⟩) (kx_pv hK hS hB (kx_rc hK hO_x1 (C := RX1) (T := TX1) (N := 4) rfl)) rfl rfl hl.1 rfl (lv_room (Nat.le_of_ble_eq_true rfl)) dX0_begin_5 ⟨by first | exact Nat.le_of_ble_eq_true rfl | omega | (show _ ≤ _; omega) | (dsimp only [headSpec]; omega), by first | exact Nat.le_of_ble_eq_true rfl | omega | (show _ ≤ _; omega) | (dsimp only [headSpec]; omega)⟩) hS (fun q _ h => by have h9 := hS.1; (try dsimp only at h); (try dsimp only); (try simp only [kNW] at h); (try simp only [kNW]); omega) (fun q h => by have h9 := hS.1; (try dsimp only at h); (try dsimp only); (try simp only [kNW] at h); (try simp only [kNW]); omega) hts hK hown [⟨0, 10, 13, 13⟩] ⟨0, 10, 17, 15⟩ [⟨0, 10, 21, 17⟩] (by rw [htab]; rfl) (fun z hz => by simp only [List.mem_cons, List.not_mem_nil, or_false] at hz; rcases hz with rfl; exact ⟨by decide, "java/lang/IndexOutOfBoundsException", q1808, by decide⟩) (by decide) (by decide) q1811 q1035 (fun q9_1 H_2 locs_3 hF_4 hS_5 => ?_)
  have hF_4 := hF_4.nw
  refine W.widen (k := 1) (n := 6) (Nat.le_of_ble_eq_true rfl) (Nat.le_of_ble_eq_true rfl) ?_
  refine lv_astore (lv' := [(4, .ref q9_1), (0, .ref x1), (1, .int (kI (lv))), (2, .int (kI (x))), (3, .ref out)]) hx hb dX0_begin_17 hl (by decide) rfl (fun ls hl => ?_)
  refine kx_iconst hx hb dX0_begin_19 ?_
  refine vx_ret ?_
  exact kx_iret (z := 2) hx hb hr hlk (⟨by rfl, by first | assumption | rfl | omega | grind⟩) hS_5 dX0_begin_20

set_option maxHeartbeats 4000000 in
set_option maxRecDepth 100000 in
theorem wx_begin_3 (l : Launch) (hl9 : l.stackTraces = false) (D : kG) (H : Heap) (x1 : Nat) (snp : Option Nat) (hi : Nat) (bu : Nat) (st : Nat) (la : Nat) (mc : Int) (ea : Nat) (F : Fts) (S : Ls) (gap : Int) (lv : Int) (x : Int) (out : Nat) (hO_x1 : kO D H x1 0 [.ref st, va_rf (snp), .ref hi, .ref bu]) (hO_st : kO D H st 1 [.ref la, .int (kI (gap))]) (hO_la : kO D H la 9 [.int (kI (mc)), .ref ea, .int (kI ((S.length : Nat) : Int))]) (hP_kLs_ea : kLs D H ea S.length F) (hP_kLn_F : kLn D H F S) (hok : LsOK S gap) (hpt : 0 ≤ x ∧ x ≤ 383) (hlv : 0 ≤ lv ∧ lv ≤ 99) (hno : S.length = 8 ∨ st_owner S x ≠ -1) : Met l yX0_begin (wsW_ yX0_begin cX0_begin 5 (some .int) [((0 : Nat), (10 : Nat), (13 : Nat), (13 : Nat)), ((0 : Nat), (10 : Nat), (17 : Nat), (15 : Nat)), ((0 : Nat), (10 : Nat), (21 : Nat), (17 : Nat))]) ({ frames := 8, cells := 1, slots := 6, locals := 162 } : Room) (kPre D H [.ref x1, .int (kI (lv)), .int (kI (x)), .ref out]) (kQi (fun (r : Int) H' => (r = 3) ∧ (True)) (kNW H)) (1) (6) ((kNW H)) := by
  refine met_of_vx (vx_ofWH (cc := cX0_begin) (maxL := 5) (ret := (some .int)) (hh := [((0 : Nat), (10 : Nat), (13 : Nat), (13 : Nat)), ((0 : Nat), (10 : Nat), (17 : Nat), (15 : Nat)), ((0 : Nat), (10 : Nat), (21 : Nat), (17 : Nat))]) (by decide) rfl ?_)
  intro p e s m args below meth c s₁ B hml hv
  obtain ⟨rfl, hH, hK⟩ := hv
  subst hH
  have hx := B.exec
  have hb := B.bytes
  have hr := B.returns
  have hts := atoms_spec (ws := wsW_ yX0_begin cX0_begin 5 (some .int) [((0 : Nat), (10 : Nat), (13 : Nat), (13 : Nat)), ((0 : Nat), (10 : Nat), (17 : Nat), (15 : Nat)), ((0 : Nat), (10 : Nat), (21 : Nat), (17 : Nat))]) B.pre
  have htab := vx_table (x := yX0_begin) B (hts _ List.mem_cons_self)
  have hts : ∀ w ∈ lw_all, w.before _ s = true := fun w h => hts w (List.mem_cons_of_mem _ h)
  have hown : s.vm.findClass RX0 = some m.cls := findClass_of_methodNamed B.named
  have hlk := B.notSynchronized
  have hS : va_S (kNW s.heap) s.heap s.heap [] := va_S.rf
  have hB : ∀ q, (kNW s.heap) q → kBase D ≤ q := fun q h => Nat.le_trans hK.size h
  have hl := lv_entry ([.ref x1, .int (kI (lv)), .int (kI (x)), .ref out]) (n := 5) (Nat.le_of_ble_eq_true rfl)
  rw [lg_entry_eq]
  generalize (lg_sl ([.ref x1, .int (kI (lv)), .int (kI (x)), .ref out]) ++ List.replicate (5 - (lg_sl ([.ref x1, .int (kI (lv)), .int (kI (x)), .ref out])).length) Slot.unset).toArray = ls at hl ⊢
  have hl : lv_has ls 5 [(0, .ref x1), (1, .int (kI (lv))), (2, .int (kI (x))), (3, .ref out)] := hl
  refine lv_aload_n hx hb dX0_begin_0 rfl (lv_at hl 3 rfl) ?_
  refine kx_iconst hx hb dX0_begin_1 ?_
  refine lv_aload_n hx hb dX0_begin_2 rfl (lv_at hl 0 rfl) ?_
  refine lv_iload_n hx hb dX0_begin_3 rfl (lv_at hl 1 rfl) ?_
  refine lv_iload_n hx hb dX0_begin_4 rfl (lv_at hl 2 rfl) ?_
  refine kx_catch (own := RX0) (nm := "java/lang/IllegalStateException") (vx_runV (As := [.int (kI (lv)), .int (kI (x))]) (rest := [.int (kI (0)), .ref out]) ⟨hx, hb, hml, hown, hts⟩ (x_begin_3 l hl9 D s.heap x1 snp hi bu st la mc ea F S gap lv x hO_x1 hO_st hO_la hP_kLs_ea hP_kLn_F (by first | assumption | omega) (by first | assumption | omega) (by first | assumption | omega) (by first | assumption | omega)) (cwV 2 hts (lw_V q1813 q1814 q1815 q79 q1816) rfl rfl rfl (by decide +kernel) ⟨Nat.le_of_ble_eq_true rfl, Nat.le_of_ble_eq_true rfl⟩) (kx_pv hK hS hB (kx_rc hK hO_x1 (C := RX1) (T := TX1) (N := 4) rfl)) rfl rfl hl.1 rfl (lv_room (Nat.le_of_ble_eq_true rfl)) dX0_begin_5 ⟨by first | exact Nat.le_of_ble_eq_true rfl | omega | (show _ ≤ _; omega) | (dsimp only [headSpec]; omega), by first | exact Nat.le_of_ble_eq_true rfl | omega | (show _ ≤ _; omega) | (dsimp only [headSpec]; omega)⟩) hS (fun q _ h => by have h9 := hS.1; (try dsimp only at h); (try dsimp only); (try simp only [kNW] at h); (try simp only [kNW]); omega) (fun q h => by have h9 := hS.1; (try dsimp only at h); (try dsimp only); (try simp only [kNW] at h); (try simp only [kNW]); omega) hts hK hown [⟨0, 10, 13, 13⟩, ⟨0, 10, 17, 15⟩] ⟨0, 10, 21, 17⟩ [] (by rw [htab]; rfl) (fun z hz => by simp only [List.mem_cons, List.not_mem_nil, or_false] at hz; rcases hz with rfl | rfl; exact ⟨by decide, "java/lang/IndexOutOfBoundsException", q1808, by decide⟩; exact ⟨by decide, "java/lang/IllegalArgumentException", q1811, by decide⟩) (by decide) (by decide) q1812 q455 (fun q9_1 H_2 locs_3 hF_4 hS_5 => ?_)
  have hF_4 := hF_4.nw
  refine W.widen (k := 1) (n := 6) (Nat.le_of_ble_eq_true rfl) (Nat.le_of_ble_eq_true rfl) ?_
  refine lv_astore (lv' := [(4, .ref q9_1), (0, .ref x1), (1, .int (kI (lv))), (2, .int (kI (x))), (3, .ref out)]) hx hb dX0_begin_21 hl (by decide) rfl (fun ls hl => ?_)
  refine kx_iconst hx hb dX0_begin_23 ?_
  refine vx_ret ?_
  exact kx_iret (z := 3) hx hb hr hlk (⟨by rfl, by first | assumption | rfl | omega | grind⟩) hS_5 dX0_begin_24

set_option maxHeartbeats 4000000 in
set_option maxRecDepth 100000 in
theorem wx_step_1 (l : Launch) (hl9 : l.stackTraces = false) (D : kG) (H : Heap) (x1 : Nat) (snp : Option Nat) (hi : Nat) (bu : Nat) (st : Nat) (la : Nat) (mc : Int) (ea : Nat) (F : Fts) (S : Ls) (gap : Int) (li : Int) (d : Int) (out : Nat) (hO_x1 : kO D H x1 0 [.ref st, va_rf (snp), .ref hi, .ref bu]) (hO_st : kO D H st 1 [.ref la, .int (kI (gap))]) (hO_la : kO D H la 9 [.int (kI (mc)), .ref ea, .int (kI ((S.length : Nat) : Int))]) (hP_kLs_ea : kLs D H ea S.length F) (hP_kLn_F : kLn D H F S) (hok : LsOK S gap) (hr_li : -2147483648 ≤ li ∧ li ≤ 2147483647) (hnl : li < 0 ∨ (S.length : Int) ≤ li) (hr_d : -2147483648 ≤ d ∧ d ≤ 2147483647) : Met l yX0_step (wsW_ yX0_step cX0_step 5 (some .int) [((0 : Nat), (17 : Nat), (20 : Nat), (13 : Nat)), ((0 : Nat), (17 : Nat), (24 : Nat), (15 : Nat)), ((0 : Nat), (17 : Nat), (28 : Nat), (17 : Nat))]) ({ frames := 10, cells := 1, slots := 6, locals := 206 } : Room) (kPre D H [.ref x1, .int (kI (li)), .int (kI (d)), .ref out]) (kQi (fun (r : Int) H' => (r = 1) ∧ (True)) (kNW H)) (1) (6) ((kNW H)) := by
  refine met_of_vx (vx_ofWH (cc := cX0_step) (maxL := 5) (ret := (some .int)) (hh := [((0 : Nat), (17 : Nat), (20 : Nat), (13 : Nat)), ((0 : Nat), (17 : Nat), (24 : Nat), (15 : Nat)), ((0 : Nat), (17 : Nat), (28 : Nat), (17 : Nat))]) (by decide) rfl ?_)
  intro p e s m args below meth c s₁ B hml hv
  obtain ⟨rfl, hH, hK⟩ := hv
  subst hH
  have hx := B.exec
  have hb := B.bytes
  have hr := B.returns
  have hts := atoms_spec (ws := wsW_ yX0_step cX0_step 5 (some .int) [((0 : Nat), (17 : Nat), (20 : Nat), (13 : Nat)), ((0 : Nat), (17 : Nat), (24 : Nat), (15 : Nat)), ((0 : Nat), (17 : Nat), (28 : Nat), (17 : Nat))]) B.pre
  have htab := vx_table (x := yX0_step) B (hts _ List.mem_cons_self)
  have hts : ∀ w ∈ lw_all, w.before _ s = true := fun w h => hts w (List.mem_cons_of_mem _ h)
  have hown : s.vm.findClass RX0 = some m.cls := findClass_of_methodNamed B.named
  have hlk := B.notSynchronized
  have hS : va_S (kNW s.heap) s.heap s.heap [] := va_S.rf
  have hB : ∀ q, (kNW s.heap) q → kBase D ≤ q := fun q h => Nat.le_trans hK.size h
  have hl := lv_entry ([.ref x1, .int (kI (li)), .int (kI (d)), .ref out]) (n := 5) (Nat.le_of_ble_eq_true rfl)
  rw [lg_entry_eq]
  generalize (lg_sl ([.ref x1, .int (kI (li)), .int (kI (d)), .ref out]) ++ List.replicate (5 - (lg_sl ([.ref x1, .int (kI (li)), .int (kI (d)), .ref out])).length) Slot.unset).toArray = ls at hl ⊢
  have hl : lv_has ls 5 [(0, .ref x1), (1, .int (kI (li))), (2, .int (kI (d))), (3, .ref out)] := hl
  refine lv_aload_n hx hb dX0_step_0 rfl (lv_at hl 3 rfl) ?_
  refine kx_iconst hx hb dX0_step_1 ?_
  refine lv_aload_n hx hb dX0_step_2 rfl (lv_at hl 0 rfl) ?_
  refine lv_iload_n hx hb dX0_step_3 rfl (lv_at hl 1 rfl) ?_
  refine lv_iload_n hx hb dX0_step_4 rfl (lv_at hl 2 rfl) ?_
  refine kx_catch (own := RX0) (nm := "java/lang/IndexOutOfBoundsException") (vx_runV (As := [.int (kI (li)), .int (kI (d))]) (rest := [.int (kI (0)), .ref out]) ⟨hx, hb, hml, hown, hts⟩ (x_step_1 l hl9 D s.heap x1 snp hi bu st la mc ea F S gap li d hO_x1 hO_st hO_la hP_kLs_ea hP_kLn_F (by first | assumption | omega) (by first | assumption | omega) (by first | assumption | omega) (by first | assumption | omega)) (cwV 2 hts (lw_V q1856 q1857 q1858 q79 q1859) rfl rfl rfl (by decide +kernel) ⟨Nat.le_of_ble_eq_true rfl, Nat.le_of_ble_eq_true rfl⟩) (kx_pv hK hS hB (kx_rc hK hO_x1 (C := RX1) (T := TX1) (N := 4) rfl)) rfl rfl hl.1 rfl (lv_room (Nat.le_of_ble_eq_true rfl)) dX0_step_5 ⟨by first | exact Nat.le_of_ble_eq_true rfl | omega | (show _ ≤ _; omega) | (dsimp only [headSpec]; omega), by first | exact Nat.le_of_ble_eq_true rfl | omega | (show _ ≤ _; omega) | (dsimp only [headSpec]; omega)⟩) hS (fun q _ h => by have h9 := hS.1; (try dsimp only at h); (try dsimp only); (try simp only [kNW] at h); (try simp only [kNW]); omega) (fun q h => by have h9 := hS.1; (try dsimp only at h); (try dsimp only); (try simp only [kNW] at h); (try simp only [kNW]); omega) hts hK hown [] ⟨0, 17, 20, 13⟩ [⟨0, 17, 24, 15⟩, ⟨0, 17, 28, 17⟩] (by rw [htab]; rfl) (fun z hz => by cases hz) (by decide) (by decide) q1808 q1825 (fun q9_1 H_2 locs_3 hF_4 hS_5 => ?_)
  have hF_4 := hF_4.nw
  refine W.widen (k := 1) (n := 6) (Nat.le_of_ble_eq_true rfl) (Nat.le_of_ble_eq_true rfl) ?_
  refine lv_astore (lv' := [(4, .ref q9_1), (0, .ref x1), (1, .int (kI (li))), (2, .int (kI (d))), (3, .ref out)]) hx hb dX0_step_20 hl (by decide) rfl (fun ls hl => ?_)
  refine kx_iconst hx hb dX0_step_22 ?_
  refine vx_ret ?_
  exact kx_iret (z := 1) hx hb hr hlk (⟨by rfl, by first | assumption | rfl | omega | grind⟩) hS_5 dX0_step_23

set_option maxHeartbeats 4000000 in
set_option maxRecDepth 100000 in
theorem wx_step_2 (l : Launch) (hl9 : l.stackTraces = false) (D : kG) (H : Heap) (x1 : Nat) (snp : Option Nat) (hi : Nat) (bu : Nat) (st : Nat) (la : Nat) (mc : Int) (ea : Nat) (F : Fts) (S : Ls) (gap : Int) (ln : Nat) (d : Int) (out : Nat) (hO_x1 : kO D H x1 0 [.ref st, va_rf (snp), .ref hi, .ref bu]) (hO_st : kO D H st 1 [.ref la, .int (kI (gap))]) (hO_la : kO D H la 9 [.int (kI (mc)), .ref ea, .int (kI ((S.length : Nat) : Int))]) (hP_kLs_ea : kLs D H ea S.length F) (hP_kLn_F : kLn D H F S) (hok : LsOK S gap) (hln : ln < S.length) (hr_d : -2147483648 ≤ d ∧ d ≤ 2147483647) (hd : d < 0 ∨ 7 < d) : Met l yX0_step (wsW_ yX0_step cX0_step 5 (some .int) [((0 : Nat), (17 : Nat), (20 : Nat), (13 : Nat)), ((0 : Nat), (17 : Nat), (24 : Nat), (15 : Nat)), ((0 : Nat), (17 : Nat), (28 : Nat), (17 : Nat))]) ({ frames := 9, cells := 1, slots := 6, locals := 186 } : Room) (kPre D H [.ref x1, .int (kI ((ln : Nat) : Int)), .int (kI (d)), .ref out]) (kQi (fun (r : Int) H' => (r = 2) ∧ (True)) (kNW H)) (1) (6) ((kNW H)) := by
  refine met_of_vx (vx_ofWH (cc := cX0_step) (maxL := 5) (ret := (some .int)) (hh := [((0 : Nat), (17 : Nat), (20 : Nat), (13 : Nat)), ((0 : Nat), (17 : Nat), (24 : Nat), (15 : Nat)), ((0 : Nat), (17 : Nat), (28 : Nat), (17 : Nat))]) (by decide) rfl ?_)
  intro p e s m args below meth c s₁ B hml hv
  obtain ⟨rfl, hH, hK⟩ := hv
  subst hH
  have hx := B.exec
  have hb := B.bytes
  have hr := B.returns
  have hts := atoms_spec (ws := wsW_ yX0_step cX0_step 5 (some .int) [((0 : Nat), (17 : Nat), (20 : Nat), (13 : Nat)), ((0 : Nat), (17 : Nat), (24 : Nat), (15 : Nat)), ((0 : Nat), (17 : Nat), (28 : Nat), (17 : Nat))]) B.pre
  have htab := vx_table (x := yX0_step) B (hts _ List.mem_cons_self)
  have hts : ∀ w ∈ lw_all, w.before _ s = true := fun w h => hts w (List.mem_cons_of_mem _ h)
  have hown : s.vm.findClass RX0 = some m.cls := findClass_of_methodNamed B.named
  have hlk := B.notSynchronized
  have hS : va_S (kNW s.heap) s.heap s.heap [] := va_S.rf
  have hB : ∀ q, (kNW s.heap) q → kBase D ≤ q := fun q h => Nat.le_trans hK.size h
  have hl := lv_entry ([.ref x1, .int (kI ((ln : Nat) : Int)), .int (kI (d)), .ref out]) (n := 5) (Nat.le_of_ble_eq_true rfl)
  rw [lg_entry_eq]
  generalize (lg_sl ([.ref x1, .int (kI ((ln : Nat) : Int)), .int (kI (d)), .ref out]) ++ List.replicate (5 - (lg_sl ([.ref x1, .int (kI ((ln : Nat) : Int)), .int (kI (d)), .ref out])).length) Slot.unset).toArray = ls at hl ⊢
  have hl : lv_has ls 5 [(0, .ref x1), (1, .int (kI ((ln : Nat) : Int))), (2, .int (kI (d))), (3, .ref out)] := hl
  refine lv_aload_n hx hb dX0_step_0 rfl (lv_at hl 3 rfl) ?_
  refine kx_iconst hx hb dX0_step_1 ?_
  refine lv_aload_n hx hb dX0_step_2 rfl (lv_at hl 0 rfl) ?_
  refine lv_iload_n hx hb dX0_step_3 rfl (lv_at hl 1 rfl) ?_
  refine lv_iload_n hx hb dX0_step_4 rfl (lv_at hl 2 rfl) ?_
  refine kx_catch (own := RX0) (nm := "java/lang/IllegalArgumentException") (vx_runV (As := [.int (kI ((ln : Nat) : Int)), .int (kI (d))]) (rest := [.int (kI (0)), .ref out]) ⟨hx, hb, hml, hown, hts⟩ (x_step_2 l hl9 D s.heap x1 snp hi bu st la mc ea F S gap ln d hO_x1 hO_st hO_la hP_kLs_ea hP_kLn_F (by first | assumption | omega) (by first | assumption | omega) (by first | assumption | omega) (by first | assumption | omega)) (cwV 2 hts (lw_V q1856 q1857 q1858 q79 q1859) rfl rfl rfl (by decide +kernel) ⟨Nat.le_of_ble_eq_true rfl, Nat.le_of_ble_eq_true rfl⟩) (kx_pv hK hS hB (kx_rc hK hO_x1 (C := RX1) (T := TX1) (N := 4) rfl)) rfl rfl hl.1 rfl (lv_room (Nat.le_of_ble_eq_true rfl)) dX0_step_5 ⟨by first | exact Nat.le_of_ble_eq_true rfl | omega | (show _ ≤ _; omega) | (dsimp only [headSpec]; omega), by first | exact Nat.le_of_ble_eq_true rfl | omega | (show _ ≤ _; omega) | (dsimp only [headSpec]; omega)⟩) hS (fun q _ h => by have h9 := hS.1; (try dsimp only at h); (try dsimp only); (try simp only [kNW] at h); (try simp only [kNW]); omega) (fun q h => by have h9 := hS.1; (try dsimp only at h); (try dsimp only); (try simp only [kNW] at h); (try simp only [kNW]); omega) hts hK hown [⟨0, 17, 20, 13⟩] ⟨0, 17, 24, 15⟩ [⟨0, 17, 28, 17⟩] (by rw [htab]; rfl) (fun z hz => by simp only [List.mem_cons, List.not_mem_nil, or_false] at hz; rcases hz with rfl; exact ⟨by decide, "java/lang/IndexOutOfBoundsException", q1808, by decide⟩) (by decide) (by decide) q1811 q1035 (fun q9_1 H_2 locs_3 hF_4 hS_5 => ?_)
  have hF_4 := hF_4.nw
  refine W.widen (k := 1) (n := 6) (Nat.le_of_ble_eq_true rfl) (Nat.le_of_ble_eq_true rfl) ?_
  refine lv_astore (lv' := [(4, .ref q9_1), (0, .ref x1), (1, .int (kI ((ln : Nat) : Int))), (2, .int (kI (d))), (3, .ref out)]) hx hb dX0_step_24 hl (by decide) rfl (fun ls hl => ?_)
  refine kx_iconst hx hb dX0_step_26 ?_
  refine vx_ret ?_
  exact kx_iret (z := 2) hx hb hr hlk (⟨by rfl, by first | assumption | rfl | omega | grind⟩) hS_5 dX0_step_27

set_option maxHeartbeats 4000000 in
set_option maxRecDepth 100000 in
theorem wx_step_3 (l : Launch) (hl9 : l.stackTraces = false) (D : kG) (H : Heap) (x1 : Nat) (snp : Option Nat) (hi : Nat) (bu : Nat) (st : Nat) (la : Nat) (mc : Int) (ea : Nat) (F : Fts) (S : Ls) (gap : Int) (ln : Nat) (d : Int) (out : Nat) (hO_x1 : kO D H x1 0 [.ref st, va_rf (snp), .ref hi, .ref bu]) (hO_st : kO D H st 1 [.ref la, .int (kI (gap))]) (hO_la : kO D H la 9 [.int (kI (mc)), .ref ea, .int (kI ((S.length : Nat) : Int))]) (hP_kLs_ea : kLs D H ea S.length F) (hP_kLn_F : kLn D H F S) (hok : LsOK S gap) (hln : ln < S.length) (hd : 0 ≤ d ∧ d ≤ 7) (hwn : st_whyNot S ln d ≠ 0) : Met l yX0_step (wsW_ yX0_step cX0_step 5 (some .int) [((0 : Nat), (17 : Nat), (20 : Nat), (13 : Nat)), ((0 : Nat), (17 : Nat), (24 : Nat), (15 : Nat)), ((0 : Nat), (17 : Nat), (28 : Nat), (17 : Nat))]) ({ frames := 10, cells := 7, slots := 20, locals := 3169 } : Room) (kPre D H [.ref x1, .int (kI ((ln : Nat) : Int)), .int (kI (d)), .ref out]) (kQi (fun (r : Int) H' => (r = 3) ∧ (True)) (kNW H)) (7) (20) ((kNW H)) := by
  refine met_of_vx (vx_ofWH (cc := cX0_step) (maxL := 5) (ret := (some .int)) (hh := [((0 : Nat), (17 : Nat), (20 : Nat), (13 : Nat)), ((0 : Nat), (17 : Nat), (24 : Nat), (15 : Nat)), ((0 : Nat), (17 : Nat), (28 : Nat), (17 : Nat))]) (by decide) rfl ?_)
  intro p e s m args below meth c s₁ B hml hv
  obtain ⟨rfl, hH, hK⟩ := hv
  subst hH
  have hx := B.exec
  have hb := B.bytes
  have hr := B.returns
  have hts := atoms_spec (ws := wsW_ yX0_step cX0_step 5 (some .int) [((0 : Nat), (17 : Nat), (20 : Nat), (13 : Nat)), ((0 : Nat), (17 : Nat), (24 : Nat), (15 : Nat)), ((0 : Nat), (17 : Nat), (28 : Nat), (17 : Nat))]) B.pre
  have htab := vx_table (x := yX0_step) B (hts _ List.mem_cons_self)
  have hts : ∀ w ∈ lw_all, w.before _ s = true := fun w h => hts w (List.mem_cons_of_mem _ h)
  have hown : s.vm.findClass RX0 = some m.cls := findClass_of_methodNamed B.named
  have hlk := B.notSynchronized
  have hS : va_S (kNW s.heap) s.heap s.heap [] := va_S.rf
  have hB : ∀ q, (kNW s.heap) q → kBase D ≤ q := fun q h => Nat.le_trans hK.size h
  have hl := lv_entry ([.ref x1, .int (kI ((ln : Nat) : Int)), .int (kI (d)), .ref out]) (n := 5) (Nat.le_of_ble_eq_true rfl)
  rw [lg_entry_eq]
  generalize (lg_sl ([.ref x1, .int (kI ((ln : Nat) : Int)), .int (kI (d)), .ref out]) ++ List.replicate (5 - (lg_sl ([.ref x1, .int (kI ((ln : Nat) : Int)), .int (kI (d)), .ref out])).length) Slot.unset).toArray = ls at hl ⊢
  have hl : lv_has ls 5 [(0, .ref x1), (1, .int (kI ((ln : Nat) : Int))), (2, .int (kI (d))), (3, .ref out)] := hl
  refine lv_aload_n hx hb dX0_step_0 rfl (lv_at hl 3 rfl) ?_
  refine kx_iconst hx hb dX0_step_1 ?_
  refine lv_aload_n hx hb dX0_step_2 rfl (lv_at hl 0 rfl) ?_
  refine lv_iload_n hx hb dX0_step_3 rfl (lv_at hl 1 rfl) ?_
  refine lv_iload_n hx hb dX0_step_4 rfl (lv_at hl 2 rfl) ?_
  refine kx_catch (own := RX0) (nm := "java/lang/IllegalStateException") (vx_runV (As := [.int (kI ((ln : Nat) : Int)), .int (kI (d))]) (rest := [.int (kI (0)), .ref out]) ⟨hx, hb, hml, hown, hts⟩ (x_step_3 l hl9 D s.heap x1 snp hi bu st la mc ea F S gap ln d hO_x1 hO_st hO_la hP_kLs_ea hP_kLn_F (by first | assumption | omega) (by first | assumption | omega) (by first | assumption | omega) (by first | assumption | omega)) (cwV 2 hts (lw_V q1856 q1857 q1858 q79 q1859) rfl rfl rfl (by decide +kernel) ⟨Nat.le_of_ble_eq_true rfl, Nat.le_of_ble_eq_true rfl⟩) (kx_pv hK hS hB (kx_rc hK hO_x1 (C := RX1) (T := TX1) (N := 4) rfl)) rfl rfl hl.1 rfl (lv_room (Nat.le_of_ble_eq_true rfl)) dX0_step_5 ⟨by first | exact Nat.le_of_ble_eq_true rfl | omega | (show _ ≤ _; omega) | (dsimp only [headSpec]; omega), by first | exact Nat.le_of_ble_eq_true rfl | omega | (show _ ≤ _; omega) | (dsimp only [headSpec]; omega)⟩) hS (fun q _ h => by have h9 := hS.1; (try dsimp only at h); (try dsimp only); (try simp only [kNW] at h); (try simp only [kNW]); omega) (fun q h => by have h9 := hS.1; (try dsimp only at h); (try dsimp only); (try simp only [kNW] at h); (try simp only [kNW]); omega) hts hK hown [⟨0, 17, 20, 13⟩, ⟨0, 17, 24, 15⟩] ⟨0, 17, 28, 17⟩ [] (by rw [htab]; rfl) (fun z hz => by simp only [List.mem_cons, List.not_mem_nil, or_false] at hz; rcases hz with rfl | rfl; exact ⟨by decide, "java/lang/IndexOutOfBoundsException", q1808, by decide⟩; exact ⟨by decide, "java/lang/IllegalArgumentException", q1811, by decide⟩) (by decide) (by decide) q1812 q455 (fun q9_1 H_2 locs_3 hF_4 hS_5 => ?_)
  have hF_4 := hF_4.nw
  refine W.widen (k := 7) (n := 20) (Nat.le_of_ble_eq_true rfl) (Nat.le_of_ble_eq_true rfl) ?_
  refine lv_astore (lv' := [(4, .ref q9_1), (0, .ref x1), (1, .int (kI ((ln : Nat) : Int))), (2, .int (kI (d))), (3, .ref out)]) hx hb dX0_step_28 hl (by decide) rfl (fun ls hl => ?_)
  refine kx_iconst hx hb dX0_step_30 ?_
  refine vx_ret ?_
  exact kx_iret (z := 3) hx hb hr hlk (⟨by rfl, by first | assumption | rfl | omega | grind⟩) hS_5 dX0_step_31

set_option maxHeartbeats 4000000 in
set_option maxRecDepth 100000 in
theorem wx_wipe (l : Launch) (hl9 : l.stackTraces = false) (D : kG) (H : Heap) (x1 : Nat) (snp : Option Nat) (hi : Nat) (bu : Nat) (st : Nat) (la : Nat) (mc : Int) (ea : Nat) (F : Fts) (S : Ls) (gap : Int) (li : Int) (out : Nat) (hO_x1 : kO D H x1 0 [.ref st, va_rf (snp), .ref hi, .ref bu]) (hO_st : kO D H st 1 [.ref la, .int (kI (gap))]) (hO_la : kO D H la 9 [.int (kI (mc)), .ref ea, .int (kI ((S.length : Nat) : Int))]) (hP_kLs_ea : kLs D H ea S.length F) (hP_kLn_F : kLn D H F S) (hok : LsOK S gap) (hr_li : -2147483648 ≤ li ∧ li ≤ 2147483647) (hnl : li < 0 ∨ (S.length : Int) ≤ li) : Met l yX0_wipe (wsW_ yX0_wipe cX0_wipe 4 (some .int) [((0 : Nat), (9 : Nat), (12 : Nat), (13 : Nat))]) ({ frames := 9, cells := 1, slots := 6, locals := 183 } : Room) (kPre D H [.ref x1, .int (kI (li)), .ref out]) (kQi (fun (r : Int) H' => (r = 1) ∧ (True)) (kNW H)) (1) (6) ((kNW H)) := by
  refine met_of_vx (vx_ofWH (cc := cX0_wipe) (maxL := 4) (ret := (some .int)) (hh := [((0 : Nat), (9 : Nat), (12 : Nat), (13 : Nat))]) (by decide) rfl ?_)
  intro p e s m args below meth c s₁ B hml hv
  obtain ⟨rfl, hH, hK⟩ := hv
  subst hH
  have hx := B.exec
  have hb := B.bytes
  have hr := B.returns
  have hts := atoms_spec (ws := wsW_ yX0_wipe cX0_wipe 4 (some .int) [((0 : Nat), (9 : Nat), (12 : Nat), (13 : Nat))]) B.pre
  have htab := vx_table (x := yX0_wipe) B (hts _ List.mem_cons_self)
  have hts : ∀ w ∈ lw_all, w.before _ s = true := fun w h => hts w (List.mem_cons_of_mem _ h)
  have hown : s.vm.findClass RX0 = some m.cls := findClass_of_methodNamed B.named
  have hlk := B.notSynchronized
  have hS : va_S (kNW s.heap) s.heap s.heap [] := va_S.rf
  have hB : ∀ q, (kNW s.heap) q → kBase D ≤ q := fun q h => Nat.le_trans hK.size h
  have hl := lv_entry ([.ref x1, .int (kI (li)), .ref out]) (n := 4) (Nat.le_of_ble_eq_true rfl)
  rw [lg_entry_eq]
  generalize (lg_sl ([.ref x1, .int (kI (li)), .ref out]) ++ List.replicate (4 - (lg_sl ([.ref x1, .int (kI (li)), .ref out])).length) Slot.unset).toArray = ls at hl ⊢
  have hl : lv_has ls 4 [(0, .ref x1), (1, .int (kI (li))), (2, .ref out)] := hl
  refine lv_aload_n hx hb dX0_wipe_0 rfl (lv_at hl 2 rfl) ?_
  refine kx_iconst hx hb dX0_wipe_1 ?_
  refine lv_aload_n hx hb dX0_wipe_2 rfl (lv_at hl 0 rfl) ?_
  refine lv_iload_n hx hb dX0_wipe_3 rfl (lv_at hl 1 rfl) ?_
  refine kx_catch (own := RX0) (nm := "java/lang/IndexOutOfBoundsException") (vx_runV (As := [.int (kI (li))]) (rest := [.int (kI (0)), .ref out]) ⟨hx, hb, hml, hown, hts⟩ (x_wipe l hl9 D s.heap x1 snp hi bu st la mc ea F S gap li hO_x1 hO_st hO_la hP_kLs_ea hP_kLn_F (by first | assumption | omega) (by first | assumption | omega) (by first | assumption | omega)) (cwV 1 hts (lw_V q1877 q1878 q1879 q79 q1880) rfl rfl rfl (by decide +kernel) ⟨Nat.le_of_ble_eq_true rfl, Nat.le_of_ble_eq_true rfl⟩) (kx_pv hK hS hB (kx_rc hK hO_x1 (C := RX1) (T := TX1) (N := 4) rfl)) rfl rfl hl.1 rfl (lv_room (Nat.le_of_ble_eq_true rfl)) dX0_wipe_4 ⟨by first | exact Nat.le_of_ble_eq_true rfl | omega | (show _ ≤ _; omega) | (dsimp only [headSpec]; omega), by first | exact Nat.le_of_ble_eq_true rfl | omega | (show _ ≤ _; omega) | (dsimp only [headSpec]; omega)⟩) hS (fun q _ h => by have h9 := hS.1; (try dsimp only at h); (try dsimp only); (try simp only [kNW] at h); (try simp only [kNW]); omega) (fun q h => by have h9 := hS.1; (try dsimp only at h); (try dsimp only); (try simp only [kNW] at h); (try simp only [kNW]); omega) hts hK hown [] ⟨0, 9, 12, 13⟩ [] (by rw [htab]; rfl) (fun z hz => by cases hz) (by decide) (by decide) q1808 q1825 (fun q9_1 H_2 locs_3 hF_4 hS_5 => ?_)
  have hF_4 := hF_4.nw
  refine W.widen (k := 1) (n := 6) (Nat.le_of_ble_eq_true rfl) (Nat.le_of_ble_eq_true rfl) ?_
  refine lv_astore_n (lv' := [(3, .ref q9_1), (0, .ref x1), (1, .int (kI (li))), (2, .ref out)]) hx hb dX0_wipe_12 rfl hl (by decide) rfl (fun ls hl => ?_)
  refine kx_iconst hx hb dX0_wipe_13 ?_
  refine vx_ret ?_
  exact kx_iret (z := 1) hx hb hr hlk (⟨by rfl, by first | assumption | rfl | omega | grind⟩) hS_5 dX0_wipe_14

set_option maxHeartbeats 4000000 in
set_option maxRecDepth 100000 in
theorem wx_setLevel (l : Launch) (hl9 : l.stackTraces = false) (D : kG) (H : Heap) (x1 : Nat) (snp : Option Nat) (hi : Nat) (bu : Nat) (st : Nat) (la : Nat) (mc : Int) (ea : Nat) (F : Fts) (S : Ls) (gap : Int) (li : Int) (lv : Int) (out : Nat) (hO_x1 : kO D H x1 0 [.ref st, va_rf (snp), .ref hi, .ref bu]) (hO_st : kO D H st 1 [.ref la, .int (kI (gap))]) (hO_la : kO D H la 9 [.int (kI (mc)), .ref ea, .int (kI ((S.length : Nat) : Int))]) (hP_kLs_ea : kLs D H ea S.length F) (hP_kLn_F : kLn D H F S) (hok : LsOK S gap) (hr_li : -2147483648 ≤ li ∧ li ≤ 2147483647) (hnl : li < 0 ∨ (S.length : Int) ≤ li) : Met l yX0_setLevel (wsW_ yX0_setLevel cX0_setLevel 5 (some .int) [((0 : Nat), (10 : Nat), (13 : Nat), (13 : Nat)), ((0 : Nat), (10 : Nat), (17 : Nat), (15 : Nat))]) ({ frames := 9, cells := 1, slots := 6, locals := 185 } : Room) (kPre D H [.ref x1, .int (kI (li)), .int (kI (lv)), .ref out]) (kQi (fun (r : Int) H' => (r = 1) ∧ (True)) (kNW H)) (1) (6) ((kNW H)) := by
  refine met_of_vx (vx_ofWH (cc := cX0_setLevel) (maxL := 5) (ret := (some .int)) (hh := [((0 : Nat), (10 : Nat), (13 : Nat), (13 : Nat)), ((0 : Nat), (10 : Nat), (17 : Nat), (15 : Nat))]) (by decide) rfl ?_)
  intro p e s m args below meth c s₁ B hml hv
  obtain ⟨rfl, hH, hK⟩ := hv
  subst hH
  have hx := B.exec
  have hb := B.bytes
  have hr := B.returns
  have hts := atoms_spec (ws := wsW_ yX0_setLevel cX0_setLevel 5 (some .int) [((0 : Nat), (10 : Nat), (13 : Nat), (13 : Nat)), ((0 : Nat), (10 : Nat), (17 : Nat), (15 : Nat))]) B.pre
  have htab := vx_table (x := yX0_setLevel) B (hts _ List.mem_cons_self)
  have hts : ∀ w ∈ lw_all, w.before _ s = true := fun w h => hts w (List.mem_cons_of_mem _ h)
  have hown : s.vm.findClass RX0 = some m.cls := findClass_of_methodNamed B.named
  have hlk := B.notSynchronized
  have hS : va_S (kNW s.heap) s.heap s.heap [] := va_S.rf
  have hB : ∀ q, (kNW s.heap) q → kBase D ≤ q := fun q h => Nat.le_trans hK.size h
  have hl := lv_entry ([.ref x1, .int (kI (li)), .int (kI (lv)), .ref out]) (n := 5) (Nat.le_of_ble_eq_true rfl)
  rw [lg_entry_eq]
  generalize (lg_sl ([.ref x1, .int (kI (li)), .int (kI (lv)), .ref out]) ++ List.replicate (5 - (lg_sl ([.ref x1, .int (kI (li)), .int (kI (lv)), .ref out])).length) Slot.unset).toArray = ls at hl ⊢
  have hl : lv_has ls 5 [(0, .ref x1), (1, .int (kI (li))), (2, .int (kI (lv))), (3, .ref out)] := hl
  refine lv_aload_n hx hb dX0_setLevel_0 rfl (lv_at hl 3 rfl) ?_
  refine kx_iconst hx hb dX0_setLevel_1 ?_
  refine lv_aload_n hx hb dX0_setLevel_2 rfl (lv_at hl 0 rfl) ?_
  refine lv_iload_n hx hb dX0_setLevel_3 rfl (lv_at hl 1 rfl) ?_
  refine lv_iload_n hx hb dX0_setLevel_4 rfl (lv_at hl 2 rfl) ?_
  refine kx_catch (own := RX0) (nm := "java/lang/IndexOutOfBoundsException") (vx_runV (As := [.int (kI (li)), .int (kI (lv))]) (rest := [.int (kI (0)), .ref out]) ⟨hx, hb, hml, hown, hts⟩ (x_setLevel l hl9 D s.heap x1 snp hi bu st la mc ea F S gap li lv hO_x1 hO_st hO_la hP_kLs_ea hP_kLn_F (by first | assumption | omega) (by first | assumption | omega) (by first | assumption | omega)) (cwV 2 hts (lw_V q1885 q1886 q1887 q79 q1888) rfl rfl rfl (by decide +kernel) ⟨Nat.le_of_ble_eq_true rfl, Nat.le_of_ble_eq_true rfl⟩) (kx_pv hK hS hB (kx_rc hK hO_x1 (C := RX1) (T := TX1) (N := 4) rfl)) rfl rfl hl.1 rfl (lv_room (Nat.le_of_ble_eq_true rfl)) dX0_setLevel_5 ⟨by first | exact Nat.le_of_ble_eq_true rfl | omega | (show _ ≤ _; omega) | (dsimp only [headSpec]; omega), by first | exact Nat.le_of_ble_eq_true rfl | omega | (show _ ≤ _; omega) | (dsimp only [headSpec]; omega)⟩) hS (fun q _ h => by have h9 := hS.1; (try dsimp only at h); (try dsimp only); (try simp only [kNW] at h); (try simp only [kNW]); omega) (fun q h => by have h9 := hS.1; (try dsimp only at h); (try dsimp only); (try simp only [kNW] at h); (try simp only [kNW]); omega) hts hK hown [] ⟨0, 10, 13, 13⟩ [⟨0, 10, 17, 15⟩] (by rw [htab]; rfl) (fun z hz => by cases hz) (by decide) (by decide) q1808 q1825 (fun q9_1 H_2 locs_3 hF_4 hS_5 => ?_)
  have hF_4 := hF_4.nw
  refine W.widen (k := 1) (n := 6) (Nat.le_of_ble_eq_true rfl) (Nat.le_of_ble_eq_true rfl) ?_
  refine lv_astore (lv' := [(4, .ref q9_1), (0, .ref x1), (1, .int (kI (li))), (2, .int (kI (lv))), (3, .ref out)]) hx hb dX0_setLevel_13 hl (by decide) rfl (fun ls hl => ?_)
  refine kx_iconst hx hb dX0_setLevel_15 ?_
  refine vx_ret ?_
  exact kx_iret (z := 1) hx hb hr hlk (⟨by rfl, by first | assumption | rfl | omega | grind⟩) hS_5 dX0_setLevel_16

set_option maxHeartbeats 4000000 in
set_option maxRecDepth 100000 in
theorem wx_setLevel_2 (l : Launch) (hl9 : l.stackTraces = false) (D : kG) (H : Heap) (x1 : Nat) (snp : Option Nat) (hi : Nat) (bu : Nat) (st : Nat) (la : Nat) (mc : Int) (ea : Nat) (F : Fts) (S : Ls) (gap : Int) (ln : Nat) (lv : Int) (out : Nat) (hO_x1 : kO D H x1 0 [.ref st, va_rf (snp), .ref hi, .ref bu]) (hO_st : kO D H st 1 [.ref la, .int (kI (gap))]) (hO_la : kO D H la 9 [.int (kI (mc)), .ref ea, .int (kI ((S.length : Nat) : Int))]) (hP_kLs_ea : kLs D H ea S.length F) (hP_kLn_F : kLn D H F S) (hok : LsOK S gap) (hln : ln < S.length) (hr_lv : -2147483648 ≤ lv ∧ lv ≤ 2147483647) (hlv : lv < 0 ∨ 99 < lv) : Met l yX0_setLevel (wsW_ yX0_setLevel cX0_setLevel 5 (some .int) [((0 : Nat), (10 : Nat), (13 : Nat), (13 : Nat)), ((0 : Nat), (10 : Nat), (17 : Nat), (15 : Nat))]) ({ frames := 8, cells := 1, slots := 6, locals := 165 } : Room) (kPre D H [.ref x1, .int (kI ((ln : Nat) : Int)), .int (kI (lv)), .ref out]) (kQi (fun (r : Int) H' => (r = 2) ∧ (True)) (kNW H)) (1) (6) ((kNW H)) := by
  refine met_of_vx (vx_ofWH (cc := cX0_setLevel) (maxL := 5) (ret := (some .int)) (hh := [((0 : Nat), (10 : Nat), (13 : Nat), (13 : Nat)), ((0 : Nat), (10 : Nat), (17 : Nat), (15 : Nat))]) (by decide) rfl ?_)
  intro p e s m args below meth c s₁ B hml hv
  obtain ⟨rfl, hH, hK⟩ := hv
  subst hH
  have hx := B.exec
  have hb := B.bytes
  have hr := B.returns
  have hts := atoms_spec (ws := wsW_ yX0_setLevel cX0_setLevel 5 (some .int) [((0 : Nat), (10 : Nat), (13 : Nat), (13 : Nat)), ((0 : Nat), (10 : Nat), (17 : Nat), (15 : Nat))]) B.pre
  have htab := vx_table (x := yX0_setLevel) B (hts _ List.mem_cons_self)
  have hts : ∀ w ∈ lw_all, w.before _ s = true := fun w h => hts w (List.mem_cons_of_mem _ h)
  have hown : s.vm.findClass RX0 = some m.cls := findClass_of_methodNamed B.named
  have hlk := B.notSynchronized
  have hS : va_S (kNW s.heap) s.heap s.heap [] := va_S.rf
  have hB : ∀ q, (kNW s.heap) q → kBase D ≤ q := fun q h => Nat.le_trans hK.size h
  have hl := lv_entry ([.ref x1, .int (kI ((ln : Nat) : Int)), .int (kI (lv)), .ref out]) (n := 5) (Nat.le_of_ble_eq_true rfl)
  rw [lg_entry_eq]
  generalize (lg_sl ([.ref x1, .int (kI ((ln : Nat) : Int)), .int (kI (lv)), .ref out]) ++ List.replicate (5 - (lg_sl ([.ref x1, .int (kI ((ln : Nat) : Int)), .int (kI (lv)), .ref out])).length) Slot.unset).toArray = ls at hl ⊢
  have hl : lv_has ls 5 [(0, .ref x1), (1, .int (kI ((ln : Nat) : Int))), (2, .int (kI (lv))), (3, .ref out)] := hl
  refine lv_aload_n hx hb dX0_setLevel_0 rfl (lv_at hl 3 rfl) ?_
  refine kx_iconst hx hb dX0_setLevel_1 ?_
  refine lv_aload_n hx hb dX0_setLevel_2 rfl (lv_at hl 0 rfl) ?_
  refine lv_iload_n hx hb dX0_setLevel_3 rfl (lv_at hl 1 rfl) ?_
  refine lv_iload_n hx hb dX0_setLevel_4 rfl (lv_at hl 2 rfl) ?_
  refine kx_catch (own := RX0) (nm := "java/lang/IllegalArgumentException") (vx_runV (As := [.int (kI ((ln : Nat) : Int)), .int (kI (lv))]) (rest := [.int (kI (0)), .ref out]) ⟨hx, hb, hml, hown, hts⟩ (x_setLevel_2 l hl9 D s.heap x1 snp hi bu st la mc ea F S gap ln lv hO_x1 hO_st hO_la hP_kLs_ea hP_kLn_F (by first | assumption | omega) (by first | assumption | omega) (by first | assumption | omega) (by first | assumption | omega)) (cwV 2 hts (lw_V q1885 q1886 q1887 q79 q1888) rfl rfl rfl (by decide +kernel) ⟨Nat.le_of_ble_eq_true rfl, Nat.le_of_ble_eq_true rfl⟩) (kx_pv hK hS hB (kx_rc hK hO_x1 (C := RX1) (T := TX1) (N := 4) rfl)) rfl rfl hl.1 rfl (lv_room (Nat.le_of_ble_eq_true rfl)) dX0_setLevel_5 ⟨by first | exact Nat.le_of_ble_eq_true rfl | omega | (show _ ≤ _; omega) | (dsimp only [headSpec]; omega), by first | exact Nat.le_of_ble_eq_true rfl | omega | (show _ ≤ _; omega) | (dsimp only [headSpec]; omega)⟩) hS (fun q _ h => by have h9 := hS.1; (try dsimp only at h); (try dsimp only); (try simp only [kNW] at h); (try simp only [kNW]); omega) (fun q h => by have h9 := hS.1; (try dsimp only at h); (try dsimp only); (try simp only [kNW] at h); (try simp only [kNW]); omega) hts hK hown [⟨0, 10, 13, 13⟩] ⟨0, 10, 17, 15⟩ [] (by rw [htab]; rfl) (fun z hz => by simp only [List.mem_cons, List.not_mem_nil, or_false] at hz; rcases hz with rfl; exact ⟨by decide, "java/lang/IndexOutOfBoundsException", q1808, by decide⟩) (by decide) (by decide) q1811 q1035 (fun q9_1 H_2 locs_3 hF_4 hS_5 => ?_)
  have hF_4 := hF_4.nw
  refine W.widen (k := 1) (n := 6) (Nat.le_of_ble_eq_true rfl) (Nat.le_of_ble_eq_true rfl) ?_
  refine lv_astore (lv' := [(4, .ref q9_1), (0, .ref x1), (1, .int (kI ((ln : Nat) : Int))), (2, .int (kI (lv))), (3, .ref out)]) hx hb dX0_setLevel_17 hl (by decide) rfl (fun ls hl => ?_)
  refine kx_iconst hx hb dX0_setLevel_19 ?_
  refine vx_ret ?_
  exact kx_iret (z := 2) hx hb hr hlk (⟨by rfl, by first | assumption | rfl | omega | grind⟩) hS_5 dX0_setLevel_20

set_option maxHeartbeats 4000000 in
set_option maxRecDepth 100000 in
theorem wx_label_1l (l : Launch) (hl9 : l.stackTraces = false) (D : kG) (H : Heap) (x1 : Nat) (snp : Option Nat) (hi : Nat) (bu : Nat) (st : Nat) (la : Nat) (mc : Int) (ea : Nat) (F : Fts) (S : Ls) (gap : Int) (li : Int) (nu : Int) (out : Nat) (hO_x1 : kO D H x1 0 [.ref st, va_rf (snp), .ref hi, .ref bu]) (hO_st : kO D H st 1 [.ref la, .int (kI (gap))]) (hO_la : kO D H la 9 [.int (kI (mc)), .ref ea, .int (kI ((S.length : Nat) : Int))]) (hP_kLs_ea : kLs D H ea S.length F) (hP_kLn_F : kLn D H F S) (hok : LsOK S gap) (hr_li : -2147483648 ≤ li ∧ li ≤ 2147483647) (hnl : li < 0 ∨ (S.length : Int) ≤ li) (hr_nu : -2147483648 ≤ nu ∧ nu ≤ 2147483647) : Met l yX0_label (wsW_ yX0_label cX0_label 5 (some .int) [((0 : Nat), (10 : Nat), (13 : Nat), (13 : Nat)), ((0 : Nat), (10 : Nat), (17 : Nat), (17 : Nat))]) ({ frames := 11, cells := 1, slots := 6, locals := 229 } : Room) (kPre D H [.ref x1, .int (kI (li)), .int (kI (nu)), .ref out]) (kQi (fun (r : Int) H' => (r = 1) ∧ (True)) (kNW H)) (1) (6) ((kNW H)) := by
  refine met_of_vx (vx_ofWH (cc := cX0_label) (maxL := 5) (ret := (some .int)) (hh := [((0 : Nat), (10 : Nat), (13 : Nat), (13 : Nat)), ((0 : Nat), (10 : Nat), (17 : Nat), (17 : Nat))]) (by decide) rfl ?_)
  intro p e s m args below meth c s₁ B hml hv
  obtain ⟨rfl, hH, hK⟩ := hv
  subst hH
  have hx := B.exec
  have hb := B.bytes
  have hr := B.returns
  have hts := atoms_spec (ws := wsW_ yX0_label cX0_label 5 (some .int) [((0 : Nat), (10 : Nat), (13 : Nat), (13 : Nat)), ((0 : Nat), (10 : Nat), (17 : Nat), (17 : Nat))]) B.pre
  have htab := vx_table (x := yX0_label) B (hts _ List.mem_cons_self)
  have hts : ∀ w ∈ lw_all, w.before _ s = true := fun w h => hts w (List.mem_cons_of_mem _ h)
  have hown : s.vm.findClass RX0 = some m.cls := findClass_of_methodNamed B.named
  have hlk := B.notSynchronized
  have hS : va_S (kNW s.heap) s.heap s.heap [] := va_S.rf
  have hB : ∀ q, (kNW s.heap) q → kBase D ≤ q := fun q h => Nat.le_trans hK.size h
  have hl := lv_entry ([.ref x1, .int (kI (li)), .int (kI (nu)), .ref out]) (n := 5) (Nat.le_of_ble_eq_true rfl)
  rw [lg_entry_eq]
  generalize (lg_sl ([.ref x1, .int (kI (li)), .int (kI (nu)), .ref out]) ++ List.replicate (5 - (lg_sl ([.ref x1, .int (kI (li)), .int (kI (nu)), .ref out])).length) Slot.unset).toArray = ls at hl ⊢
  have hl : lv_has ls 5 [(0, .ref x1), (1, .int (kI (li))), (2, .int (kI (nu))), (3, .ref out)] := hl
  refine lv_aload_n hx hb dX0_label_0 rfl (lv_at hl 3 rfl) ?_
  refine kx_iconst hx hb dX0_label_1 ?_
  refine lv_aload_n hx hb dX0_label_2 rfl (lv_at hl 0 rfl) ?_
  refine lv_iload_n hx hb dX0_label_3 rfl (lv_at hl 1 rfl) ?_
  refine lv_iload_n hx hb dX0_label_4 rfl (lv_at hl 2 rfl) ?_
  refine kx_catch (own := RX0) (nm := "java/lang/IndexOutOfBoundsException") (vx_runV (As := [.int (kI (li)), .int (kI (nu))]) (rest := [.int (kI (0)), .ref out]) ⟨hx, hb, hml, hown, hts⟩ (x_label_1l l hl9 D s.heap x1 snp hi bu st la mc ea F S gap li nu hO_x1 hO_st hO_la hP_kLs_ea hP_kLn_F (by first | assumption | omega) (by first | assumption | omega) (by first | assumption | omega) (by first | assumption | omega)) (cwV 2 hts (lw_V q1892 q1893 q1894 q79 q1895) rfl rfl rfl (by decide +kernel) ⟨Nat.le_of_ble_eq_true rfl, Nat.le_of_ble_eq_true rfl⟩) (kx_pv hK hS hB (kx_rc hK hO_x1 (C := RX1) (T := TX1) (N := 4) rfl)) rfl rfl hl.1 rfl (lv_room (Nat.le_of_ble_eq_true rfl)) dX0_label_5 ⟨by first | exact Nat.le_of_ble_eq_true rfl | omega | (show _ ≤ _; omega) | (dsimp only [headSpec]; omega), by first | exact Nat.le_of_ble_eq_true rfl | omega | (show _ ≤ _; omega) | (dsimp only [headSpec]; omega)⟩) hS (fun q _ h => by have h9 := hS.1; (try dsimp only at h); (try dsimp only); (try simp only [kNW] at h); (try simp only [kNW]); omega) (fun q h => by have h9 := hS.1; (try dsimp only at h); (try dsimp only); (try simp only [kNW] at h); (try simp only [kNW]); omega) hts hK hown [] ⟨0, 10, 13, 13⟩ [⟨0, 10, 17, 17⟩] (by rw [htab]; rfl) (fun z hz => by cases hz) (by decide) (by decide) q1808 q1825 (fun q9_1 H_2 locs_3 hF_4 hS_5 => ?_)
  have hF_4 := hF_4.nw
  refine W.widen (k := 1) (n := 6) (Nat.le_of_ble_eq_true rfl) (Nat.le_of_ble_eq_true rfl) ?_
  refine lv_astore (lv' := [(4, .ref q9_1), (0, .ref x1), (1, .int (kI (li))), (2, .int (kI (nu))), (3, .ref out)]) hx hb dX0_label_13 hl (by decide) rfl (fun ls hl => ?_)
  refine kx_iconst hx hb dX0_label_15 ?_
  refine vx_ret ?_
  exact kx_iret (z := 1) hx hb hr hlk (⟨by rfl, by first | assumption | rfl | omega | grind⟩) hS_5 dX0_label_16

set_option maxHeartbeats 4000000 in
set_option maxRecDepth 100000 in
theorem wx_label_1n (l : Launch) (hl9 : l.stackTraces = false) (D : kG) (H : Heap) (x1 : Nat) (snp : Option Nat) (hi : Nat) (bu : Nat) (st : Nat) (la : Nat) (mc : Int) (ea : Nat) (F : Fts) (S : Ls) (gap : Int) (ln : Nat) (nu : Int) (out : Nat) (hO_x1 : kO D H x1 0 [.ref st, va_rf (snp), .ref hi, .ref bu]) (hO_st : kO D H st 1 [.ref la, .int (kI (gap))]) (hO_la : kO D H la 9 [.int (kI (mc)), .ref ea, .int (kI ((S.length : Nat) : Int))]) (hP_kLs_ea : kLs D H ea S.length F) (hP_kLn_F : kLn D H F S) (hok : LsOK S gap) (hln : ln < S.length) (hr_nu : -2147483648 ≤ nu ∧ nu ≤ 2147483647) (hnn : nu < 0 ∨ (ln_n (st_ln S ln) : Int) < nu) : Met l yX0_label (wsW_ yX0_label cX0_label 5 (some .int) [((0 : Nat), (10 : Nat), (13 : Nat), (13 : Nat)), ((0 : Nat), (10 : Nat), (17 : Nat), (17 : Nat))]) ({ frames := 10, cells := 1, slots := 6, locals := 208 } : Room) (kPre D H [.ref x1, .int (kI ((ln : Nat) : Int)), .int (kI (nu)), .ref out]) (kQi (fun (r : Int) H' => (r = 1) ∧ (True)) (kNW H)) (1) (6) ((kNW H)) := by
  refine met_of_vx (vx_ofWH (cc := cX0_label) (maxL := 5) (ret := (some .int)) (hh := [((0 : Nat), (10 : Nat), (13 : Nat), (13 : Nat)), ((0 : Nat), (10 : Nat), (17 : Nat), (17 : Nat))]) (by decide) rfl ?_)
  intro p e s m args below meth c s₁ B hml hv
  obtain ⟨rfl, hH, hK⟩ := hv
  subst hH
  have hx := B.exec
  have hb := B.bytes
  have hr := B.returns
  have hts := atoms_spec (ws := wsW_ yX0_label cX0_label 5 (some .int) [((0 : Nat), (10 : Nat), (13 : Nat), (13 : Nat)), ((0 : Nat), (10 : Nat), (17 : Nat), (17 : Nat))]) B.pre
  have htab := vx_table (x := yX0_label) B (hts _ List.mem_cons_self)
  have hts : ∀ w ∈ lw_all, w.before _ s = true := fun w h => hts w (List.mem_cons_of_mem _ h)
  have hown : s.vm.findClass RX0 = some m.cls := findClass_of_methodNamed B.named
  have hlk := B.notSynchronized
  have hS : va_S (kNW s.heap) s.heap s.heap [] := va_S.rf
  have hB : ∀ q, (kNW s.heap) q → kBase D ≤ q := fun q h => Nat.le_trans hK.size h
  have hl := lv_entry ([.ref x1, .int (kI ((ln : Nat) : Int)), .int (kI (nu)), .ref out]) (n := 5) (Nat.le_of_ble_eq_true rfl)
  rw [lg_entry_eq]
  generalize (lg_sl ([.ref x1, .int (kI ((ln : Nat) : Int)), .int (kI (nu)), .ref out]) ++ List.replicate (5 - (lg_sl ([.ref x1, .int (kI ((ln : Nat) : Int)), .int (kI (nu)), .ref out])).length) Slot.unset).toArray = ls at hl ⊢
  have hl : lv_has ls 5 [(0, .ref x1), (1, .int (kI ((ln : Nat) : Int))), (2, .int (kI (nu))), (3, .ref out)] := hl
  refine lv_aload_n hx hb dX0_label_0 rfl (lv_at hl 3 rfl) ?_
  refine kx_iconst hx hb dX0_label_1 ?_
  refine lv_aload_n hx hb dX0_label_2 rfl (lv_at hl 0 rfl) ?_
  refine lv_iload_n hx hb dX0_label_3 rfl (lv_at hl 1 rfl) ?_
  refine lv_iload_n hx hb dX0_label_4 rfl (lv_at hl 2 rfl) ?_
  refine kx_catch (own := RX0) (nm := "java/lang/IndexOutOfBoundsException") (vx_runV (As := [.int (kI ((ln : Nat) : Int)), .int (kI (nu))]) (rest := [.int (kI (0)), .ref out]) ⟨hx, hb, hml, hown, hts⟩ (x_label_1n l hl9 D s.heap x1 snp hi bu st la mc ea F S gap ln nu hO_x1 hO_st hO_la hP_kLs_ea hP_kLn_F (by first | assumption | omega) (by first | assumption | omega) (by first | assumption | omega) (by first | assumption | omega)) (cwV 2 hts (lw_V q1892 q1893 q1894 q79 q1895) rfl rfl rfl (by decide +kernel) ⟨Nat.le_of_ble_eq_true rfl, Nat.le_of_ble_eq_true rfl⟩) (kx_pv hK hS hB (kx_rc hK hO_x1 (C := RX1) (T := TX1) (N := 4) rfl)) rfl rfl hl.1 rfl (lv_room (Nat.le_of_ble_eq_true rfl)) dX0_label_5 ⟨by first | exact Nat.le_of_ble_eq_true rfl | omega | (show _ ≤ _; omega) | (dsimp only [headSpec]; omega), by first | exact Nat.le_of_ble_eq_true rfl | omega | (show _ ≤ _; omega) | (dsimp only [headSpec]; omega)⟩) hS (fun q _ h => by have h9 := hS.1; (try dsimp only at h); (try dsimp only); (try simp only [kNW] at h); (try simp only [kNW]); omega) (fun q h => by have h9 := hS.1; (try dsimp only at h); (try dsimp only); (try simp only [kNW] at h); (try simp only [kNW]); omega) hts hK hown [] ⟨0, 10, 13, 13⟩ [⟨0, 10, 17, 17⟩] (by rw [htab]; rfl) (fun z hz => by cases hz) (by decide) (by decide) q1808 q1825 (fun q9_1 H_2 locs_3 hF_4 hS_5 => ?_)
  have hF_4 := hF_4.nw
  refine W.widen (k := 1) (n := 6) (Nat.le_of_ble_eq_true rfl) (Nat.le_of_ble_eq_true rfl) ?_
  refine lv_astore (lv' := [(4, .ref q9_1), (0, .ref x1), (1, .int (kI ((ln : Nat) : Int))), (2, .int (kI (nu))), (3, .ref out)]) hx hb dX0_label_13 hl (by decide) rfl (fun ls hl => ?_)
  refine kx_iconst hx hb dX0_label_15 ?_
  refine vx_ret ?_
  exact kx_iret (z := 1) hx hb hr hlk (⟨by rfl, by first | assumption | rfl | omega | grind⟩) hS_5 dX0_label_16

set_option maxHeartbeats 4000000 in
set_option maxRecDepth 100000 in
theorem wx_label_2 (l : Launch) (hl9 : l.stackTraces = false) (D : kG) (H : Heap) (x1 : Nat) (snp : Option Nat) (hi : Nat) (bu : Nat) (st : Nat) (la : Nat) (mc : Int) (ea : Nat) (F : Fts) (S : Ls) (gap : Int) (ln : Nat) (pl : Nat) (out : Nat) (hO_x1 : kO D H x1 0 [.ref st, va_rf (snp), .ref hi, .ref bu]) (hO_st : kO D H st 1 [.ref la, .int (kI (gap))]) (hO_la : kO D H la 9 [.int (kI (mc)), .ref ea, .int (kI ((S.length : Nat) : Int))]) (hP_kLs_ea : kLs D H ea S.length F) (hP_kLn_F : kLn D H F S) (hok : LsOK S gap) (hln : ln < S.length) (hpl : pl ≤ ln_n (st_ln S ln)) (hwl : st_whyL S gap ln pl ≠ 0) : Met l yX0_label (wsW_ yX0_label cX0_label 5 (some .int) [((0 : Nat), (10 : Nat), (13 : Nat), (13 : Nat)), ((0 : Nat), (10 : Nat), (17 : Nat), (17 : Nat))]) ({ frames := 10, cells := 6, slots := 19, locals := 3168 } : Room) (kPre D H [.ref x1, .int (kI ((ln : Nat) : Int)), .int (kI ((pl : Nat) : Int)), .ref out]) (kQi (fun (r : Int) H' => (r = 2) ∧ (True)) (kNW H)) (6) (19) ((kNW H)) := by
  refine met_of_vx (vx_ofWH (cc := cX0_label) (maxL := 5) (ret := (some .int)) (hh := [((0 : Nat), (10 : Nat), (13 : Nat), (13 : Nat)), ((0 : Nat), (10 : Nat), (17 : Nat), (17 : Nat))]) (by decide) rfl ?_)
  intro p e s m args below meth c s₁ B hml hv
  obtain ⟨rfl, hH, hK⟩ := hv
  subst hH
  have hx := B.exec
  have hb := B.bytes
  have hr := B.returns
  have hts := atoms_spec (ws := wsW_ yX0_label cX0_label 5 (some .int) [((0 : Nat), (10 : Nat), (13 : Nat), (13 : Nat)), ((0 : Nat), (10 : Nat), (17 : Nat), (17 : Nat))]) B.pre
  have htab := vx_table (x := yX0_label) B (hts _ List.mem_cons_self)
  have hts : ∀ w ∈ lw_all, w.before _ s = true := fun w h => hts w (List.mem_cons_of_mem _ h)
  have hown : s.vm.findClass RX0 = some m.cls := findClass_of_methodNamed B.named
  have hlk := B.notSynchronized
  have hS : va_S (kNW s.heap) s.heap s.heap [] := va_S.rf
  have hB : ∀ q, (kNW s.heap) q → kBase D ≤ q := fun q h => Nat.le_trans hK.size h
  have hl := lv_entry ([.ref x1, .int (kI ((ln : Nat) : Int)), .int (kI ((pl : Nat) : Int)), .ref out]) (n := 5) (Nat.le_of_ble_eq_true rfl)
  rw [lg_entry_eq]
  generalize (lg_sl ([.ref x1, .int (kI ((ln : Nat) : Int)), .int (kI ((pl : Nat) : Int)), .ref out]) ++ List.replicate (5 - (lg_sl ([.ref x1, .int (kI ((ln : Nat) : Int)), .int (kI ((pl : Nat) : Int)), .ref out])).length) Slot.unset).toArray = ls at hl ⊢
  have hl : lv_has ls 5 [(0, .ref x1), (1, .int (kI ((ln : Nat) : Int))), (2, .int (kI ((pl : Nat) : Int))), (3, .ref out)] := hl
  refine lv_aload_n hx hb dX0_label_0 rfl (lv_at hl 3 rfl) ?_
  refine kx_iconst hx hb dX0_label_1 ?_
  refine lv_aload_n hx hb dX0_label_2 rfl (lv_at hl 0 rfl) ?_
  refine lv_iload_n hx hb dX0_label_3 rfl (lv_at hl 1 rfl) ?_
  refine lv_iload_n hx hb dX0_label_4 rfl (lv_at hl 2 rfl) ?_
  refine kx_catch (own := RX0) (nm := "java/lang/IllegalStateException") (vx_runV (As := [.int (kI ((ln : Nat) : Int)), .int (kI ((pl : Nat) : Int))]) (rest := [.int (kI (0)), .ref out]) ⟨hx, hb, hml, hown, hts⟩ (x_label_2 l hl9 D s.heap x1 snp hi bu st la mc ea F S gap ln pl hO_x1 hO_st hO_la hP_kLs_ea hP_kLn_F (by first | assumption | omega) (by first | assumption | omega) (by first | assumption | omega) (by first | assumption | omega)) (cwV 2 hts (lw_V q1892 q1893 q1894 q79 q1895) rfl rfl rfl (by decide +kernel) ⟨Nat.le_of_ble_eq_true rfl, Nat.le_of_ble_eq_true rfl⟩) (kx_pv hK hS hB (kx_rc hK hO_x1 (C := RX1) (T := TX1) (N := 4) rfl)) rfl rfl hl.1 rfl (lv_room (Nat.le_of_ble_eq_true rfl)) dX0_label_5 ⟨by first | exact Nat.le_of_ble_eq_true rfl | omega | (show _ ≤ _; omega) | (dsimp only [headSpec]; omega), by first | exact Nat.le_of_ble_eq_true rfl | omega | (show _ ≤ _; omega) | (dsimp only [headSpec]; omega)⟩) hS (fun q _ h => by have h9 := hS.1; (try dsimp only at h); (try dsimp only); (try simp only [kNW] at h); (try simp only [kNW]); omega) (fun q h => by have h9 := hS.1; (try dsimp only at h); (try dsimp only); (try simp only [kNW] at h); (try simp only [kNW]); omega) hts hK hown [⟨0, 10, 13, 13⟩] ⟨0, 10, 17, 17⟩ [] (by rw [htab]; rfl) (fun z hz => by simp only [List.mem_cons, List.not_mem_nil, or_false] at hz; rcases hz with rfl; exact ⟨by decide, "java/lang/IndexOutOfBoundsException", q1808, by decide⟩) (by decide) (by decide) q1812 q455 (fun q9_1 H_2 locs_3 hF_4 hS_5 => ?_)
  have hF_4 := hF_4.nw
  refine W.widen (k := 6) (n := 19) (Nat.le_of_ble_eq_true rfl) (Nat.le_of_ble_eq_true rfl) ?_
  refine lv_astore (lv' := [(4, .ref q9_1), (0, .ref x1), (1, .int (kI ((ln : Nat) : Int))), (2, .int (kI ((pl : Nat) : Int))), (3, .ref out)]) hx hb dX0_label_17 hl (by decide) rfl (fun ls hl => ?_)
  refine kx_iconst hx hb dX0_label_19 ?_
  refine vx_ret ?_
  exact kx_iret (z := 2) hx hb hr hlk (⟨by rfl, by first | assumption | rfl | omega | grind⟩) hS_5 dX0_label_20

set_option maxHeartbeats 4000000 in
set_option maxRecDepth 100000 in
theorem wx_unlabel (l : Launch) (hl9 : l.stackTraces = false) (D : kG) (H : Heap) (x1 : Nat) (snp : Option Nat) (hi : Nat) (bu : Nat) (st : Nat) (la : Nat) (mc : Int) (ea : Nat) (F : Fts) (S : Ls) (gap : Int) (li : Int) (out : Nat) (hO_x1 : kO D H x1 0 [.ref st, va_rf (snp), .ref hi, .ref bu]) (hO_st : kO D H st 1 [.ref la, .int (kI (gap))]) (hO_la : kO D H la 9 [.int (kI (mc)), .ref ea, .int (kI ((S.length : Nat) : Int))]) (hP_kLs_ea : kLs D H ea S.length F) (hP_kLn_F : kLn D H F S) (hok : LsOK S gap) (hr_li : -2147483648 ≤ li ∧ li ≤ 2147483647) (hnl : li < 0 ∨ (S.length : Int) ≤ li) : Met l yX0_unlabel (wsW_ yX0_unlabel cX0_unlabel 4 (some .int) [((0 : Nat), (9 : Nat), (12 : Nat), (13 : Nat)), ((0 : Nat), (9 : Nat), (15 : Nat), (17 : Nat))]) ({ frames := 9, cells := 1, slots := 6, locals := 184 } : Room) (kPre D H [.ref x1, .int (kI (li)), .ref out]) (kQi (fun (r : Int) H' => (r = 1) ∧ (True)) (kNW H)) (1) (6) ((kNW H)) := by
  refine met_of_vx (vx_ofWH (cc := cX0_unlabel) (maxL := 4) (ret := (some .int)) (hh := [((0 : Nat), (9 : Nat), (12 : Nat), (13 : Nat)), ((0 : Nat), (9 : Nat), (15 : Nat), (17 : Nat))]) (by decide) rfl ?_)
  intro p e s m args below meth c s₁ B hml hv
  obtain ⟨rfl, hH, hK⟩ := hv
  subst hH
  have hx := B.exec
  have hb := B.bytes
  have hr := B.returns
  have hts := atoms_spec (ws := wsW_ yX0_unlabel cX0_unlabel 4 (some .int) [((0 : Nat), (9 : Nat), (12 : Nat), (13 : Nat)), ((0 : Nat), (9 : Nat), (15 : Nat), (17 : Nat))]) B.pre
  have htab := vx_table (x := yX0_unlabel) B (hts _ List.mem_cons_self)
  have hts : ∀ w ∈ lw_all, w.before _ s = true := fun w h => hts w (List.mem_cons_of_mem _ h)
  have hown : s.vm.findClass RX0 = some m.cls := findClass_of_methodNamed B.named
  have hlk := B.notSynchronized
  have hS : va_S (kNW s.heap) s.heap s.heap [] := va_S.rf
  have hB : ∀ q, (kNW s.heap) q → kBase D ≤ q := fun q h => Nat.le_trans hK.size h
  have hl := lv_entry ([.ref x1, .int (kI (li)), .ref out]) (n := 4) (Nat.le_of_ble_eq_true rfl)
  rw [lg_entry_eq]
  generalize (lg_sl ([.ref x1, .int (kI (li)), .ref out]) ++ List.replicate (4 - (lg_sl ([.ref x1, .int (kI (li)), .ref out])).length) Slot.unset).toArray = ls at hl ⊢
  have hl : lv_has ls 4 [(0, .ref x1), (1, .int (kI (li))), (2, .ref out)] := hl
  refine lv_aload_n hx hb dX0_unlabel_0 rfl (lv_at hl 2 rfl) ?_
  refine kx_iconst hx hb dX0_unlabel_1 ?_
  refine lv_aload_n hx hb dX0_unlabel_2 rfl (lv_at hl 0 rfl) ?_
  refine lv_iload_n hx hb dX0_unlabel_3 rfl (lv_at hl 1 rfl) ?_
  refine kx_catch (own := RX0) (nm := "java/lang/IndexOutOfBoundsException") (vx_runV (As := [.int (kI (li))]) (rest := [.int (kI (0)), .ref out]) ⟨hx, hb, hml, hown, hts⟩ (x_unlabel l hl9 D s.heap x1 snp hi bu st la mc ea F S gap li hO_x1 hO_st hO_la hP_kLs_ea hP_kLn_F (by first | assumption | omega) (by first | assumption | omega) (by first | assumption | omega)) (cwV 1 hts (lw_V q1910 q1911 q1912 q79 q1913) rfl rfl rfl (by decide +kernel) ⟨Nat.le_of_ble_eq_true rfl, Nat.le_of_ble_eq_true rfl⟩) (kx_pv hK hS hB (kx_rc hK hO_x1 (C := RX1) (T := TX1) (N := 4) rfl)) rfl rfl hl.1 rfl (lv_room (Nat.le_of_ble_eq_true rfl)) dX0_unlabel_4 ⟨by first | exact Nat.le_of_ble_eq_true rfl | omega | (show _ ≤ _; omega) | (dsimp only [headSpec]; omega), by first | exact Nat.le_of_ble_eq_true rfl | omega | (show _ ≤ _; omega) | (dsimp only [headSpec]; omega)⟩) hS (fun q _ h => by have h9 := hS.1; (try dsimp only at h); (try dsimp only); (try simp only [kNW] at h); (try simp only [kNW]); omega) (fun q h => by have h9 := hS.1; (try dsimp only at h); (try dsimp only); (try simp only [kNW] at h); (try simp only [kNW]); omega) hts hK hown [] ⟨0, 9, 12, 13⟩ [⟨0, 9, 15, 17⟩] (by rw [htab]; rfl) (fun z hz => by cases hz) (by decide) (by decide) q1808 q1825 (fun q9_1 H_2 locs_3 hF_4 hS_5 => ?_)
  have hF_4 := hF_4.nw
  refine W.widen (k := 1) (n := 6) (Nat.le_of_ble_eq_true rfl) (Nat.le_of_ble_eq_true rfl) ?_
  refine lv_astore_n (lv' := [(3, .ref q9_1), (0, .ref x1), (1, .int (kI (li))), (2, .ref out)]) hx hb dX0_unlabel_12 rfl hl (by decide) rfl (fun ls hl => ?_)
  refine kx_iconst hx hb dX0_unlabel_13 ?_
  refine vx_ret ?_
  exact kx_iret (z := 1) hx hb hr hlk (⟨by rfl, by first | assumption | rfl | omega | grind⟩) hS_5 dX0_unlabel_14

set_option maxHeartbeats 4000000 in
set_option maxRecDepth 100000 in
theorem wx_unlabel_2 (l : Launch) (hl9 : l.stackTraces = false) (D : kG) (H : Heap) (x1 : Nat) (snp : Option Nat) (hi : Nat) (bu : Nat) (st : Nat) (la : Nat) (mc : Int) (ea : Nat) (F : Fts) (S : Ls) (gap : Int) (ln : Nat) (out : Nat) (hO_x1 : kO D H x1 0 [.ref st, va_rf (snp), .ref hi, .ref bu]) (hO_st : kO D H st 1 [.ref la, .int (kI (gap))]) (hO_la : kO D H la 9 [.int (kI (mc)), .ref ea, .int (kI ((S.length : Nat) : Int))]) (hP_kLs_ea : kLs D H ea S.length F) (hP_kLn_F : kLn D H F S) (hok : LsOK S gap) (hln : ln < S.length) (hlb : ln_lb (st_ln S ln) = -1) : Met l yX0_unlabel (wsW_ yX0_unlabel cX0_unlabel 4 (some .int) [((0 : Nat), (9 : Nat), (12 : Nat), (13 : Nat)), ((0 : Nat), (9 : Nat), (15 : Nat), (17 : Nat))]) ({ frames := 8, cells := 1, slots := 6, locals := 162 } : Room) (kPre D H [.ref x1, .int (kI ((ln : Nat) : Int)), .ref out]) (kQi (fun (r : Int) H' => (r = 2) ∧ (True)) (kNW H)) (1) (6) ((kNW H)) := by
  refine met_of_vx (vx_ofWH (cc := cX0_unlabel) (maxL := 4) (ret := (some .int)) (hh := [((0 : Nat), (9 : Nat), (12 : Nat), (13 : Nat)), ((0 : Nat), (9 : Nat), (15 : Nat), (17 : Nat))]) (by decide) rfl ?_)
  intro p e s m args below meth c s₁ B hml hv
  obtain ⟨rfl, hH, hK⟩ := hv
  subst hH
  have hx := B.exec
  have hb := B.bytes
  have hr := B.returns
  have hts := atoms_spec (ws := wsW_ yX0_unlabel cX0_unlabel 4 (some .int) [((0 : Nat), (9 : Nat), (12 : Nat), (13 : Nat)), ((0 : Nat), (9 : Nat), (15 : Nat), (17 : Nat))]) B.pre
  have htab := vx_table (x := yX0_unlabel) B (hts _ List.mem_cons_self)
  have hts : ∀ w ∈ lw_all, w.before _ s = true := fun w h => hts w (List.mem_cons_of_mem _ h)
  have hown : s.vm.findClass RX0 = some m.cls := findClass_of_methodNamed B.named
  have hlk := B.notSynchronized
  have hS : va_S (kNW s.heap) s.heap s.heap [] := va_S.rf
  have hB : ∀ q, (kNW s.heap) q → kBase D ≤ q := fun q h => Nat.le_trans hK.size h
  have hl := lv_entry ([.ref x1, .int (kI ((ln : Nat) : Int)), .ref out]) (n := 4) (Nat.le_of_ble_eq_true rfl)
  rw [lg_entry_eq]
  generalize (lg_sl ([.ref x1, .int (kI ((ln : Nat) : Int)), .ref out]) ++ List.replicate (4 - (lg_sl ([.ref x1, .int (kI ((ln : Nat) : Int)), .ref out])).length) Slot.unset).toArray = ls at hl ⊢
  have hl : lv_has ls 4 [(0, .ref x1), (1, .int (kI ((ln : Nat) : Int))), (2, .ref out)] := hl
  refine lv_aload_n hx hb dX0_unlabel_0 rfl (lv_at hl 2 rfl) ?_
  refine kx_iconst hx hb dX0_unlabel_1 ?_
  refine lv_aload_n hx hb dX0_unlabel_2 rfl (lv_at hl 0 rfl) ?_
  refine lv_iload_n hx hb dX0_unlabel_3 rfl (lv_at hl 1 rfl) ?_
  refine kx_catch (own := RX0) (nm := "java/lang/IllegalStateException") (vx_runV (As := [.int (kI ((ln : Nat) : Int))]) (rest := [.int (kI (0)), .ref out]) ⟨hx, hb, hml, hown, hts⟩ (x_unlabel_2 l hl9 D s.heap x1 snp hi bu st la mc ea F S gap ln hO_x1 hO_st hO_la hP_kLs_ea hP_kLn_F (by first | assumption | omega) (by first | assumption | omega) (by first | assumption | omega)) (cwV 1 hts (lw_V q1910 q1911 q1912 q79 q1913) rfl rfl rfl (by decide +kernel) ⟨Nat.le_of_ble_eq_true rfl, Nat.le_of_ble_eq_true rfl⟩) (kx_pv hK hS hB (kx_rc hK hO_x1 (C := RX1) (T := TX1) (N := 4) rfl)) rfl rfl hl.1 rfl (lv_room (Nat.le_of_ble_eq_true rfl)) dX0_unlabel_4 ⟨by first | exact Nat.le_of_ble_eq_true rfl | omega | (show _ ≤ _; omega) | (dsimp only [headSpec]; omega), by first | exact Nat.le_of_ble_eq_true rfl | omega | (show _ ≤ _; omega) | (dsimp only [headSpec]; omega)⟩) hS (fun q _ h => by have h9 := hS.1; (try dsimp only at h); (try dsimp only); (try simp only [kNW] at h); (try simp only [kNW]); omega) (fun q h => by have h9 := hS.1; (try dsimp only at h); (try dsimp only); (try simp only [kNW] at h); (try simp only [kNW]); omega) hts hK hown [⟨0, 9, 12, 13⟩] ⟨0, 9, 15, 17⟩ [] (by rw [htab]; rfl) (fun z hz => by simp only [List.mem_cons, List.not_mem_nil, or_false] at hz; rcases hz with rfl; exact ⟨by decide, "java/lang/IndexOutOfBoundsException", q1808, by decide⟩) (by decide) (by decide) q1812 q455 (fun q9_1 H_2 locs_3 hF_4 hS_5 => ?_)
  have hF_4 := hF_4.nw
  refine W.widen (k := 1) (n := 6) (Nat.le_of_ble_eq_true rfl) (Nat.le_of_ble_eq_true rfl) ?_
  refine lv_astore_n (lv' := [(3, .ref q9_1), (0, .ref x1), (1, .int (kI ((ln : Nat) : Int))), (2, .ref out)]) hx hb dX0_unlabel_15 rfl hl (by decide) rfl (fun ls hl => ?_)
  refine kx_iconst hx hb dX0_unlabel_16 ?_
  refine vx_ret ?_
  exact kx_iret (z := 2) hx hb hr hlk (⟨by rfl, by first | assumption | rfl | omega | grind⟩) hS_5 dX0_unlabel_17

set_option maxHeartbeats 4000000 in
set_option maxRecDepth 100000 in
theorem wx_labelBest (l : Launch) (hl9 : l.stackTraces = false) (D : kG) (H : Heap) (x1 : Nat) (snp : Option Nat) (hi : Nat) (bu : Nat) (st : Nat) (la : Nat) (mc : Int) (ea : Nat) (F : Fts) (S : Ls) (gap : Int) (li : Int) (out : Nat) (hO_x1 : kO D H x1 0 [.ref st, va_rf (snp), .ref hi, .ref bu]) (hO_st : kO D H st 1 [.ref la, .int (kI (gap))]) (hO_la : kO D H la 9 [.int (kI (mc)), .ref ea, .int (kI ((S.length : Nat) : Int))]) (hP_kLs_ea : kLs D H ea S.length F) (hP_kLn_F : kLn D H F S) (hok : LsOK S gap) (hr_li : -2147483648 ≤ li ∧ li ≤ 2147483647) (hnl : li < 0 ∨ (S.length : Int) ≤ li) : Met l yX0_labelBest (wsW_ yX0_labelBest cX0_labelBest 4 (some .int) [((0 : Nat), (9 : Nat), (12 : Nat), (13 : Nat)), ((0 : Nat), (9 : Nat), (15 : Nat), (17 : Nat))]) ({ frames := 9, cells := 1, slots := 6, locals := 183 } : Room) (kPre D H [.ref x1, .int (kI (li)), .ref out]) (kQi (fun (r : Int) H' => (r = 1) ∧ (True)) (kNW H)) (1) (6) ((kNW H)) := by
  refine met_of_vx (vx_ofWH (cc := cX0_labelBest) (maxL := 4) (ret := (some .int)) (hh := [((0 : Nat), (9 : Nat), (12 : Nat), (13 : Nat)), ((0 : Nat), (9 : Nat), (15 : Nat), (17 : Nat))]) (by decide) rfl ?_)
  intro p e s m args below meth c s₁ B hml hv
  obtain ⟨rfl, hH, hK⟩ := hv
  subst hH
  have hx := B.exec
  have hb := B.bytes
  have hr := B.returns
  have hts := atoms_spec (ws := wsW_ yX0_labelBest cX0_labelBest 4 (some .int) [((0 : Nat), (9 : Nat), (12 : Nat), (13 : Nat)), ((0 : Nat), (9 : Nat), (15 : Nat), (17 : Nat))]) B.pre
  have htab := vx_table (x := yX0_labelBest) B (hts _ List.mem_cons_self)
  have hts : ∀ w ∈ lw_all, w.before _ s = true := fun w h => hts w (List.mem_cons_of_mem _ h)
  have hown : s.vm.findClass RX0 = some m.cls := findClass_of_methodNamed B.named
  have hlk := B.notSynchronized
  have hS : va_S (kNW s.heap) s.heap s.heap [] := va_S.rf
  have hB : ∀ q, (kNW s.heap) q → kBase D ≤ q := fun q h => Nat.le_trans hK.size h
  have hl := lv_entry ([.ref x1, .int (kI (li)), .ref out]) (n := 4) (Nat.le_of_ble_eq_true rfl)
  rw [lg_entry_eq]
  generalize (lg_sl ([.ref x1, .int (kI (li)), .ref out]) ++ List.replicate (4 - (lg_sl ([.ref x1, .int (kI (li)), .ref out])).length) Slot.unset).toArray = ls at hl ⊢
  have hl : lv_has ls 4 [(0, .ref x1), (1, .int (kI (li))), (2, .ref out)] := hl
  refine lv_aload_n hx hb dX0_labelBest_0 rfl (lv_at hl 2 rfl) ?_
  refine kx_iconst hx hb dX0_labelBest_1 ?_
  refine lv_aload_n hx hb dX0_labelBest_2 rfl (lv_at hl 0 rfl) ?_
  refine lv_iload_n hx hb dX0_labelBest_3 rfl (lv_at hl 1 rfl) ?_
  refine kx_catch (own := RX0) (nm := "java/lang/IndexOutOfBoundsException") (vx_runV (As := [.int (kI (li))]) (rest := [.int (kI (0)), .ref out]) ⟨hx, hb, hml, hown, hts⟩ (x_labelBest l hl9 D s.heap x1 snp hi bu st la mc ea F S gap li hO_x1 hO_st hO_la hP_kLs_ea hP_kLn_F (by first | assumption | omega) (by first | assumption | omega) (by first | assumption | omega)) (cwV 1 hts (lw_V q1918 q1919 q1920 q79 q1921) rfl rfl rfl (by decide +kernel) ⟨Nat.le_of_ble_eq_true rfl, Nat.le_of_ble_eq_true rfl⟩) (kx_pv hK hS hB (kx_rc hK hO_x1 (C := RX1) (T := TX1) (N := 4) rfl)) rfl rfl hl.1 rfl (lv_room (Nat.le_of_ble_eq_true rfl)) dX0_labelBest_4 ⟨by first | exact Nat.le_of_ble_eq_true rfl | omega | (show _ ≤ _; omega) | (dsimp only [headSpec]; omega), by first | exact Nat.le_of_ble_eq_true rfl | omega | (show _ ≤ _; omega) | (dsimp only [headSpec]; omega)⟩) hS (fun q _ h => by have h9 := hS.1; (try dsimp only at h); (try dsimp only); (try simp only [kNW] at h); (try simp only [kNW]); omega) (fun q h => by have h9 := hS.1; (try dsimp only at h); (try dsimp only); (try simp only [kNW] at h); (try simp only [kNW]); omega) hts hK hown [] ⟨0, 9, 12, 13⟩ [⟨0, 9, 15, 17⟩] (by rw [htab]; rfl) (fun z hz => by cases hz) (by decide) (by decide) q1808 q1825 (fun q9_1 H_2 locs_3 hF_4 hS_5 => ?_)
  have hF_4 := hF_4.nw
  refine W.widen (k := 1) (n := 6) (Nat.le_of_ble_eq_true rfl) (Nat.le_of_ble_eq_true rfl) ?_
  refine lv_astore_n (lv' := [(3, .ref q9_1), (0, .ref x1), (1, .int (kI (li))), (2, .ref out)]) hx hb dX0_labelBest_12 rfl hl (by decide) rfl (fun ls hl => ?_)
  refine kx_iconst hx hb dX0_labelBest_13 ?_
  refine vx_ret ?_
  exact kx_iret (z := 1) hx hb hr hlk (⟨by rfl, by first | assumption | rfl | omega | grind⟩) hS_5 dX0_labelBest_14

set_option maxHeartbeats 4000000 in
set_option maxRecDepth 100000 in
theorem wx_labelBest_2 (l : Launch) (hl9 : l.stackTraces = false) (D : kG) (H : Heap) (x1 : Nat) (snp : Option Nat) (hi : Nat) (bu : Nat) (st : Nat) (la : Nat) (mc : Int) (ea : Nat) (F : Fts) (S : Ls) (gap : Int) (ln : Nat) (out : Nat) (hO_x1 : kO D H x1 0 [.ref st, va_rf (snp), .ref hi, .ref bu]) (hO_st : kO D H st 1 [.ref la, .int (kI (gap))]) (hO_la : kO D H la 9 [.int (kI (mc)), .ref ea, .int (kI ((S.length : Nat) : Int))]) (hP_kLs_ea : kLs D H ea S.length F) (hP_kLn_F : kLn D H F S) (hok : LsOK S gap) (hln : ln < S.length) (hbp : st_best S gap ln = -1) : Met l yX0_labelBest (wsW_ yX0_labelBest cX0_labelBest 4 (some .int) [((0 : Nat), (9 : Nat), (12 : Nat), (13 : Nat)), ((0 : Nat), (9 : Nat), (15 : Nat), (17 : Nat))]) ({ frames := 10, cells := 370, slots := 1046, locals := 3168 } : Room) (kPre D H [.ref x1, .int (kI ((ln : Nat) : Int)), .ref out]) (kQi (fun (r : Int) H' => (r = 2) ∧ (True)) (kNW H)) (370) (1046) ((kNW H)) := by
  refine met_of_vx (vx_ofWH (cc := cX0_labelBest) (maxL := 4) (ret := (some .int)) (hh := [((0 : Nat), (9 : Nat), (12 : Nat), (13 : Nat)), ((0 : Nat), (9 : Nat), (15 : Nat), (17 : Nat))]) (by decide) rfl ?_)
  intro p e s m args below meth c s₁ B hml hv
  obtain ⟨rfl, hH, hK⟩ := hv
  subst hH
  have hx := B.exec
  have hb := B.bytes
  have hr := B.returns
  have hts := atoms_spec (ws := wsW_ yX0_labelBest cX0_labelBest 4 (some .int) [((0 : Nat), (9 : Nat), (12 : Nat), (13 : Nat)), ((0 : Nat), (9 : Nat), (15 : Nat), (17 : Nat))]) B.pre
  have htab := vx_table (x := yX0_labelBest) B (hts _ List.mem_cons_self)
  have hts : ∀ w ∈ lw_all, w.before _ s = true := fun w h => hts w (List.mem_cons_of_mem _ h)
  have hown : s.vm.findClass RX0 = some m.cls := findClass_of_methodNamed B.named
  have hlk := B.notSynchronized
  have hS : va_S (kNW s.heap) s.heap s.heap [] := va_S.rf
  have hB : ∀ q, (kNW s.heap) q → kBase D ≤ q := fun q h => Nat.le_trans hK.size h
  have hl := lv_entry ([.ref x1, .int (kI ((ln : Nat) : Int)), .ref out]) (n := 4) (Nat.le_of_ble_eq_true rfl)
  rw [lg_entry_eq]
  generalize (lg_sl ([.ref x1, .int (kI ((ln : Nat) : Int)), .ref out]) ++ List.replicate (4 - (lg_sl ([.ref x1, .int (kI ((ln : Nat) : Int)), .ref out])).length) Slot.unset).toArray = ls at hl ⊢
  have hl : lv_has ls 4 [(0, .ref x1), (1, .int (kI ((ln : Nat) : Int))), (2, .ref out)] := hl
  refine lv_aload_n hx hb dX0_labelBest_0 rfl (lv_at hl 2 rfl) ?_
  refine kx_iconst hx hb dX0_labelBest_1 ?_
  refine lv_aload_n hx hb dX0_labelBest_2 rfl (lv_at hl 0 rfl) ?_
  refine lv_iload_n hx hb dX0_labelBest_3 rfl (lv_at hl 1 rfl) ?_
  refine kx_catch (own := RX0) (nm := "java/lang/IllegalStateException") (vx_runV (As := [.int (kI ((ln : Nat) : Int))]) (rest := [.int (kI (0)), .ref out]) ⟨hx, hb, hml, hown, hts⟩ (x_labelBest_2 l hl9 D s.heap x1 snp hi bu st la mc ea F S gap ln hO_x1 hO_st hO_la hP_kLs_ea hP_kLn_F (by first | assumption | omega) (by first | assumption | omega) (by first | assumption | omega)) (cwV 1 hts (lw_V q1918 q1919 q1920 q79 q1921) rfl rfl rfl (by decide +kernel) ⟨Nat.le_of_ble_eq_true rfl, Nat.le_of_ble_eq_true rfl⟩) (kx_pv hK hS hB (kx_rc hK hO_x1 (C := RX1) (T := TX1) (N := 4) rfl)) rfl rfl hl.1 rfl (lv_room (Nat.le_of_ble_eq_true rfl)) dX0_labelBest_4 ⟨by first | exact Nat.le_of_ble_eq_true rfl | omega | (show _ ≤ _; omega) | (dsimp only [headSpec]; omega), by first | exact Nat.le_of_ble_eq_true rfl | omega | (show _ ≤ _; omega) | (dsimp only [headSpec]; omega)⟩) hS (fun q _ h => by have h9 := hS.1; (try dsimp only at h); (try dsimp only); (try simp only [kNW] at h); (try simp only [kNW]); omega) (fun q h => by have h9 := hS.1; (try dsimp only at h); (try dsimp only); (try simp only [kNW] at h); (try simp only [kNW]); omega) hts hK hown [⟨0, 9, 12, 13⟩] ⟨0, 9, 15, 17⟩ [] (by rw [htab]; rfl) (fun z hz => by simp only [List.mem_cons, List.not_mem_nil, or_false] at hz; rcases hz with rfl; exact ⟨by decide, "java/lang/IndexOutOfBoundsException", q1808, by decide⟩) (by decide) (by decide) q1812 q455 (fun q9_1 H_2 locs_3 hF_4 hS_5 => ?_)
  have hF_4 := hF_4.nw
  refine W.widen (k := 370) (n := 1046) (Nat.le_of_ble_eq_true rfl) (Nat.le_of_ble_eq_true rfl) ?_
  refine lv_astore_n (lv' := [(3, .ref q9_1), (0, .ref x1), (1, .int (kI ((ln : Nat) : Int))), (2, .ref out)]) hx hb dX0_labelBest_15 rfl hl (by decide) rfl (fun ls hl => ?_)
  refine kx_iconst hx hb dX0_labelBest_16 ?_
  refine vx_ret ?_
  exact kx_iret (z := 2) hx hb hr hlk (⟨by rfl, by first | assumption | rfl | omega | grind⟩) hS_5 dX0_labelBest_17

set_option maxHeartbeats 4000000 in
set_option maxRecDepth 100000 in
theorem wx_setGap (l : Launch) (hl9 : l.stackTraces = false) (D : kG) (H : Heap) (x1 : Nat) (snp : Option Nat) (hi : Nat) (bu : Nat) (st : Nat) (la : Nat) (mc : Int) (ea : Nat) (F : Fts) (S : Ls) (gap : Int) (x : Int) (out : Nat) (hO_x1 : kO D H x1 0 [.ref st, va_rf (snp), .ref hi, .ref bu]) (hO_st : kO D H st 1 [.ref la, .int (kI (gap))]) (hO_la : kO D H la 9 [.int (kI (mc)), .ref ea, .int (kI ((S.length : Nat) : Int))]) (hP_kLs_ea : kLs D H ea S.length F) (hP_kLn_F : kLn D H F S) (hok : LsOK S gap) (hr_x : -2147483648 ≤ x ∧ x ≤ 2147483647) (hgx : x < 1 ∨ 6 < x) : Met l yX0_setGap (wsW_ yX0_setGap cX0_setGap 4 (some .int) [((0 : Nat), (9 : Nat), (12 : Nat), (15 : Nat))]) ({ frames := 8, cells := 1, slots := 6, locals := 164 } : Room) (kPre D H [.ref x1, .int (kI (x)), .ref out]) (kQi (fun (r : Int) H' => (r = 1) ∧ (True)) (kNW H)) (1) (6) ((kNW H)) := by
  refine met_of_vx (vx_ofWH (cc := cX0_setGap) (maxL := 4) (ret := (some .int)) (hh := [((0 : Nat), (9 : Nat), (12 : Nat), (15 : Nat))]) (by decide) rfl ?_)
  intro p e s m args below meth c s₁ B hml hv
  obtain ⟨rfl, hH, hK⟩ := hv
  subst hH
  have hx := B.exec
  have hb := B.bytes
  have hr := B.returns
  have hts := atoms_spec (ws := wsW_ yX0_setGap cX0_setGap 4 (some .int) [((0 : Nat), (9 : Nat), (12 : Nat), (15 : Nat))]) B.pre
  have htab := vx_table (x := yX0_setGap) B (hts _ List.mem_cons_self)
  have hts : ∀ w ∈ lw_all, w.before _ s = true := fun w h => hts w (List.mem_cons_of_mem _ h)
  have hown : s.vm.findClass RX0 = some m.cls := findClass_of_methodNamed B.named
  have hlk := B.notSynchronized
  have hS : va_S (kNW s.heap) s.heap s.heap [] := va_S.rf
  have hB : ∀ q, (kNW s.heap) q → kBase D ≤ q := fun q h => Nat.le_trans hK.size h
  have hl := lv_entry ([.ref x1, .int (kI (x)), .ref out]) (n := 4) (Nat.le_of_ble_eq_true rfl)
  rw [lg_entry_eq]
  generalize (lg_sl ([.ref x1, .int (kI (x)), .ref out]) ++ List.replicate (4 - (lg_sl ([.ref x1, .int (kI (x)), .ref out])).length) Slot.unset).toArray = ls at hl ⊢
  have hl : lv_has ls 4 [(0, .ref x1), (1, .int (kI (x))), (2, .ref out)] := hl
  refine lv_aload_n hx hb dX0_setGap_0 rfl (lv_at hl 2 rfl) ?_
  refine kx_iconst hx hb dX0_setGap_1 ?_
  refine lv_aload_n hx hb dX0_setGap_2 rfl (lv_at hl 0 rfl) ?_
  refine lv_iload_n hx hb dX0_setGap_3 rfl (lv_at hl 1 rfl) ?_
  refine kx_catch (own := RX0) (nm := "java/lang/IllegalArgumentException") (vx_runV (As := [.int (kI (x))]) (rest := [.int (kI (0)), .ref out]) ⟨hx, hb, hml, hown, hts⟩ (x_setGap l hl9 D s.heap x1 snp hi bu st la mc ea F S gap x hO_x1 hO_st hO_la hP_kLs_ea hP_kLn_F (by first | assumption | omega) (by first | assumption | omega) (by first | assumption | omega)) (cwV 1 hts (lw_V q1927 q1928 q1929 q79 q1930) rfl rfl rfl (by decide +kernel) ⟨Nat.le_of_ble_eq_true rfl, Nat.le_of_ble_eq_true rfl⟩) (kx_pv hK hS hB (kx_rc hK hO_x1 (C := RX1) (T := TX1) (N := 4) rfl)) rfl rfl hl.1 rfl (lv_room (Nat.le_of_ble_eq_true rfl)) dX0_setGap_4 ⟨by first | exact Nat.le_of_ble_eq_true rfl | omega | (show _ ≤ _; omega) | (dsimp only [headSpec]; omega), by first | exact Nat.le_of_ble_eq_true rfl | omega | (show _ ≤ _; omega) | (dsimp only [headSpec]; omega)⟩) hS (fun q _ h => by have h9 := hS.1; (try dsimp only at h); (try dsimp only); (try simp only [kNW] at h); (try simp only [kNW]); omega) (fun q h => by have h9 := hS.1; (try dsimp only at h); (try dsimp only); (try simp only [kNW] at h); (try simp only [kNW]); omega) hts hK hown [] ⟨0, 9, 12, 15⟩ [] (by rw [htab]; rfl) (fun z hz => by cases hz) (by decide) (by decide) q1811 q1035 (fun q9_1 H_2 locs_3 hF_4 hS_5 => ?_)
  have hF_4 := hF_4.nw
  refine W.widen (k := 1) (n := 6) (Nat.le_of_ble_eq_true rfl) (Nat.le_of_ble_eq_true rfl) ?_
  refine lv_astore_n (lv' := [(3, .ref q9_1), (0, .ref x1), (1, .int (kI (x))), (2, .ref out)]) hx hb dX0_setGap_12 rfl hl (by decide) rfl (fun ls hl => ?_)
  refine kx_iconst hx hb dX0_setGap_13 ?_
  refine vx_ret ?_
  exact kx_iret (z := 1) hx hb hr hlk (⟨by rfl, by first | assumption | rfl | omega | grind⟩) hS_5 dX0_setGap_14

set_option maxHeartbeats 4000000 in
set_option maxRecDepth 100000 in
theorem wx_lineAt (l : Launch) (hl9 : l.stackTraces = false) (D : kG) (H : Heap) (x1 : Nat) (snp : Option Nat) (hi : Nat) (bu : Nat) (st : Nat) (la : Nat) (mc : Int) (ea : Nat) (F : Fts) (S : Ls) (gap : Int) (x : Int) (out : Nat) (hO_x1 : kO D H x1 0 [.ref st, va_rf (snp), .ref hi, .ref bu]) (hO_st : kO D H st 1 [.ref la, .int (kI (gap))]) (hO_la : kO D H la 9 [.int (kI (mc)), .ref ea, .int (kI ((S.length : Nat) : Int))]) (hP_kLs_ea : kLs D H ea S.length F) (hP_kLn_F : kLn D H F S) (hok : LsOK S gap) (hr_x : -2147483648 ≤ x ∧ x ≤ 2147483647) (hpt : x < 0 ∨ 384 ≤ x) : Met l yX0_lineAt (wsW_ yX0_lineAt cX0_lineAt 4 (some .int) [((0 : Nat), (9 : Nat), (12 : Nat), (13 : Nat))]) ({ frames := 9, cells := 1, slots := 6, locals := 182 } : Room) (kPre D H [.ref x1, .int (kI (x)), .ref out]) (kQi (fun (r : Int) H' => (r = 1) ∧ (True)) (kNW H)) (1) (6) ((kNW H)) := by
  refine met_of_vx (vx_ofWH (cc := cX0_lineAt) (maxL := 4) (ret := (some .int)) (hh := [((0 : Nat), (9 : Nat), (12 : Nat), (13 : Nat))]) (by decide) rfl ?_)
  intro p e s m args below meth c s₁ B hml hv
  obtain ⟨rfl, hH, hK⟩ := hv
  subst hH
  have hx := B.exec
  have hb := B.bytes
  have hr := B.returns
  have hts := atoms_spec (ws := wsW_ yX0_lineAt cX0_lineAt 4 (some .int) [((0 : Nat), (9 : Nat), (12 : Nat), (13 : Nat))]) B.pre
  have htab := vx_table (x := yX0_lineAt) B (hts _ List.mem_cons_self)
  have hts : ∀ w ∈ lw_all, w.before _ s = true := fun w h => hts w (List.mem_cons_of_mem _ h)
  have hown : s.vm.findClass RX0 = some m.cls := findClass_of_methodNamed B.named
  have hlk := B.notSynchronized
  have hS : va_S (kNW s.heap) s.heap s.heap [] := va_S.rf
  have hB : ∀ q, (kNW s.heap) q → kBase D ≤ q := fun q h => Nat.le_trans hK.size h
  have hl := lv_entry ([.ref x1, .int (kI (x)), .ref out]) (n := 4) (Nat.le_of_ble_eq_true rfl)
  rw [lg_entry_eq]
  generalize (lg_sl ([.ref x1, .int (kI (x)), .ref out]) ++ List.replicate (4 - (lg_sl ([.ref x1, .int (kI (x)), .ref out])).length) Slot.unset).toArray = ls at hl ⊢
  have hl : lv_has ls 4 [(0, .ref x1), (1, .int (kI (x))), (2, .ref out)] := hl
  refine lv_aload_n hx hb dX0_lineAt_0 rfl (lv_at hl 2 rfl) ?_
  refine kx_iconst hx hb dX0_lineAt_1 ?_
  refine lv_aload_n hx hb dX0_lineAt_2 rfl (lv_at hl 0 rfl) ?_
  refine lv_iload_n hx hb dX0_lineAt_3 rfl (lv_at hl 1 rfl) ?_
  refine kx_catch (own := RX0) (nm := "java/lang/IndexOutOfBoundsException") (vx_runV (As := [.int (kI (x))]) (rest := [.int (kI (0)), .ref out]) ⟨hx, hb, hml, hown, hts⟩ (x_lineAt l hl9 D s.heap x1 snp hi bu st la mc ea F S gap x hO_x1 hO_st hO_la hP_kLs_ea hP_kLn_F (by first | assumption | omega) (by first | assumption | omega) (by first | assumption | omega)) (cwV 1 hts (lw_V q1955 q1956 q1957 q79 q1958) rfl rfl rfl (by decide +kernel) ⟨Nat.le_of_ble_eq_true rfl, Nat.le_of_ble_eq_true rfl⟩) (kx_pv hK hS hB (kx_rc hK hO_x1 (C := RX1) (T := TX1) (N := 4) rfl)) rfl rfl hl.1 rfl (lv_room (Nat.le_of_ble_eq_true rfl)) dX0_lineAt_4 ⟨by first | exact Nat.le_of_ble_eq_true rfl | omega | (show _ ≤ _; omega) | (dsimp only [headSpec]; omega), by first | exact Nat.le_of_ble_eq_true rfl | omega | (show _ ≤ _; omega) | (dsimp only [headSpec]; omega)⟩) hS (fun q _ h => by have h9 := hS.1; (try dsimp only at h); (try dsimp only); (try simp only [kNW] at h); (try simp only [kNW]); omega) (fun q h => by have h9 := hS.1; (try dsimp only at h); (try dsimp only); (try simp only [kNW] at h); (try simp only [kNW]); omega) hts hK hown [] ⟨0, 9, 12, 13⟩ [] (by rw [htab]; rfl) (fun z hz => by cases hz) (by decide) (by decide) q1808 q1825 (fun q9_1 H_2 locs_3 hF_4 hS_5 => ?_)
  have hF_4 := hF_4.nw
  refine W.widen (k := 1) (n := 6) (Nat.le_of_ble_eq_true rfl) (Nat.le_of_ble_eq_true rfl) ?_
  refine lv_astore_n (lv' := [(3, .ref q9_1), (0, .ref x1), (1, .int (kI (x))), (2, .ref out)]) hx hb dX0_lineAt_12 rfl hl (by decide) rfl (fun ls hl => ?_)
  refine kx_iconst hx hb dX0_lineAt_13 ?_
  refine vx_ret ?_
  exact kx_iret (z := 1) hx hb hr hlk (⟨by rfl, by first | assumption | rfl | omega | grind⟩) hS_5 dX0_lineAt_14

set_option maxHeartbeats 4000000 in
set_option maxRecDepth 100000 in
theorem wx_whyNotStepped (l : Launch) (hl9 : l.stackTraces = false) (D : kG) (H : Heap) (x1 : Nat) (snp : Option Nat) (hi : Nat) (bu : Nat) (st : Nat) (la : Nat) (mc : Int) (ea : Nat) (F : Fts) (S : Ls) (gap : Int) (li : Int) (d : Int) (out : Nat) (hO_x1 : kO D H x1 0 [.ref st, va_rf (snp), .ref hi, .ref bu]) (hO_st : kO D H st 1 [.ref la, .int (kI (gap))]) (hO_la : kO D H la 9 [.int (kI (mc)), .ref ea, .int (kI ((S.length : Nat) : Int))]) (hP_kLs_ea : kLs D H ea S.length F) (hP_kLn_F : kLn D H F S) (hok : LsOK S gap) (hr_li : -2147483648 ≤ li ∧ li ≤ 2147483647) (hnl : li < 0 ∨ (S.length : Int) ≤ li) : Met l yX0_whyNotStepped (wsW_ yX0_whyNotStepped cX0_whyNotStepped 5 (some .int) [((0 : Nat), (10 : Nat), (13 : Nat), (13 : Nat)), ((0 : Nat), (10 : Nat), (17 : Nat), (15 : Nat))]) ({ frames := 9, cells := 1, slots := 6, locals := 184 } : Room) (kPre D H [.ref x1, .int (kI (li)), .int (kI (d)), .ref out]) (kQi (fun (r : Int) H' => (r = 1) ∧ (True)) (kNW H)) (1) (6) ((kNW H)) := by
  refine met_of_vx (vx_ofWH (cc := cX0_whyNotStepped) (maxL := 5) (ret := (some .int)) (hh := [((0 : Nat), (10 : Nat), (13 : Nat), (13 : Nat)), ((0 : Nat), (10 : Nat), (17 : Nat), (15 : Nat))]) (by decide) rfl ?_)
  intro p e s m args below meth c s₁ B hml hv
  obtain ⟨rfl, hH, hK⟩ := hv
  subst hH
  have hx := B.exec
  have hb := B.bytes
  have hr := B.returns
  have hts := atoms_spec (ws := wsW_ yX0_whyNotStepped cX0_whyNotStepped 5 (some .int) [((0 : Nat), (10 : Nat), (13 : Nat), (13 : Nat)), ((0 : Nat), (10 : Nat), (17 : Nat), (15 : Nat))]) B.pre
  have htab := vx_table (x := yX0_whyNotStepped) B (hts _ List.mem_cons_self)
  have hts : ∀ w ∈ lw_all, w.before _ s = true := fun w h => hts w (List.mem_cons_of_mem _ h)
  have hown : s.vm.findClass RX0 = some m.cls := findClass_of_methodNamed B.named
  have hlk := B.notSynchronized
  have hS : va_S (kNW s.heap) s.heap s.heap [] := va_S.rf
  have hB : ∀ q, (kNW s.heap) q → kBase D ≤ q := fun q h => Nat.le_trans hK.size h
  have hl := lv_entry ([.ref x1, .int (kI (li)), .int (kI (d)), .ref out]) (n := 5) (Nat.le_of_ble_eq_true rfl)
  rw [lg_entry_eq]
  generalize (lg_sl ([.ref x1, .int (kI (li)), .int (kI (d)), .ref out]) ++ List.replicate (5 - (lg_sl ([.ref x1, .int (kI (li)), .int (kI (d)), .ref out])).length) Slot.unset).toArray = ls at hl ⊢
  have hl : lv_has ls 5 [(0, .ref x1), (1, .int (kI (li))), (2, .int (kI (d))), (3, .ref out)] := hl
  refine lv_aload_n hx hb dX0_whyNotStepped_0 rfl (lv_at hl 3 rfl) ?_
  refine kx_iconst hx hb dX0_whyNotStepped_1 ?_
  refine lv_aload_n hx hb dX0_whyNotStepped_2 rfl (lv_at hl 0 rfl) ?_
  refine lv_iload_n hx hb dX0_whyNotStepped_3 rfl (lv_at hl 1 rfl) ?_
  refine lv_iload_n hx hb dX0_whyNotStepped_4 rfl (lv_at hl 2 rfl) ?_
  refine kx_catch (own := RX0) (nm := "java/lang/IndexOutOfBoundsException") (vx_runV (As := [.int (kI (li)), .int (kI (d))]) (rest := [.int (kI (0)), .ref out]) ⟨hx, hb, hml, hown, hts⟩ (x_whyNotStepped l hl9 D s.heap x1 snp hi bu st la mc ea F S gap li d hO_x1 hO_st hO_la hP_kLs_ea hP_kLn_F (by first | assumption | omega) (by first | assumption | omega) (by first | assumption | omega)) (cwV 2 hts (lw_V q1969 q1861 q1862 q79 q1863) rfl rfl rfl (by decide +kernel) ⟨Nat.le_of_ble_eq_true rfl, Nat.le_of_ble_eq_true rfl⟩) (kx_pv hK hS hB (kx_rc hK hO_x1 (C := RX1) (T := TX1) (N := 4) rfl)) rfl rfl hl.1 rfl (lv_room (Nat.le_of_ble_eq_true rfl)) dX0_whyNotStepped_5 ⟨by first | exact Nat.le_of_ble_eq_true rfl | omega | (show _ ≤ _; omega) | (dsimp only [headSpec]; omega), by first | exact Nat.le_of_ble_eq_true rfl | omega | (show _ ≤ _; omega) | (dsimp only [headSpec]; omega)⟩) hS (fun q _ h => by have h9 := hS.1; (try dsimp only at h); (try dsimp only); (try simp only [kNW] at h); (try simp only [kNW]); omega) (fun q h => by have h9 := hS.1; (try dsimp only at h); (try dsimp only); (try simp only [kNW] at h); (try simp only [kNW]); omega) hts hK hown [] ⟨0, 10, 13, 13⟩ [⟨0, 10, 17, 15⟩] (by rw [htab]; rfl) (fun z hz => by cases hz) (by decide) (by decide) q1808 q1825 (fun q9_1 H_2 locs_3 hF_4 hS_5 => ?_)
  have hF_4 := hF_4.nw
  refine W.widen (k := 1) (n := 6) (Nat.le_of_ble_eq_true rfl) (Nat.le_of_ble_eq_true rfl) ?_
  refine lv_astore (lv' := [(4, .ref q9_1), (0, .ref x1), (1, .int (kI (li))), (2, .int (kI (d))), (3, .ref out)]) hx hb dX0_whyNotStepped_13 hl (by decide) rfl (fun ls hl => ?_)
  refine kx_iconst hx hb dX0_whyNotStepped_15 ?_
  refine vx_ret ?_
  exact kx_iret (z := 1) hx hb hr hlk (⟨by rfl, by first | assumption | rfl | omega | grind⟩) hS_5 dX0_whyNotStepped_16

set_option maxHeartbeats 4000000 in
set_option maxRecDepth 100000 in
theorem wx_whyNotStepped_d (l : Launch) (hl9 : l.stackTraces = false) (D : kG) (H : Heap) (x1 : Nat) (snp : Option Nat) (hi : Nat) (bu : Nat) (st : Nat) (la : Nat) (mc : Int) (ea : Nat) (F : Fts) (S : Ls) (gap : Int) (ln : Nat) (d : Int) (out : Nat) (hO_x1 : kO D H x1 0 [.ref st, va_rf (snp), .ref hi, .ref bu]) (hO_st : kO D H st 1 [.ref la, .int (kI (gap))]) (hO_la : kO D H la 9 [.int (kI (mc)), .ref ea, .int (kI ((S.length : Nat) : Int))]) (hP_kLs_ea : kLs D H ea S.length F) (hP_kLn_F : kLn D H F S) (hok : LsOK S gap) (hln : ln < S.length) (hr_d : -2147483648 ≤ d ∧ d ≤ 2147483647) (hd : d < 0 ∨ 7 < d) : Met l yX0_whyNotStepped (wsW_ yX0_whyNotStepped cX0_whyNotStepped 5 (some .int) [((0 : Nat), (10 : Nat), (13 : Nat), (13 : Nat)), ((0 : Nat), (10 : Nat), (17 : Nat), (15 : Nat))]) ({ frames := 8, cells := 1, slots := 6, locals := 164 } : Room) (kPre D H [.ref x1, .int (kI ((ln : Nat) : Int)), .int (kI (d)), .ref out]) (kQi (fun (r : Int) H' => (r = 2) ∧ (True)) (kNW H)) (1) (6) ((kNW H)) := by
  refine met_of_vx (vx_ofWH (cc := cX0_whyNotStepped) (maxL := 5) (ret := (some .int)) (hh := [((0 : Nat), (10 : Nat), (13 : Nat), (13 : Nat)), ((0 : Nat), (10 : Nat), (17 : Nat), (15 : Nat))]) (by decide) rfl ?_)
  intro p e s m args below meth c s₁ B hml hv
  obtain ⟨rfl, hH, hK⟩ := hv
  subst hH
  have hx := B.exec
  have hb := B.bytes
  have hr := B.returns
  have hts := atoms_spec (ws := wsW_ yX0_whyNotStepped cX0_whyNotStepped 5 (some .int) [((0 : Nat), (10 : Nat), (13 : Nat), (13 : Nat)), ((0 : Nat), (10 : Nat), (17 : Nat), (15 : Nat))]) B.pre
  have htab := vx_table (x := yX0_whyNotStepped) B (hts _ List.mem_cons_self)
  have hts : ∀ w ∈ lw_all, w.before _ s = true := fun w h => hts w (List.mem_cons_of_mem _ h)
  have hown : s.vm.findClass RX0 = some m.cls := findClass_of_methodNamed B.named
  have hlk := B.notSynchronized
  have hS : va_S (kNW s.heap) s.heap s.heap [] := va_S.rf
  have hB : ∀ q, (kNW s.heap) q → kBase D ≤ q := fun q h => Nat.le_trans hK.size h
  have hl := lv_entry ([.ref x1, .int (kI ((ln : Nat) : Int)), .int (kI (d)), .ref out]) (n := 5) (Nat.le_of_ble_eq_true rfl)
  rw [lg_entry_eq]
  generalize (lg_sl ([.ref x1, .int (kI ((ln : Nat) : Int)), .int (kI (d)), .ref out]) ++ List.replicate (5 - (lg_sl ([.ref x1, .int (kI ((ln : Nat) : Int)), .int (kI (d)), .ref out])).length) Slot.unset).toArray = ls at hl ⊢
  have hl : lv_has ls 5 [(0, .ref x1), (1, .int (kI ((ln : Nat) : Int))), (2, .int (kI (d))), (3, .ref out)] := hl
  refine lv_aload_n hx hb dX0_whyNotStepped_0 rfl (lv_at hl 3 rfl) ?_
  refine kx_iconst hx hb dX0_whyNotStepped_1 ?_
  refine lv_aload_n hx hb dX0_whyNotStepped_2 rfl (lv_at hl 0 rfl) ?_
  refine lv_iload_n hx hb dX0_whyNotStepped_3 rfl (lv_at hl 1 rfl) ?_
  refine lv_iload_n hx hb dX0_whyNotStepped_4 rfl (lv_at hl 2 rfl) ?_
  refine kx_catch (own := RX0) (nm := "java/lang/IllegalArgumentException") (vx_runV (As := [.int (kI ((ln : Nat) : Int)), .int (kI (d))]) (rest := [.int (kI (0)), .ref out]) ⟨hx, hb, hml, hown, hts⟩ (x_whyNotStepped_d l hl9 D s.heap x1 snp hi bu st la mc ea F S gap ln d hO_x1 hO_st hO_la hP_kLs_ea hP_kLn_F (by first | assumption | omega) (by first | assumption | omega) (by first | assumption | omega) (by first | assumption | omega)) (cwV 2 hts (lw_V q1969 q1861 q1862 q79 q1863) rfl rfl rfl (by decide +kernel) ⟨Nat.le_of_ble_eq_true rfl, Nat.le_of_ble_eq_true rfl⟩) (kx_pv hK hS hB (kx_rc hK hO_x1 (C := RX1) (T := TX1) (N := 4) rfl)) rfl rfl hl.1 rfl (lv_room (Nat.le_of_ble_eq_true rfl)) dX0_whyNotStepped_5 ⟨by first | exact Nat.le_of_ble_eq_true rfl | omega | (show _ ≤ _; omega) | (dsimp only [headSpec]; omega), by first | exact Nat.le_of_ble_eq_true rfl | omega | (show _ ≤ _; omega) | (dsimp only [headSpec]; omega)⟩) hS (fun q _ h => by have h9 := hS.1; (try dsimp only at h); (try dsimp only); (try simp only [kNW] at h); (try simp only [kNW]); omega) (fun q h => by have h9 := hS.1; (try dsimp only at h); (try dsimp only); (try simp only [kNW] at h); (try simp only [kNW]); omega) hts hK hown [⟨0, 10, 13, 13⟩] ⟨0, 10, 17, 15⟩ [] (by rw [htab]; rfl) (fun z hz => by simp only [List.mem_cons, List.not_mem_nil, or_false] at hz; rcases hz with rfl; exact ⟨by decide, "java/lang/IndexOutOfBoundsException", q1808, by decide⟩) (by decide) (by decide) q1811 q1035 (fun q9_1 H_2 locs_3 hF_4 hS_5 => ?_)
  have hF_4 := hF_4.nw
  refine W.widen (k := 1) (n := 6) (Nat.le_of_ble_eq_true rfl) (Nat.le_of_ble_eq_true rfl) ?_
  refine lv_astore (lv' := [(4, .ref q9_1), (0, .ref x1), (1, .int (kI ((ln : Nat) : Int))), (2, .int (kI (d))), (3, .ref out)]) hx hb dX0_whyNotStepped_17 hl (by decide) rfl (fun ls hl => ?_)
  refine kx_iconst hx hb dX0_whyNotStepped_19 ?_
  refine vx_ret ?_
  exact kx_iret (z := 2) hx hb hr hlk (⟨by rfl, by first | assumption | rfl | omega | grind⟩) hS_5 dX0_whyNotStepped_20

set_option maxHeartbeats 4000000 in
set_option maxRecDepth 100000 in
theorem wx_isWithinByRays (l : Launch) (hl9 : l.stackTraces = false) (D : kG) (H : Heap) (x1 : Nat) (snp : Option Nat) (hi : Nat) (bu : Nat) (st : Nat) (la : Nat) (mc : Int) (ea : Nat) (F : Fts) (S : Ls) (gap : Int) (li : Int) (x : Int) (out : Nat) (hO_x1 : kO D H x1 0 [.ref st, va_rf (snp), .ref hi, .ref bu]) (hO_st : kO D H st 1 [.ref la, .int (kI (gap))]) (hO_la : kO D H la 9 [.int (kI (mc)), .ref ea, .int (kI ((S.length : Nat) : Int))]) (hP_kLs_ea : kLs D H ea S.length F) (hP_kLn_F : kLn D H F S) (hok : LsOK S gap) (hr_li : -2147483648 ≤ li ∧ li ≤ 2147483647) (hnl : li < 0 ∨ (S.length : Int) ≤ li) : Met l yX0_isWithinByRays (wsW_ yX0_isWithinByRays cX0_isWithinByRays 5 (some .int) [((0 : Nat), (17 : Nat), (20 : Nat), (13 : Nat))]) ({ frames := 9, cells := 1, slots := 6, locals := 184 } : Room) (kPre D H [.ref x1, .int (kI (li)), .int (kI (x)), .ref out]) (kQi (fun (r : Int) H' => (r = 1) ∧ (True)) (kNW H)) (1) (6) ((kNW H)) := by
  refine met_of_vx (vx_ofWH (cc := cX0_isWithinByRays) (maxL := 5) (ret := (some .int)) (hh := [((0 : Nat), (17 : Nat), (20 : Nat), (13 : Nat))]) (by decide) rfl ?_)
  intro p e s m args below meth c s₁ B hml hv
  obtain ⟨rfl, hH, hK⟩ := hv
  subst hH
  have hx := B.exec
  have hb := B.bytes
  have hr := B.returns
  have hts := atoms_spec (ws := wsW_ yX0_isWithinByRays cX0_isWithinByRays 5 (some .int) [((0 : Nat), (17 : Nat), (20 : Nat), (13 : Nat))]) B.pre
  have htab := vx_table (x := yX0_isWithinByRays) B (hts _ List.mem_cons_self)
  have hts : ∀ w ∈ lw_all, w.before _ s = true := fun w h => hts w (List.mem_cons_of_mem _ h)
  have hown : s.vm.findClass RX0 = some m.cls := findClass_of_methodNamed B.named
  have hlk := B.notSynchronized
  have hS : va_S (kNW s.heap) s.heap s.heap [] := va_S.rf
  have hB : ∀ q, (kNW s.heap) q → kBase D ≤ q := fun q h => Nat.le_trans hK.size h
  have hl := lv_entry ([.ref x1, .int (kI (li)), .int (kI (x)), .ref out]) (n := 5) (Nat.le_of_ble_eq_true rfl)
  rw [lg_entry_eq]
  generalize (lg_sl ([.ref x1, .int (kI (li)), .int (kI (x)), .ref out]) ++ List.replicate (5 - (lg_sl ([.ref x1, .int (kI (li)), .int (kI (x)), .ref out])).length) Slot.unset).toArray = ls at hl ⊢
  have hl : lv_has ls 5 [(0, .ref x1), (1, .int (kI (li))), (2, .int (kI (x))), (3, .ref out)] := hl
  refine lv_aload_n hx hb dX0_isWithinByRays_0 rfl (lv_at hl 3 rfl) ?_
  refine kx_iconst hx hb dX0_isWithinByRays_1 ?_
  refine lv_aload_n hx hb dX0_isWithinByRays_2 rfl (lv_at hl 0 rfl) ?_
  refine lv_iload_n hx hb dX0_isWithinByRays_3 rfl (lv_at hl 1 rfl) ?_
  refine lv_iload_n hx hb dX0_isWithinByRays_4 rfl (lv_at hl 2 rfl) ?_
  refine kx_catch (own := RX0) (nm := "java/lang/IndexOutOfBoundsException") (vx_runV (As := [.int (kI (li)), .int (kI (x))]) (rest := [.int (kI (0)), .ref out]) ⟨hx, hb, hml, hown, hts⟩ (x_isWithinByRays l hl9 D s.heap x1 snp hi bu st la mc ea F S gap li x hO_x1 hO_st hO_la hP_kLs_ea hP_kLn_F (by first | assumption | omega) (by first | assumption | omega) (by first | assumption | omega)) (cwV 2 hts (lw_V q2074 q2075 q2076 q79 q2077) rfl rfl rfl (by decide +kernel) ⟨Nat.le_of_ble_eq_true rfl, Nat.le_of_ble_eq_true rfl⟩) (kx_pv hK hS hB (kx_rc hK hO_x1 (C := RX1) (T := TX1) (N := 4) rfl)) rfl rfl hl.1 rfl (lv_room (Nat.le_of_ble_eq_true rfl)) dX0_isWithinByRays_5 ⟨by first | exact Nat.le_of_ble_eq_true rfl | omega | (show _ ≤ _; omega) | (dsimp only [headSpec]; omega), by first | exact Nat.le_of_ble_eq_true rfl | omega | (show _ ≤ _; omega) | (dsimp only [headSpec]; omega)⟩) hS (fun q _ h => by have h9 := hS.1; (try dsimp only at h); (try dsimp only); (try simp only [kNW] at h); (try simp only [kNW]); omega) (fun q h => by have h9 := hS.1; (try dsimp only at h); (try dsimp only); (try simp only [kNW] at h); (try simp only [kNW]); omega) hts hK hown [] ⟨0, 17, 20, 13⟩ [] (by rw [htab]; rfl) (fun z hz => by cases hz) (by decide) (by decide) q1808 q1825 (fun q9_1 H_2 locs_3 hF_4 hS_5 => ?_)
  have hF_4 := hF_4.nw
  refine W.widen (k := 1) (n := 6) (Nat.le_of_ble_eq_true rfl) (Nat.le_of_ble_eq_true rfl) ?_
  refine lv_astore (lv' := [(4, .ref q9_1), (0, .ref x1), (1, .int (kI (li))), (2, .int (kI (x))), (3, .ref out)]) hx hb dX0_isWithinByRays_20 hl (by decide) rfl (fun ls hl => ?_)
  refine kx_iconst hx hb dX0_isWithinByRays_22 ?_
  refine vx_ret ?_
  exact kx_iret (z := 1) hx hb hr hlk (⟨by rfl, by first | assumption | rfl | omega | grind⟩) hS_5 dX0_isWithinByRays_23

set_option maxHeartbeats 4000000 in
set_option maxRecDepth 100000 in
theorem wx_isWithinByRays_p (l : Launch) (hl9 : l.stackTraces = false) (D : kG) (H : Heap) (x1 : Nat) (snp : Option Nat) (hi : Nat) (bu : Nat) (st : Nat) (la : Nat) (mc : Int) (ea : Nat) (F : Fts) (S : Ls) (gap : Int) (ln : Nat) (x : Int) (out : Nat) (hO_x1 : kO D H x1 0 [.ref st, va_rf (snp), .ref hi, .ref bu]) (hO_st : kO D H st 1 [.ref la, .int (kI (gap))]) (hO_la : kO D H la 9 [.int (kI (mc)), .ref ea, .int (kI ((S.length : Nat) : Int))]) (hP_kLs_ea : kLs D H ea S.length F) (hP_kLn_F : kLn D H F S) (hok : LsOK S gap) (hln : ln < S.length) (hr_x : -2147483648 ≤ x ∧ x ≤ 2147483647) (hpt : x < 0 ∨ 384 ≤ x) : Met l yX0_isWithinByRays (wsW_ yX0_isWithinByRays cX0_isWithinByRays 5 (some .int) [((0 : Nat), (17 : Nat), (20 : Nat), (13 : Nat))]) ({ frames := 9, cells := 1, slots := 6, locals := 183 } : Room) (kPre D H [.ref x1, .int (kI ((ln : Nat) : Int)), .int (kI (x)), .ref out]) (kQi (fun (r : Int) H' => (r = 1) ∧ (True)) (kNW H)) (1) (6) ((kNW H)) := by
  refine met_of_vx (vx_ofWH (cc := cX0_isWithinByRays) (maxL := 5) (ret := (some .int)) (hh := [((0 : Nat), (17 : Nat), (20 : Nat), (13 : Nat))]) (by decide) rfl ?_)
  intro p e s m args below meth c s₁ B hml hv
  obtain ⟨rfl, hH, hK⟩ := hv
  subst hH
  have hx := B.exec
  have hb := B.bytes
  have hr := B.returns
  have hts := atoms_spec (ws := wsW_ yX0_isWithinByRays cX0_isWithinByRays 5 (some .int) [((0 : Nat), (17 : Nat), (20 : Nat), (13 : Nat))]) B.pre
  have htab := vx_table (x := yX0_isWithinByRays) B (hts _ List.mem_cons_self)
  have hts : ∀ w ∈ lw_all, w.before _ s = true := fun w h => hts w (List.mem_cons_of_mem _ h)
  have hown : s.vm.findClass RX0 = some m.cls := findClass_of_methodNamed B.named
  have hlk := B.notSynchronized
  have hS : va_S (kNW s.heap) s.heap s.heap [] := va_S.rf
  have hB : ∀ q, (kNW s.heap) q → kBase D ≤ q := fun q h => Nat.le_trans hK.size h
  have hl := lv_entry ([.ref x1, .int (kI ((ln : Nat) : Int)), .int (kI (x)), .ref out]) (n := 5) (Nat.le_of_ble_eq_true rfl)
  rw [lg_entry_eq]
  generalize (lg_sl ([.ref x1, .int (kI ((ln : Nat) : Int)), .int (kI (x)), .ref out]) ++ List.replicate (5 - (lg_sl ([.ref x1, .int (kI ((ln : Nat) : Int)), .int (kI (x)), .ref out])).length) Slot.unset).toArray = ls at hl ⊢
  have hl : lv_has ls 5 [(0, .ref x1), (1, .int (kI ((ln : Nat) : Int))), (2, .int (kI (x))), (3, .ref out)] := hl
  refine lv_aload_n hx hb dX0_isWithinByRays_0 rfl (lv_at hl 3 rfl) ?_
  refine kx_iconst hx hb dX0_isWithinByRays_1 ?_
  refine lv_aload_n hx hb dX0_isWithinByRays_2 rfl (lv_at hl 0 rfl) ?_
  refine lv_iload_n hx hb dX0_isWithinByRays_3 rfl (lv_at hl 1 rfl) ?_
  refine lv_iload_n hx hb dX0_isWithinByRays_4 rfl (lv_at hl 2 rfl) ?_
  refine kx_catch (own := RX0) (nm := "java/lang/IndexOutOfBoundsException") (vx_runV (As := [.int (kI ((ln : Nat) : Int)), .int (kI (x))]) (rest := [.int (kI (0)), .ref out]) ⟨hx, hb, hml, hown, hts⟩ (x_isWithinByRays_p l hl9 D s.heap x1 snp hi bu st la mc ea F S gap ln x hO_x1 hO_st hO_la hP_kLs_ea hP_kLn_F (by first | assumption | omega) (by first | assumption | omega) (by first | assumption | omega) (by first | assumption | omega)) (cwV 2 hts (lw_V q2074 q2075 q2076 q79 q2077) rfl rfl rfl (by decide +kernel) ⟨Nat.le_of_ble_eq_true rfl, Nat.le_of_ble_eq_true rfl⟩) (kx_pv hK hS hB (kx_rc hK hO_x1 (C := RX1) (T := TX1) (N := 4) rfl)) rfl rfl hl.1 rfl (lv_room (Nat.le_of_ble_eq_true rfl)) dX0_isWithinByRays_5 ⟨by first | exact Nat.le_of_ble_eq_true rfl | omega | (show _ ≤ _; omega) | (dsimp only [headSpec]; omega), by first | exact Nat.le_of_ble_eq_true rfl | omega | (show _ ≤ _; omega) | (dsimp only [headSpec]; omega)⟩) hS (fun q _ h => by have h9 := hS.1; (try dsimp only at h); (try dsimp only); (try simp only [kNW] at h); (try simp only [kNW]); omega) (fun q h => by have h9 := hS.1; (try dsimp only at h); (try dsimp only); (try simp only [kNW] at h); (try simp only [kNW]); omega) hts hK hown [] ⟨0, 17, 20, 13⟩ [] (by rw [htab]; rfl) (fun z hz => by cases hz) (by decide) (by decide) q1808 q1825 (fun q9_1 H_2 locs_3 hF_4 hS_5 => ?_)
  have hF_4 := hF_4.nw
  refine W.widen (k := 1) (n := 6) (Nat.le_of_ble_eq_true rfl) (Nat.le_of_ble_eq_true rfl) ?_
  refine lv_astore (lv' := [(4, .ref q9_1), (0, .ref x1), (1, .int (kI ((ln : Nat) : Int))), (2, .int (kI (x))), (3, .ref out)]) hx hb dX0_isWithinByRays_20 hl (by decide) rfl (fun ls hl => ?_)
  refine kx_iconst hx hb dX0_isWithinByRays_22 ?_
  refine vx_ret ?_
  exact kx_iret (z := 1) hx hb hr hlk (⟨by rfl, by first | assumption | rfl | omega | grind⟩) hS_5 dX0_isWithinByRays_23

set_option maxHeartbeats 4000000 in
set_option maxRecDepth 100000 in
theorem wx_isWithinBySpreading (l : Launch) (hl9 : l.stackTraces = false) (D : kG) (H : Heap) (x1 : Nat) (snp : Option Nat) (hi : Nat) (bu : Nat) (st : Nat) (la : Nat) (mc : Int) (ea : Nat) (F : Fts) (S : Ls) (gap : Int) (li : Int) (x : Int) (out : Nat) (hO_x1 : kO D H x1 0 [.ref st, va_rf (snp), .ref hi, .ref bu]) (hO_st : kO D H st 1 [.ref la, .int (kI (gap))]) (hO_la : kO D H la 9 [.int (kI (mc)), .ref ea, .int (kI ((S.length : Nat) : Int))]) (hP_kLs_ea : kLs D H ea S.length F) (hP_kLn_F : kLn D H F S) (hok : LsOK S gap) (hr_li : -2147483648 ≤ li ∧ li ≤ 2147483647) (hnl : li < 0 ∨ (S.length : Int) ≤ li) : Met l yX0_isWithinBySpreading (wsW_ yX0_isWithinBySpreading cX0_isWithinBySpreading 5 (some .int) [((0 : Nat), (17 : Nat), (20 : Nat), (13 : Nat))]) ({ frames := 9, cells := 1, slots := 6, locals := 184 } : Room) (kPre D H [.ref x1, .int (kI (li)), .int (kI (x)), .ref out]) (kQi (fun (r : Int) H' => (r = 1) ∧ (True)) (kNW H)) (1) (6) ((kNW H)) := by
  refine met_of_vx (vx_ofWH (cc := cX0_isWithinBySpreading) (maxL := 5) (ret := (some .int)) (hh := [((0 : Nat), (17 : Nat), (20 : Nat), (13 : Nat))]) (by decide) rfl ?_)
  intro p e s m args below meth c s₁ B hml hv
  obtain ⟨rfl, hH, hK⟩ := hv
  subst hH
  have hx := B.exec
  have hb := B.bytes
  have hr := B.returns
  have hts := atoms_spec (ws := wsW_ yX0_isWithinBySpreading cX0_isWithinBySpreading 5 (some .int) [((0 : Nat), (17 : Nat), (20 : Nat), (13 : Nat))]) B.pre
  have htab := vx_table (x := yX0_isWithinBySpreading) B (hts _ List.mem_cons_self)
  have hts : ∀ w ∈ lw_all, w.before _ s = true := fun w h => hts w (List.mem_cons_of_mem _ h)
  have hown : s.vm.findClass RX0 = some m.cls := findClass_of_methodNamed B.named
  have hlk := B.notSynchronized
  have hS : va_S (kNW s.heap) s.heap s.heap [] := va_S.rf
  have hB : ∀ q, (kNW s.heap) q → kBase D ≤ q := fun q h => Nat.le_trans hK.size h
  have hl := lv_entry ([.ref x1, .int (kI (li)), .int (kI (x)), .ref out]) (n := 5) (Nat.le_of_ble_eq_true rfl)
  rw [lg_entry_eq]
  generalize (lg_sl ([.ref x1, .int (kI (li)), .int (kI (x)), .ref out]) ++ List.replicate (5 - (lg_sl ([.ref x1, .int (kI (li)), .int (kI (x)), .ref out])).length) Slot.unset).toArray = ls at hl ⊢
  have hl : lv_has ls 5 [(0, .ref x1), (1, .int (kI (li))), (2, .int (kI (x))), (3, .ref out)] := hl
  refine lv_aload_n hx hb dX0_isWithinBySpreading_0 rfl (lv_at hl 3 rfl) ?_
  refine kx_iconst hx hb dX0_isWithinBySpreading_1 ?_
  refine lv_aload_n hx hb dX0_isWithinBySpreading_2 rfl (lv_at hl 0 rfl) ?_
  refine lv_iload_n hx hb dX0_isWithinBySpreading_3 rfl (lv_at hl 1 rfl) ?_
  refine lv_iload_n hx hb dX0_isWithinBySpreading_4 rfl (lv_at hl 2 rfl) ?_
  refine kx_catch (own := RX0) (nm := "java/lang/IndexOutOfBoundsException") (vx_runV (As := [.int (kI (li)), .int (kI (x))]) (rest := [.int (kI (0)), .ref out]) ⟨hx, hb, hml, hown, hts⟩ (x_isWithinBySpreading l hl9 D s.heap x1 snp hi bu st la mc ea F S gap li x hO_x1 hO_st hO_la hP_kLs_ea hP_kLn_F (by first | assumption | omega) (by first | assumption | omega) (by first | assumption | omega)) (cwV 2 hts (lw_V q2089 q2090 q2091 q79 q2092) rfl rfl rfl (by decide +kernel) ⟨Nat.le_of_ble_eq_true rfl, Nat.le_of_ble_eq_true rfl⟩) (kx_pv hK hS hB (kx_rc hK hO_x1 (C := RX1) (T := TX1) (N := 4) rfl)) rfl rfl hl.1 rfl (lv_room (Nat.le_of_ble_eq_true rfl)) dX0_isWithinBySpreading_5 ⟨by first | exact Nat.le_of_ble_eq_true rfl | omega | (show _ ≤ _; omega) | (dsimp only [headSpec]; omega), by first | exact Nat.le_of_ble_eq_true rfl | omega | (show _ ≤ _; omega) | (dsimp only [headSpec]; omega)⟩) hS (fun q _ h => by have h9 := hS.1; (try dsimp only at h); (try dsimp only); (try simp only [kNW] at h); (try simp only [kNW]); omega) (fun q h => by have h9 := hS.1; (try dsimp only at h); (try dsimp only); (try simp only [kNW] at h); (try simp only [kNW]); omega) hts hK hown [] ⟨0, 17, 20, 13⟩ [] (by rw [htab]; rfl) (fun z hz => by cases hz) (by decide) (by decide) q1808 q1825 (fun q9_1 H_2 locs_3 hF_4 hS_5 => ?_)
  have hF_4 := hF_4.nw
  refine W.widen (k := 1) (n := 6) (Nat.le_of_ble_eq_true rfl) (Nat.le_of_ble_eq_true rfl) ?_
  refine lv_astore (lv' := [(4, .ref q9_1), (0, .ref x1), (1, .int (kI (li))), (2, .int (kI (x))), (3, .ref out)]) hx hb dX0_isWithinBySpreading_20 hl (by decide) rfl (fun ls hl => ?_)
  refine kx_iconst hx hb dX0_isWithinBySpreading_22 ?_
  refine vx_ret ?_
  exact kx_iret (z := 1) hx hb hr hlk (⟨by rfl, by first | assumption | rfl | omega | grind⟩) hS_5 dX0_isWithinBySpreading_23

set_option maxHeartbeats 4000000 in
set_option maxRecDepth 100000 in
theorem wx_isWithinBySpreading_p (l : Launch) (hl9 : l.stackTraces = false) (D : kG) (H : Heap) (x1 : Nat) (snp : Option Nat) (hi : Nat) (bu : Nat) (st : Nat) (la : Nat) (mc : Int) (ea : Nat) (F : Fts) (S : Ls) (gap : Int) (ln : Nat) (x : Int) (out : Nat) (hO_x1 : kO D H x1 0 [.ref st, va_rf (snp), .ref hi, .ref bu]) (hO_st : kO D H st 1 [.ref la, .int (kI (gap))]) (hO_la : kO D H la 9 [.int (kI (mc)), .ref ea, .int (kI ((S.length : Nat) : Int))]) (hP_kLs_ea : kLs D H ea S.length F) (hP_kLn_F : kLn D H F S) (hok : LsOK S gap) (hln : ln < S.length) (hr_x : -2147483648 ≤ x ∧ x ≤ 2147483647) (hpt : x < 0 ∨ 384 ≤ x) : Met l yX0_isWithinBySpreading (wsW_ yX0_isWithinBySpreading cX0_isWithinBySpreading 5 (some .int) [((0 : Nat), (17 : Nat), (20 : Nat), (13 : Nat))]) ({ frames := 9, cells := 1, slots := 6, locals := 183 } : Room) (kPre D H [.ref x1, .int (kI ((ln : Nat) : Int)), .int (kI (x)), .ref out]) (kQi (fun (r : Int) H' => (r = 1) ∧ (True)) (kNW H)) (1) (6) ((kNW H)) := by
  refine met_of_vx (vx_ofWH (cc := cX0_isWithinBySpreading) (maxL := 5) (ret := (some .int)) (hh := [((0 : Nat), (17 : Nat), (20 : Nat), (13 : Nat))]) (by decide) rfl ?_)
  intro p e s m args below meth c s₁ B hml hv
  obtain ⟨rfl, hH, hK⟩ := hv
  subst hH
  have hx := B.exec
  have hb := B.bytes
  have hr := B.returns
  have hts := atoms_spec (ws := wsW_ yX0_isWithinBySpreading cX0_isWithinBySpreading 5 (some .int) [((0 : Nat), (17 : Nat), (20 : Nat), (13 : Nat))]) B.pre
  have htab := vx_table (x := yX0_isWithinBySpreading) B (hts _ List.mem_cons_self)
  have hts : ∀ w ∈ lw_all, w.before _ s = true := fun w h => hts w (List.mem_cons_of_mem _ h)
  have hown : s.vm.findClass RX0 = some m.cls := findClass_of_methodNamed B.named
  have hlk := B.notSynchronized
  have hS : va_S (kNW s.heap) s.heap s.heap [] := va_S.rf
  have hB : ∀ q, (kNW s.heap) q → kBase D ≤ q := fun q h => Nat.le_trans hK.size h
  have hl := lv_entry ([.ref x1, .int (kI ((ln : Nat) : Int)), .int (kI (x)), .ref out]) (n := 5) (Nat.le_of_ble_eq_true rfl)
  rw [lg_entry_eq]
  generalize (lg_sl ([.ref x1, .int (kI ((ln : Nat) : Int)), .int (kI (x)), .ref out]) ++ List.replicate (5 - (lg_sl ([.ref x1, .int (kI ((ln : Nat) : Int)), .int (kI (x)), .ref out])).length) Slot.unset).toArray = ls at hl ⊢
  have hl : lv_has ls 5 [(0, .ref x1), (1, .int (kI ((ln : Nat) : Int))), (2, .int (kI (x))), (3, .ref out)] := hl
  refine lv_aload_n hx hb dX0_isWithinBySpreading_0 rfl (lv_at hl 3 rfl) ?_
  refine kx_iconst hx hb dX0_isWithinBySpreading_1 ?_
  refine lv_aload_n hx hb dX0_isWithinBySpreading_2 rfl (lv_at hl 0 rfl) ?_
  refine lv_iload_n hx hb dX0_isWithinBySpreading_3 rfl (lv_at hl 1 rfl) ?_
  refine lv_iload_n hx hb dX0_isWithinBySpreading_4 rfl (lv_at hl 2 rfl) ?_
  refine kx_catch (own := RX0) (nm := "java/lang/IndexOutOfBoundsException") (vx_runV (As := [.int (kI ((ln : Nat) : Int)), .int (kI (x))]) (rest := [.int (kI (0)), .ref out]) ⟨hx, hb, hml, hown, hts⟩ (x_isWithinBySpreading_p l hl9 D s.heap x1 snp hi bu st la mc ea F S gap ln x hO_x1 hO_st hO_la hP_kLs_ea hP_kLn_F (by first | assumption | omega) (by first | assumption | omega) (by first | assumption | omega) (by first | assumption | omega)) (cwV 2 hts (lw_V q2089 q2090 q2091 q79 q2092) rfl rfl rfl (by decide +kernel) ⟨Nat.le_of_ble_eq_true rfl, Nat.le_of_ble_eq_true rfl⟩) (kx_pv hK hS hB (kx_rc hK hO_x1 (C := RX1) (T := TX1) (N := 4) rfl)) rfl rfl hl.1 rfl (lv_room (Nat.le_of_ble_eq_true rfl)) dX0_isWithinBySpreading_5 ⟨by first | exact Nat.le_of_ble_eq_true rfl | omega | (show _ ≤ _; omega) | (dsimp only [headSpec]; omega), by first | exact Nat.le_of_ble_eq_true rfl | omega | (show _ ≤ _; omega) | (dsimp only [headSpec]; omega)⟩) hS (fun q _ h => by have h9 := hS.1; (try dsimp only at h); (try dsimp only); (try simp only [kNW] at h); (try simp only [kNW]); omega) (fun q h => by have h9 := hS.1; (try dsimp only at h); (try dsimp only); (try simp only [kNW] at h); (try simp only [kNW]); omega) hts hK hown [] ⟨0, 17, 20, 13⟩ [] (by rw [htab]; rfl) (fun z hz => by cases hz) (by decide) (by decide) q1808 q1825 (fun q9_1 H_2 locs_3 hF_4 hS_5 => ?_)
  have hF_4 := hF_4.nw
  refine W.widen (k := 1) (n := 6) (Nat.le_of_ble_eq_true rfl) (Nat.le_of_ble_eq_true rfl) ?_
  refine lv_astore (lv' := [(4, .ref q9_1), (0, .ref x1), (1, .int (kI ((ln : Nat) : Int))), (2, .int (kI (x))), (3, .ref out)]) hx hb dX0_isWithinBySpreading_20 hl (by decide) rfl (fun ls hl => ?_)
  refine kx_iconst hx hb dX0_isWithinBySpreading_22 ?_
  refine vx_ret ?_
  exact kx_iret (z := 1) hx hb hr hlk (⟨by rfl, by first | assumption | rfl | omega | grind⟩) hS_5 dX0_isWithinBySpreading_23

set_option maxHeartbeats 4000000 in
set_option maxRecDepth 100000 in
theorem wx_append_1 (l : Launch) (hl9 : l.stackTraces = false) (D : kG) (H : Heap) (x1 : Nat) (st : Nat) (snp : Option Nat) (hi : Nat) (bu : Nat) (x : Int) (out : Nat) (hO_x1 : kO D H x1 0 [.ref st, va_rf (snp), .ref hi, .ref bu]) (hr_x : -2147483648 ≤ x ∧ x ≤ 2147483647) (hxa : x < 32 ∨ 126 < x) : Met l yX0_append (wsW_ yX0_append cX0_append 4 (some .int) [((0 : Nat), (9 : Nat), (12 : Nat), (15 : Nat)), ((0 : Nat), (9 : Nat), (15 : Nat), (17 : Nat))]) ({ frames := 8, cells := 1, slots := 6, locals := 163 } : Room) (kPre D H [.ref x1, .int (kI (x)), .ref out]) (kQi (fun (r : Int) H' => (r = 1) ∧ (True)) (kNW H)) (1) (6) ((kNW H)) := by
  refine met_of_vx (vx_ofWH (cc := cX0_append) (maxL := 4) (ret := (some .int)) (hh := [((0 : Nat), (9 : Nat), (12 : Nat), (15 : Nat)), ((0 : Nat), (9 : Nat), (15 : Nat), (17 : Nat))]) (by decide) rfl ?_)
  intro p e s m args below meth c s₁ B hml hv
  obtain ⟨rfl, hH, hK⟩ := hv
  subst hH
  have hx := B.exec
  have hb := B.bytes
  have hr := B.returns
  have hts := atoms_spec (ws := wsW_ yX0_append cX0_append 4 (some .int) [((0 : Nat), (9 : Nat), (12 : Nat), (15 : Nat)), ((0 : Nat), (9 : Nat), (15 : Nat), (17 : Nat))]) B.pre
  have htab := vx_table (x := yX0_append) B (hts _ List.mem_cons_self)
  have hts : ∀ w ∈ lw_all, w.before _ s = true := fun w h => hts w (List.mem_cons_of_mem _ h)
  have hown : s.vm.findClass RX0 = some m.cls := findClass_of_methodNamed B.named
  have hlk := B.notSynchronized
  have hS : va_S (kNW s.heap) s.heap s.heap [] := va_S.rf
  have hB : ∀ q, (kNW s.heap) q → kBase D ≤ q := fun q h => Nat.le_trans hK.size h
  have hl := lv_entry ([.ref x1, .int (kI (x)), .ref out]) (n := 4) (Nat.le_of_ble_eq_true rfl)
  rw [lg_entry_eq]
  generalize (lg_sl ([.ref x1, .int (kI (x)), .ref out]) ++ List.replicate (4 - (lg_sl ([.ref x1, .int (kI (x)), .ref out])).length) Slot.unset).toArray = ls at hl ⊢
  have hl : lv_has ls 4 [(0, .ref x1), (1, .int (kI (x))), (2, .ref out)] := hl
  refine lv_aload_n hx hb dX0_append_0 rfl (lv_at hl 2 rfl) ?_
  refine kx_iconst hx hb dX0_append_1 ?_
  refine lv_aload_n hx hb dX0_append_2 rfl (lv_at hl 0 rfl) ?_
  refine lv_iload_n hx hb dX0_append_3 rfl (lv_at hl 1 rfl) ?_
  refine kx_catch (own := RX0) (nm := "java/lang/IllegalArgumentException") (vx_runV (As := [.int (kI (x))]) (rest := [.int (kI (0)), .ref out]) ⟨hx, hb, hml, hown, hts⟩ (x_append_1 l hl9 D s.heap x1 st snp hi bu x hO_x1 (by first | assumption | omega) (by first | assumption | omega)) (cwV 1 hts (lw_V q2167 q2168 q2169 q79 q2170) rfl rfl rfl (by decide +kernel) ⟨Nat.le_of_ble_eq_true rfl, Nat.le_of_ble_eq_true rfl⟩) (kx_pv hK hS hB (kx_rc hK hO_x1 (C := RX1) (T := TX1) (N := 4) rfl)) rfl rfl hl.1 rfl (lv_room (Nat.le_of_ble_eq_true rfl)) dX0_append_4 ⟨by first | exact Nat.le_of_ble_eq_true rfl | omega | (show _ ≤ _; omega) | (dsimp only [headSpec]; omega), by first | exact Nat.le_of_ble_eq_true rfl | omega | (show _ ≤ _; omega) | (dsimp only [headSpec]; omega)⟩) hS (fun q _ h => by have h9 := hS.1; (try dsimp only at h); (try dsimp only); (try simp only [kNW] at h); (try simp only [kNW]); omega) (fun q h => by have h9 := hS.1; (try dsimp only at h); (try dsimp only); (try simp only [kNW] at h); (try simp only [kNW]); omega) hts hK hown [] ⟨0, 9, 12, 15⟩ [⟨0, 9, 15, 17⟩] (by rw [htab]; rfl) (fun z hz => by cases hz) (by decide) (by decide) q1811 q1035 (fun q9_1 H_2 locs_3 hF_4 hS_5 => ?_)
  have hF_4 := hF_4.nw
  refine W.widen (k := 1) (n := 6) (Nat.le_of_ble_eq_true rfl) (Nat.le_of_ble_eq_true rfl) ?_
  refine lv_astore_n (lv' := [(3, .ref q9_1), (0, .ref x1), (1, .int (kI (x))), (2, .ref out)]) hx hb dX0_append_12 rfl hl (by decide) rfl (fun ls hl => ?_)
  refine kx_iconst hx hb dX0_append_13 ?_
  refine vx_ret ?_
  exact kx_iret (z := 1) hx hb hr hlk (⟨by rfl, by first | assumption | rfl | omega | grind⟩) hS_5 dX0_append_14

set_option maxHeartbeats 4000000 in
set_option maxRecDepth 100000 in
theorem wx_append_2 (l : Launch) (hl9 : l.stackTraces = false) (D : kG) (H : Heap) (x1 : Nat) (st : Nat) (snp : Option Nat) (hi : Nat) (bu : Nat) (vb : Nat) (t : List Int) (x : Int) (out : Nat) (hO_x1 : kO D H x1 0 [.ref st, va_rf (snp), .ref hi, .ref bu]) (hP_kTx_bu : kTx D H bu vb t) (hxa : 32 ≤ x ∧ x ≤ 126) (ht9 : t.length = 60) : Met l yX0_append (wsW_ yX0_append cX0_append 4 (some .int) [((0 : Nat), (9 : Nat), (12 : Nat), (15 : Nat)), ((0 : Nat), (9 : Nat), (15 : Nat), (17 : Nat))]) ({ frames := 8, cells := 1, slots := 6, locals := 161 } : Room) (kPre D H [.ref x1, .int (kI (x)), .ref out]) (kQi (fun (r : Int) H' => (r = 2) ∧ (True)) (kNW H)) (1) (6) ((kNW H)) := by
  refine met_of_vx (vx_ofWH (cc := cX0_append) (maxL := 4) (ret := (some .int)) (hh := [((0 : Nat), (9 : Nat), (12 : Nat), (15 : Nat)), ((0 : Nat), (9 : Nat), (15 : Nat), (17 : Nat))]) (by decide) rfl ?_)
  intro p e s m args below meth c s₁ B hml hv
  obtain ⟨rfl, hH, hK⟩ := hv
  subst hH
  have hx := B.exec
  have hb := B.bytes
  have hr := B.returns
  have hts := atoms_spec (ws := wsW_ yX0_append cX0_append 4 (some .int) [((0 : Nat), (9 : Nat), (12 : Nat), (15 : Nat)), ((0 : Nat), (9 : Nat), (15 : Nat), (17 : Nat))]) B.pre
  have htab := vx_table (x := yX0_append) B (hts _ List.mem_cons_self)
  have hts : ∀ w ∈ lw_all, w.before _ s = true := fun w h => hts w (List.mem_cons_of_mem _ h)
  have hown : s.vm.findClass RX0 = some m.cls := findClass_of_methodNamed B.named
  have hlk := B.notSynchronized
  have hS : va_S (kNW s.heap) s.heap s.heap [] := va_S.rf
  have hB : ∀ q, (kNW s.heap) q → kBase D ≤ q := fun q h => Nat.le_trans hK.size h
  have hl := lv_entry ([.ref x1, .int (kI (x)), .ref out]) (n := 4) (Nat.le_of_ble_eq_true rfl)
  rw [lg_entry_eq]
  generalize (lg_sl ([.ref x1, .int (kI (x)), .ref out]) ++ List.replicate (4 - (lg_sl ([.ref x1, .int (kI (x)), .ref out])).length) Slot.unset).toArray = ls at hl ⊢
  have hl : lv_has ls 4 [(0, .ref x1), (1, .int (kI (x))), (2, .ref out)] := hl
  refine lv_aload_n hx hb dX0_append_0 rfl (lv_at hl 2 rfl) ?_
  refine kx_iconst hx hb dX0_append_1 ?_
  refine lv_aload_n hx hb dX0_append_2 rfl (lv_at hl 0 rfl) ?_
  refine lv_iload_n hx hb dX0_append_3 rfl (lv_at hl 1 rfl) ?_
  refine kx_catch (own := RX0) (nm := "java/lang/IllegalStateException") (vx_runV (As := [.int (kI (x))]) (rest := [.int (kI (0)), .ref out]) ⟨hx, hb, hml, hown, hts⟩ (x_append_2 l hl9 D s.heap x1 st snp hi bu vb t x hO_x1 hP_kTx_bu (by first | assumption | omega) (by first | assumption | omega)) (cwV 1 hts (lw_V q2167 q2168 q2169 q79 q2170) rfl rfl rfl (by decide +kernel) ⟨Nat.le_of_ble_eq_true rfl, Nat.le_of_ble_eq_true rfl⟩) (kx_pv hK hS hB (kx_rc hK hO_x1 (C := RX1) (T := TX1) (N := 4) rfl)) rfl rfl hl.1 rfl (lv_room (Nat.le_of_ble_eq_true rfl)) dX0_append_4 ⟨by first | exact Nat.le_of_ble_eq_true rfl | omega | (show _ ≤ _; omega) | (dsimp only [headSpec]; omega), by first | exact Nat.le_of_ble_eq_true rfl | omega | (show _ ≤ _; omega) | (dsimp only [headSpec]; omega)⟩) hS (fun q _ h => by have h9 := hS.1; (try dsimp only at h); (try dsimp only); (try simp only [kNW] at h); (try simp only [kNW]); omega) (fun q h => by have h9 := hS.1; (try dsimp only at h); (try dsimp only); (try simp only [kNW] at h); (try simp only [kNW]); omega) hts hK hown [⟨0, 9, 12, 15⟩] ⟨0, 9, 15, 17⟩ [] (by rw [htab]; rfl) (fun z hz => by simp only [List.mem_cons, List.not_mem_nil, or_false] at hz; rcases hz with rfl; exact ⟨by decide, "java/lang/IllegalArgumentException", q1811, by decide⟩) (by decide) (by decide) q1812 q455 (fun q9_1 H_2 locs_3 hF_4 hS_5 => ?_)
  have hF_4 := hF_4.nw
  refine W.widen (k := 1) (n := 6) (Nat.le_of_ble_eq_true rfl) (Nat.le_of_ble_eq_true rfl) ?_
  refine lv_astore_n (lv' := [(3, .ref q9_1), (0, .ref x1), (1, .int (kI (x))), (2, .ref out)]) hx hb dX0_append_15 rfl hl (by decide) rfl (fun ls hl => ?_)
  refine kx_iconst hx hb dX0_append_16 ?_
  refine vx_ret ?_
  exact kx_iret (z := 2) hx hb hr hlk (⟨by rfl, by first | assumption | rfl | omega | grind⟩) hS_5 dX0_append_17

set_option maxHeartbeats 4000000 in
set_option maxRecDepth 100000 in
theorem wx_runText (l : Launch) (hl9 : l.stackTraces = false) (D : kG) (H : Heap) (x1 : Nat) (st : Nat) (snp : Option Nat) (hi : Nat) (bu : Nat) (vb : Nat) (t : List Int) (out : Nat) (hO_x1 : kO D H x1 0 [.ref st, va_rf (snp), .ref hi, .ref bu]) (hP_kTx_bu : kTx D H bu vb t) (hno : (tx_all t).1 = false) : Met l yX0_runText (wsW_ yX0_runText cX0_runText 3 (some .int) [((0 : Nat), (8 : Nat), (11 : Nat), (15 : Nat))]) ({ frames := 11, cells := 67, slots := 775, locals := 3187 } : Room) (kPre D H [.ref x1, .ref out]) (kQi (fun (r : Int) H' => (r = 1) ∧ (True)) (kNW H)) (67) (775) ((kNW H)) := by
  refine met_of_vx (vx_ofWH (cc := cX0_runText) (maxL := 3) (ret := (some .int)) (hh := [((0 : Nat), (8 : Nat), (11 : Nat), (15 : Nat))]) (by decide) rfl ?_)
  intro p e s m args below meth c s₁ B hml hv
  obtain ⟨rfl, hH, hK⟩ := hv
  subst hH
  have hx := B.exec
  have hb := B.bytes
  have hr := B.returns
  have hts := atoms_spec (ws := wsW_ yX0_runText cX0_runText 3 (some .int) [((0 : Nat), (8 : Nat), (11 : Nat), (15 : Nat))]) B.pre
  have htab := vx_table (x := yX0_runText) B (hts _ List.mem_cons_self)
  have hts : ∀ w ∈ lw_all, w.before _ s = true := fun w h => hts w (List.mem_cons_of_mem _ h)
  have hown : s.vm.findClass RX0 = some m.cls := findClass_of_methodNamed B.named
  have hlk := B.notSynchronized
  have hS : va_S (kNW s.heap) s.heap s.heap [] := va_S.rf
  have hB : ∀ q, (kNW s.heap) q → kBase D ≤ q := fun q h => Nat.le_trans hK.size h
  have hl := lv_entry ([.ref x1, .ref out]) (n := 3) (Nat.le_of_ble_eq_true rfl)
  rw [lg_entry_eq]
  generalize (lg_sl ([.ref x1, .ref out]) ++ List.replicate (3 - (lg_sl ([.ref x1, .ref out])).length) Slot.unset).toArray = ls at hl ⊢
  have hl : lv_has ls 3 [(0, .ref x1), (1, .ref out)] := hl
  refine lv_aload_n hx hb dX0_runText_0 rfl (lv_at hl 1 rfl) ?_
  refine kx_iconst hx hb dX0_runText_1 ?_
  refine lv_aload_n hx hb dX0_runText_2 rfl (lv_at hl 0 rfl) ?_
  refine kx_catch (own := RX0) (nm := "java/lang/IllegalArgumentException") (vx_runV (As := []) (rest := [.int (kI (0)), .ref out]) ⟨hx, hb, hml, hown, hts⟩ (x_runText l hl9 D s.heap x1 st snp hi bu vb t hO_x1 hP_kTx_bu (by first | assumption | omega)) (cwV 0 hts (lw_V q2191 q2192 q2193 q79 q2194) rfl rfl rfl (by decide +kernel) ⟨Nat.le_of_ble_eq_true rfl, Nat.le_of_ble_eq_true rfl⟩) (kx_pv hK hS hB (kx_rc hK hO_x1 (C := RX1) (T := TX1) (N := 4) rfl)) rfl rfl hl.1 rfl (lv_room (Nat.le_of_ble_eq_true rfl)) dX0_runText_3 ⟨by first | exact Nat.le_of_ble_eq_true rfl | omega | (show _ ≤ _; omega) | (dsimp only [headSpec]; omega), by first | exact Nat.le_of_ble_eq_true rfl | omega | (show _ ≤ _; omega) | (dsimp only [headSpec]; omega)⟩) hS (fun q _ h => by have h9 := hS.1; (try dsimp only at h); (try dsimp only); (try simp only [kNW] at h); (try simp only [kNW]); omega) (fun q h => by have h9 := hS.1; (try dsimp only at h); (try dsimp only); (try simp only [kNW] at h); (try simp only [kNW]); omega) hts hK hown [] ⟨0, 8, 11, 15⟩ [] (by rw [htab]; rfl) (fun z hz => by cases hz) (by decide) (by decide) q1811 q1035 (fun q9_1 H_2 locs_3 hF_4 hS_5 => ?_)
  have hF_4 := hF_4.nw
  refine W.widen (k := 67) (n := 775) (Nat.le_of_ble_eq_true rfl) (Nat.le_of_ble_eq_true rfl) ?_
  refine lv_astore_n (lv' := [(2, .ref q9_1), (0, .ref x1), (1, .ref out)]) hx hb dX0_runText_11 rfl hl (by decide) rfl (fun ls hl => ?_)
  refine kx_iconst hx hb dX0_runText_12 ?_
  refine vx_ret ?_
  exact kx_iret (z := 1) hx hb hr hlk (⟨by rfl, by first | assumption | rfl | omega | grind⟩) hS_5 dX0_runText_13

set_option maxHeartbeats 4000000 in
set_option maxRecDepth 100000 in
theorem wx_undo (l : Launch) (hl9 : l.stackTraces = false) (D : kG) (H : Heap) (x1 : Nat) (st : Nat) (snp : Option Nat) (hi : Nat) (bu : Nat) (es : Nat) (L : List Nat) (out : Nat) (hO_x1 : kO D H x1 0 [.ref st, va_rf (snp), .ref hi, .ref bu]) (hP_kDq_hi : kDq D H hi es L) (hL0 : L.length = 0) : Met l yX0_undo (wsW_ yX0_undo cX0_undo 3 (some .int) [((0 : Nat), (8 : Nat), (11 : Nat), (17 : Nat))]) ({ frames := 8, cells := 1, slots := 6, locals := 160 } : Room) (kPre D H [.ref x1, .ref out]) (kQi (fun (r : Int) H' => (r = 1) ∧ (True)) (kNW H)) (1) (6) ((kNW H)) := by
  refine met_of_vx (vx_ofWH (cc := cX0_undo) (maxL := 3) (ret := (some .int)) (hh := [((0 : Nat), (8 : Nat), (11 : Nat), (17 : Nat))]) (by decide) rfl ?_)
  intro p e s m args below meth c s₁ B hml hv
  obtain ⟨rfl, hH, hK⟩ := hv
  subst hH
  have hx := B.exec
  have hb := B.bytes
  have hr := B.returns
  have hts := atoms_spec (ws := wsW_ yX0_undo cX0_undo 3 (some .int) [((0 : Nat), (8 : Nat), (11 : Nat), (17 : Nat))]) B.pre
  have htab := vx_table (x := yX0_undo) B (hts _ List.mem_cons_self)
  have hts : ∀ w ∈ lw_all, w.before _ s = true := fun w h => hts w (List.mem_cons_of_mem _ h)
  have hown : s.vm.findClass RX0 = some m.cls := findClass_of_methodNamed B.named
  have hlk := B.notSynchronized
  have hS : va_S (kNW s.heap) s.heap s.heap [] := va_S.rf
  have hB : ∀ q, (kNW s.heap) q → kBase D ≤ q := fun q h => Nat.le_trans hK.size h
  have hl := lv_entry ([.ref x1, .ref out]) (n := 3) (Nat.le_of_ble_eq_true rfl)
  rw [lg_entry_eq]
  generalize (lg_sl ([.ref x1, .ref out]) ++ List.replicate (3 - (lg_sl ([.ref x1, .ref out])).length) Slot.unset).toArray = ls at hl ⊢
  have hl : lv_has ls 3 [(0, .ref x1), (1, .ref out)] := hl
  refine lv_aload_n hx hb dX0_undo_0 rfl (lv_at hl 1 rfl) ?_
  refine kx_iconst hx hb dX0_undo_1 ?_
  refine lv_aload_n hx hb dX0_undo_2 rfl (lv_at hl 0 rfl) ?_
  refine kx_catch (own := RX0) (nm := "java/lang/IllegalStateException") (vx_runV (As := []) (rest := [.int (kI (0)), .ref out]) ⟨hx, hb, hml, hown, hts⟩ (x_undo l hl9 D s.heap x1 st snp hi bu es L hO_x1 hP_kDq_hi (by first | assumption | omega)) (cwV 0 hts (lw_V q2206 q2207 q2208 q79 q2209) rfl rfl rfl (by decide +kernel) ⟨Nat.le_of_ble_eq_true rfl, Nat.le_of_ble_eq_true rfl⟩) (kx_pv hK hS hB (kx_rc hK hO_x1 (C := RX1) (T := TX1) (N := 4) rfl)) rfl rfl hl.1 rfl (lv_room (Nat.le_of_ble_eq_true rfl)) dX0_undo_3 ⟨by first | exact Nat.le_of_ble_eq_true rfl | omega | (show _ ≤ _; omega) | (dsimp only [headSpec]; omega), by first | exact Nat.le_of_ble_eq_true rfl | omega | (show _ ≤ _; omega) | (dsimp only [headSpec]; omega)⟩) hS (fun q _ h => by have h9 := hS.1; (try dsimp only at h); (try dsimp only); (try simp only [kNW] at h); (try simp only [kNW]); omega) (fun q h => by have h9 := hS.1; (try dsimp only at h); (try dsimp only); (try simp only [kNW] at h); (try simp only [kNW]); omega) hts hK hown [] ⟨0, 8, 11, 17⟩ [] (by rw [htab]; rfl) (fun z hz => by cases hz) (by decide) (by decide) q1812 q455 (fun q9_1 H_2 locs_3 hF_4 hS_5 => ?_)
  have hF_4 := hF_4.nw
  refine W.widen (k := 1) (n := 6) (Nat.le_of_ble_eq_true rfl) (Nat.le_of_ble_eq_true rfl) ?_
  refine lv_astore_n (lv' := [(2, .ref q9_1), (0, .ref x1), (1, .ref out)]) hx hb dX0_undo_11 rfl hl (by decide) rfl (fun ls hl => ?_)
  refine kx_iconst hx hb dX0_undo_12 ?_
  refine vx_ret ?_
  exact kx_iret (z := 1) hx hb hr hlk (⟨by rfl, by first | assumption | rfl | omega | grind⟩) hS_5 dX0_undo_13

set_option maxHeartbeats 4000000 in
set_option maxRecDepth 100000 in
theorem wx_restoreSnapshot (l : Launch) (hl9 : l.stackTraces = false) (D : kG) (H : Heap) (x1 : Nat) (snp : Option Nat) (hi : Nat) (bu : Nat) (st : Nat) (la : Nat) (mc : Int) (ea : Nat) (F : Fts) (S : Ls) (gap : Int) (out : Nat) (hO_x1 : kO D H x1 0 [.ref st, .null, .ref hi, .ref bu]) (hO_st : kO D H st 1 [.ref la, .int (kI (gap))]) (hO_la : kO D H la 9 [.int (kI (mc)), .ref ea, .int (kI ((S.length : Nat) : Int))]) (hP_kLs_ea : kLs D H ea S.length F) (hP_kLn_F : kLn D H F S) (hok : LsOK S gap) : Met l yX0_restoreSnapshot (wsW_ yX0_restoreSnapshot cX0_restoreSnapshot 3 (some .int) [((0 : Nat), (8 : Nat), (11 : Nat), (17 : Nat))]) ({ frames := 8, cells := 1, slots := 6, locals := 160 } : Room) (kPre D H [.ref x1, .ref out]) (kQi (fun (r : Int) H' => (r = 1) ∧ (True)) (kNW H)) (1) (6) ((kNW H)) := by
  refine met_of_vx (vx_ofWH (cc := cX0_restoreSnapshot) (maxL := 3) (ret := (some .int)) (hh := [((0 : Nat), (8 : Nat), (11 : Nat), (17 : Nat))]) (by decide) rfl ?_)
  intro p e s m args below meth c s₁ B hml hv
  obtain ⟨rfl, hH, hK⟩ := hv
  subst hH
  have hx := B.exec
  have hb := B.bytes
  have hr := B.returns
  have hts := atoms_spec (ws := wsW_ yX0_restoreSnapshot cX0_restoreSnapshot 3 (some .int) [((0 : Nat), (8 : Nat), (11 : Nat), (17 : Nat))]) B.pre
  have htab := vx_table (x := yX0_restoreSnapshot) B (hts _ List.mem_cons_self)
  have hts : ∀ w ∈ lw_all, w.before _ s = true := fun w h => hts w (List.mem_cons_of_mem _ h)
  have hown : s.vm.findClass RX0 = some m.cls := findClass_of_methodNamed B.named
  have hlk := B.notSynchronized
  have hS : va_S (kNW s.heap) s.heap s.heap [] := va_S.rf
  have hB : ∀ q, (kNW s.heap) q → kBase D ≤ q := fun q h => Nat.le_trans hK.size h
  have hl := lv_entry ([.ref x1, .ref out]) (n := 3) (Nat.le_of_ble_eq_true rfl)
  rw [lg_entry_eq]
  generalize (lg_sl ([.ref x1, .ref out]) ++ List.replicate (3 - (lg_sl ([.ref x1, .ref out])).length) Slot.unset).toArray = ls at hl ⊢
  have hl : lv_has ls 3 [(0, .ref x1), (1, .ref out)] := hl
  refine lv_aload_n hx hb dX0_restoreSnapshot_0 rfl (lv_at hl 1 rfl) ?_
  refine kx_iconst hx hb dX0_restoreSnapshot_1 ?_
  refine lv_aload_n hx hb dX0_restoreSnapshot_2 rfl (lv_at hl 0 rfl) ?_
  refine kx_catch (own := RX0) (nm := "java/lang/IllegalStateException") (vx_runV (As := []) (rest := [.int (kI (0)), .ref out]) ⟨hx, hb, hml, hown, hts⟩ (x_restoreSnapshot l hl9 D s.heap x1 snp hi bu st la mc ea F S gap hO_x1 hO_st hO_la hP_kLs_ea hP_kLn_F (by first | assumption | omega)) (cwV 0 hts (lw_V q2228 q2229 q2230 q79 q2231) rfl rfl rfl (by decide +kernel) ⟨Nat.le_of_ble_eq_true rfl, Nat.le_of_ble_eq_true rfl⟩) (kx_pv hK hS hB (kx_rc hK hO_x1 (C := RX1) (T := TX1) (N := 4) rfl)) rfl rfl hl.1 rfl (lv_room (Nat.le_of_ble_eq_true rfl)) dX0_restoreSnapshot_3 ⟨by first | exact Nat.le_of_ble_eq_true rfl | omega | (show _ ≤ _; omega) | (dsimp only [headSpec]; omega), by first | exact Nat.le_of_ble_eq_true rfl | omega | (show _ ≤ _; omega) | (dsimp only [headSpec]; omega)⟩) hS (fun q _ h => by have h9 := hS.1; (try dsimp only at h); (try dsimp only); (try simp only [kNW] at h); (try simp only [kNW]); omega) (fun q h => by have h9 := hS.1; (try dsimp only at h); (try dsimp only); (try simp only [kNW] at h); (try simp only [kNW]); omega) hts hK hown [] ⟨0, 8, 11, 17⟩ [] (by rw [htab]; rfl) (fun z hz => by cases hz) (by decide) (by decide) q1812 q455 (fun q9_1 H_2 locs_3 hF_4 hS_5 => ?_)
  have hF_4 := hF_4.nw
  refine W.widen (k := 1) (n := 6) (Nat.le_of_ble_eq_true rfl) (Nat.le_of_ble_eq_true rfl) ?_
  refine lv_astore_n (lv' := [(2, .ref q9_1), (0, .ref x1), (1, .ref out)]) hx hb dX0_restoreSnapshot_11 rfl hl (by decide) rfl (fun ls hl => ?_)
  refine kx_iconst hx hb dX0_restoreSnapshot_12 ?_
  refine vx_ret ?_
  exact kx_iret (z := 1) hx hb hr hlk (⟨by rfl, by first | assumption | rfl | omega | grind⟩) hS_5 dX0_restoreSnapshot_13

set_option maxHeartbeats 4000000 in
set_option maxRecDepth 100000 in
theorem wx_lineByLevel (l : Launch) (hl9 : l.stackTraces = false) (D : kG) (H : Heap) (x1 : Nat) (snp : Option Nat) (hi : Nat) (bu : Nat) (st : Nat) (la : Nat) (mc : Int) (ea : Nat) (F : Fts) (S : Ls) (gap : Int) (li : Int) (out : Nat) (hO_x1 : kO D H x1 0 [.ref st, va_rf (snp), .ref hi, .ref bu]) (hO_st : kO D H st 1 [.ref la, .int (kI (gap))]) (hO_la : kO D H la 9 [.int (kI (mc)), .ref ea, .int (kI ((S.length : Nat) : Int))]) (hP_kLs_ea : kLs D H ea S.length F) (hP_kLn_F : kLn D H F S) (hok : LsOK S gap) (hr_li : -2147483648 ≤ li ∧ li ≤ 2147483647) (hnl : li < 0 ∨ (S.length : Int) ≤ li) : Met l yX0_lineByLevel (wsW_ yX0_lineByLevel cX0_lineByLevel 4 (some .int) [((0 : Nat), (9 : Nat), (12 : Nat), (13 : Nat))]) ({ frames := 8, cells := 1, slots := 6, locals := 162 } : Room) (kPre D H [.ref x1, .int (kI (li)), .ref out]) (kQi (fun (r : Int) H' => (r = 1) ∧ (True)) (kNW H)) (1) (6) ((kNW H)) := by
  refine met_of_vx (vx_ofWH (cc := cX0_lineByLevel) (maxL := 4) (ret := (some .int)) (hh := [((0 : Nat), (9 : Nat), (12 : Nat), (13 : Nat))]) (by decide) rfl ?_)
  intro p e s m args below meth c s₁ B hml hv
  obtain ⟨rfl, hH, hK⟩ := hv
  subst hH
  have hx := B.exec
  have hb := B.bytes
  have hr := B.returns
  have hts := atoms_spec (ws := wsW_ yX0_lineByLevel cX0_lineByLevel 4 (some .int) [((0 : Nat), (9 : Nat), (12 : Nat), (13 : Nat))]) B.pre
  have htab := vx_table (x := yX0_lineByLevel) B (hts _ List.mem_cons_self)
  have hts : ∀ w ∈ lw_all, w.before _ s = true := fun w h => hts w (List.mem_cons_of_mem _ h)
  have hown : s.vm.findClass RX0 = some m.cls := findClass_of_methodNamed B.named
  have hlk := B.notSynchronized
  have hS : va_S (kNW s.heap) s.heap s.heap [] := va_S.rf
  have hB : ∀ q, (kNW s.heap) q → kBase D ≤ q := fun q h => Nat.le_trans hK.size h
  have hl := lv_entry ([.ref x1, .int (kI (li)), .ref out]) (n := 4) (Nat.le_of_ble_eq_true rfl)
  rw [lg_entry_eq]
  generalize (lg_sl ([.ref x1, .int (kI (li)), .ref out]) ++ List.replicate (4 - (lg_sl ([.ref x1, .int (kI (li)), .ref out])).length) Slot.unset).toArray = ls at hl ⊢
  have hl : lv_has ls 4 [(0, .ref x1), (1, .int (kI (li))), (2, .ref out)] := hl
  refine lv_aload_n hx hb dX0_lineByLevel_0 rfl (lv_at hl 2 rfl) ?_
  refine kx_iconst hx hb dX0_lineByLevel_1 ?_
  refine lv_aload_n hx hb dX0_lineByLevel_2 rfl (lv_at hl 0 rfl) ?_
  refine lv_iload_n hx hb dX0_lineByLevel_3 rfl (lv_at hl 1 rfl) ?_
  refine kx_catch (own := RX0) (nm := "java/lang/IndexOutOfBoundsException") (vx_runV (As := [.int (kI (li))]) (rest := [.int (kI (0)), .ref out]) ⟨hx, hb, hml, hown, hts⟩ (x_lineByLevel l hl9 D s.heap x1 snp hi bu st la mc ea F S gap li hO_x1 hO_st hO_la hP_kLs_ea hP_kLn_F (by first | assumption | omega) (by first | assumption | omega) (by first | assumption | omega)) (cwV 1 hts (lw_V q2156 q2157 q2158 q79 q2159) rfl rfl rfl (by decide +kernel) ⟨Nat.le_of_ble_eq_true rfl, Nat.le_of_ble_eq_true rfl⟩) (kx_pv hK hS hB (kx_rc hK hO_x1 (C := RX1) (T := TX1) (N := 4) rfl)) rfl rfl hl.1 rfl (lv_room (Nat.le_of_ble_eq_true rfl)) dX0_lineByLevel_4 ⟨by first | exact Nat.le_of_ble_eq_true rfl | omega | (show _ ≤ _; omega) | (dsimp only [headSpec]; omega), by first | exact Nat.le_of_ble_eq_true rfl | omega | (show _ ≤ _; omega) | (dsimp only [headSpec]; omega)⟩) hS (fun q _ h => by have h9 := hS.1; (try dsimp only at h); (try dsimp only); (try simp only [kNW] at h); (try simp only [kNW]); omega) (fun q h => by have h9 := hS.1; (try dsimp only at h); (try dsimp only); (try simp only [kNW] at h); (try simp only [kNW]); omega) hts hK hown [] ⟨0, 9, 12, 13⟩ [] (by rw [htab]; rfl) (fun z hz => by cases hz) (by decide) (by decide) q1808 q1825 (fun q9_1 H_2 locs_3 hF_4 hS_5 => ?_)
  have hF_4 := hF_4.nw
  refine W.widen (k := 1) (n := 6) (Nat.le_of_ble_eq_true rfl) (Nat.le_of_ble_eq_true rfl) ?_
  refine lv_astore_n (lv' := [(3, .ref q9_1), (0, .ref x1), (1, .int (kI (li))), (2, .ref out)]) hx hb dX0_lineByLevel_12 rfl hl (by decide) rfl (fun ls hl => ?_)
  refine kx_iconst hx hb dX0_lineByLevel_13 ?_
  refine vx_ret ?_
  exact kx_iret (z := 1) hx hb hr hlk (⟨by rfl, by first | assumption | rfl | omega | grind⟩) hS_5 dX0_lineByLevel_14

set_option maxHeartbeats 4000000 in
set_option maxRecDepth 100000 in
theorem wx_stepsOf (l : Launch) (hl9 : l.stackTraces = false) (D : kG) (H : Heap) (x1 : Nat) (snp : Option Nat) (hi : Nat) (bu : Nat) (st : Nat) (la : Nat) (mc : Int) (ea : Nat) (F : Fts) (S : Ls) (gap : Int) (li : Int) (out : Nat) (hO_x1 : kO D H x1 0 [.ref st, va_rf (snp), .ref hi, .ref bu]) (hO_st : kO D H st 1 [.ref la, .int (kI (gap))]) (hO_la : kO D H la 9 [.int (kI (mc)), .ref ea, .int (kI ((S.length : Nat) : Int))]) (hP_kLs_ea : kLs D H ea S.length F) (hP_kLn_F : kLn D H F S) (hok : LsOK S gap) (hr_li : -2147483648 ≤ li ∧ li ≤ 2147483647) (hnl : li < 0 ∨ (S.length : Int) ≤ li) : Met l yX0_stepsOf (wsW_ yX0_stepsOf cX0_stepsOf 4 (some .int) [((0 : Nat), (9 : Nat), (12 : Nat), (13 : Nat))]) ({ frames := 9, cells := 1, slots := 6, locals := 183 } : Room) (kPre D H [.ref x1, .int (kI (li)), .ref out]) (kQi (fun (r : Int) H' => (r = 1) ∧ (True)) (kNW H)) (1) (6) ((kNW H)) := by
  refine met_of_vx (vx_ofWH (cc := cX0_stepsOf) (maxL := 4) (ret := (some .int)) (hh := [((0 : Nat), (9 : Nat), (12 : Nat), (13 : Nat))]) (by decide) rfl ?_)
  intro p e s m args below meth c s₁ B hml hv
  obtain ⟨rfl, hH, hK⟩ := hv
  subst hH
  have hx := B.exec
  have hb := B.bytes
  have hr := B.returns
  have hts := atoms_spec (ws := wsW_ yX0_stepsOf cX0_stepsOf 4 (some .int) [((0 : Nat), (9 : Nat), (12 : Nat), (13 : Nat))]) B.pre
  have htab := vx_table (x := yX0_stepsOf) B (hts _ List.mem_cons_self)
  have hts : ∀ w ∈ lw_all, w.before _ s = true := fun w h => hts w (List.mem_cons_of_mem _ h)
  have hown : s.vm.findClass RX0 = some m.cls := findClass_of_methodNamed B.named
  have hlk := B.notSynchronized
  have hS : va_S (kNW s.heap) s.heap s.heap [] := va_S.rf
  have hB : ∀ q, (kNW s.heap) q → kBase D ≤ q := fun q h => Nat.le_trans hK.size h
  have hl := lv_entry ([.ref x1, .int (kI (li)), .ref out]) (n := 4) (Nat.le_of_ble_eq_true rfl)
  rw [lg_entry_eq]
  generalize (lg_sl ([.ref x1, .int (kI (li)), .ref out]) ++ List.replicate (4 - (lg_sl ([.ref x1, .int (kI (li)), .ref out])).length) Slot.unset).toArray = ls at hl ⊢
  have hl : lv_has ls 4 [(0, .ref x1), (1, .int (kI (li))), (2, .ref out)] := hl
  refine lv_aload_n hx hb dX0_stepsOf_0 rfl (lv_at hl 2 rfl) ?_
  refine kx_iconst hx hb dX0_stepsOf_1 ?_
  refine lv_aload_n hx hb dX0_stepsOf_2 rfl (lv_at hl 0 rfl) ?_
  refine lv_iload_n hx hb dX0_stepsOf_3 rfl (lv_at hl 1 rfl) ?_
  refine kx_catch (own := RX0) (nm := "java/lang/IndexOutOfBoundsException") (vx_runV (As := [.int (kI (li))]) (rest := [.int (kI (0)), .ref out]) ⟨hx, hb, hml, hown, hts⟩ (x_stepsOf l hl9 D s.heap x1 snp hi bu st la mc ea F S gap li hO_x1 hO_st hO_la hP_kLs_ea hP_kLn_F (by first | assumption | omega) (by first | assumption | omega) (by first | assumption | omega)) (cwV 1 hts (lw_V q1941 q1942 q1943 q79 q1944) rfl rfl rfl (by decide +kernel) ⟨Nat.le_of_ble_eq_true rfl, Nat.le_of_ble_eq_true rfl⟩) (kx_pv hK hS hB (kx_rc hK hO_x1 (C := RX1) (T := TX1) (N := 4) rfl)) rfl rfl hl.1 rfl (lv_room (Nat.le_of_ble_eq_true rfl)) dX0_stepsOf_4 ⟨by first | exact Nat.le_of_ble_eq_true rfl | omega | (show _ ≤ _; omega) | (dsimp only [headSpec]; omega), by first | exact Nat.le_of_ble_eq_true rfl | omega | (show _ ≤ _; omega) | (dsimp only [headSpec]; omega)⟩) hS (fun q _ h => by have h9 := hS.1; (try dsimp only at h); (try dsimp only); (try simp only [kNW] at h); (try simp only [kNW]); omega) (fun q h => by have h9 := hS.1; (try dsimp only at h); (try dsimp only); (try simp only [kNW] at h); (try simp only [kNW]); omega) hts hK hown [] ⟨0, 9, 12, 13⟩ [] (by rw [htab]; rfl) (fun z hz => by cases hz) (by decide) (by decide) q1808 q1825 (fun q9_1 H_2 locs_3 hF_4 hS_5 => ?_)
  have hF_4 := hF_4.nw
  refine W.widen (k := 1) (n := 6) (Nat.le_of_ble_eq_true rfl) (Nat.le_of_ble_eq_true rfl) ?_
  refine lv_astore_n (lv' := [(3, .ref q9_1), (0, .ref x1), (1, .int (kI (li))), (2, .ref out)]) hx hb dX0_stepsOf_12 rfl hl (by decide) rfl (fun ls hl => ?_)
  refine kx_iconst hx hb dX0_stepsOf_13 ?_
  refine vx_ret ?_
  exact kx_iret (z := 1) hx hb hr hlk (⟨by rfl, by first | assumption | rfl | omega | grind⟩) hS_5 dX0_stepsOf_14

set_option maxHeartbeats 4000000 in
set_option maxRecDepth 100000 in
theorem wx_labelOf (l : Launch) (hl9 : l.stackTraces = false) (D : kG) (H : Heap) (x1 : Nat) (snp : Option Nat) (hi : Nat) (bu : Nat) (st : Nat) (la : Nat) (mc : Int) (ea : Nat) (F : Fts) (S : Ls) (gap : Int) (li : Int) (out : Nat) (hO_x1 : kO D H x1 0 [.ref st, va_rf (snp), .ref hi, .ref bu]) (hO_st : kO D H st 1 [.ref la, .int (kI (gap))]) (hO_la : kO D H la 9 [.int (kI (mc)), .ref ea, .int (kI ((S.length : Nat) : Int))]) (hP_kLs_ea : kLs D H ea S.length F) (hP_kLn_F : kLn D H F S) (hok : LsOK S gap) (hr_li : -2147483648 ≤ li ∧ li ≤ 2147483647) (hnl : li < 0 ∨ (S.length : Int) ≤ li) : Met l yX0_labelOf (wsW_ yX0_labelOf cX0_labelOf 4 (some .int) [((0 : Nat), (9 : Nat), (12 : Nat), (13 : Nat))]) ({ frames := 9, cells := 1, slots := 6, locals := 183 } : Room) (kPre D H [.ref x1, .int (kI (li)), .ref out]) (kQi (fun (r : Int) H' => (r = 1) ∧ (True)) (kNW H)) (1) (6) ((kNW H)) := by
  refine met_of_vx (vx_ofWH (cc := cX0_labelOf) (maxL := 4) (ret := (some .int)) (hh := [((0 : Nat), (9 : Nat), (12 : Nat), (13 : Nat))]) (by decide) rfl ?_)
  intro p e s m args below meth c s₁ B hml hv
  obtain ⟨rfl, hH, hK⟩ := hv
  subst hH
  have hx := B.exec
  have hb := B.bytes
  have hr := B.returns
  have hts := atoms_spec (ws := wsW_ yX0_labelOf cX0_labelOf 4 (some .int) [((0 : Nat), (9 : Nat), (12 : Nat), (13 : Nat))]) B.pre
  have htab := vx_table (x := yX0_labelOf) B (hts _ List.mem_cons_self)
  have hts : ∀ w ∈ lw_all, w.before _ s = true := fun w h => hts w (List.mem_cons_of_mem _ h)
  have hown : s.vm.findClass RX0 = some m.cls := findClass_of_methodNamed B.named
  have hlk := B.notSynchronized
  have hS : va_S (kNW s.heap) s.heap s.heap [] := va_S.rf
  have hB : ∀ q, (kNW s.heap) q → kBase D ≤ q := fun q h => Nat.le_trans hK.size h
  have hl := lv_entry ([.ref x1, .int (kI (li)), .ref out]) (n := 4) (Nat.le_of_ble_eq_true rfl)
  rw [lg_entry_eq]
  generalize (lg_sl ([.ref x1, .int (kI (li)), .ref out]) ++ List.replicate (4 - (lg_sl ([.ref x1, .int (kI (li)), .ref out])).length) Slot.unset).toArray = ls at hl ⊢
  have hl : lv_has ls 4 [(0, .ref x1), (1, .int (kI (li))), (2, .ref out)] := hl
  refine lv_aload_n hx hb dX0_labelOf_0 rfl (lv_at hl 2 rfl) ?_
  refine kx_iconst hx hb dX0_labelOf_1 ?_
  refine lv_aload_n hx hb dX0_labelOf_2 rfl (lv_at hl 0 rfl) ?_
  refine lv_iload_n hx hb dX0_labelOf_3 rfl (lv_at hl 1 rfl) ?_
  refine kx_catch (own := RX0) (nm := "java/lang/IndexOutOfBoundsException") (vx_runV (As := [.int (kI (li))]) (rest := [.int (kI (0)), .ref out]) ⟨hx, hb, hml, hown, hts⟩ (x_labelOf l hl9 D s.heap x1 snp hi bu st la mc ea F S gap li hO_x1 hO_st hO_la hP_kLs_ea hP_kLn_F (by first | assumption | omega) (by first | assumption | omega) (by first | assumption | omega)) (cwV 1 hts (lw_V q2006 q2007 q2008 q79 q2009) rfl rfl rfl (by decide +kernel) ⟨Nat.le_of_ble_eq_true rfl, Nat.le_of_ble_eq_true rfl⟩) (kx_pv hK hS hB (kx_rc hK hO_x1 (C := RX1) (T := TX1) (N := 4) rfl)) rfl rfl hl.1 rfl (lv_room (Nat.le_of_ble_eq_true rfl)) dX0_labelOf_4 ⟨by first | exact Nat.le_of_ble_eq_true rfl | omega | (show _ ≤ _; omega) | (dsimp only [headSpec]; omega), by first | exact Nat.le_of_ble_eq_true rfl | omega | (show _ ≤ _; omega) | (dsimp only [headSpec]; omega)⟩) hS (fun q _ h => by have h9 := hS.1; (try dsimp only at h); (try dsimp only); (try simp only [kNW] at h); (try simp only [kNW]); omega) (fun q h => by have h9 := hS.1; (try dsimp only at h); (try dsimp only); (try simp only [kNW] at h); (try simp only [kNW]); omega) hts hK hown [] ⟨0, 9, 12, 13⟩ [] (by rw [htab]; rfl) (fun z hz => by cases hz) (by decide) (by decide) q1808 q1825 (fun q9_1 H_2 locs_3 hF_4 hS_5 => ?_)
  have hF_4 := hF_4.nw
  refine W.widen (k := 1) (n := 6) (Nat.le_of_ble_eq_true rfl) (Nat.le_of_ble_eq_true rfl) ?_
  refine lv_astore_n (lv' := [(3, .ref q9_1), (0, .ref x1), (1, .int (kI (li))), (2, .ref out)]) hx hb dX0_labelOf_12 rfl hl (by decide) rfl (fun ls hl => ?_)
  refine kx_iconst hx hb dX0_labelOf_13 ?_
  refine vx_ret ?_
  exact kx_iret (z := 1) hx hb hr hlk (⟨by rfl, by first | assumption | rfl | omega | grind⟩) hS_5 dX0_labelOf_14

set_option maxHeartbeats 4000000 in
set_option maxRecDepth 100000 in
theorem wx_isClosed (l : Launch) (hl9 : l.stackTraces = false) (D : kG) (H : Heap) (x1 : Nat) (snp : Option Nat) (hi : Nat) (bu : Nat) (st : Nat) (la : Nat) (mc : Int) (ea : Nat) (F : Fts) (S : Ls) (gap : Int) (li : Int) (out : Nat) (hO_x1 : kO D H x1 0 [.ref st, va_rf (snp), .ref hi, .ref bu]) (hO_st : kO D H st 1 [.ref la, .int (kI (gap))]) (hO_la : kO D H la 9 [.int (kI (mc)), .ref ea, .int (kI ((S.length : Nat) : Int))]) (hP_kLs_ea : kLs D H ea S.length F) (hP_kLn_F : kLn D H F S) (hok : LsOK S gap) (hr_li : -2147483648 ≤ li ∧ li ≤ 2147483647) (hnl : li < 0 ∨ (S.length : Int) ≤ li) : Met l yX0_isClosed (wsW_ yX0_isClosed cX0_isClosed 4 (some .int) [((0 : Nat), (16 : Nat), (19 : Nat), (13 : Nat))]) ({ frames := 9, cells := 1, slots := 6, locals := 183 } : Room) (kPre D H [.ref x1, .int (kI (li)), .ref out]) (kQi (fun (r : Int) H' => (r = 1) ∧ (True)) (kNW H)) (1) (6) ((kNW H)) := by
  refine met_of_vx (vx_ofWH (cc := cX0_isClosed) (maxL := 4) (ret := (some .int)) (hh := [((0 : Nat), (16 : Nat), (19 : Nat), (13 : Nat))]) (by decide) rfl ?_)
  intro p e s m args below meth c s₁ B hml hv
  obtain ⟨rfl, hH, hK⟩ := hv
  subst hH
  have hx := B.exec
  have hb := B.bytes
  have hr := B.returns
  have hts := atoms_spec (ws := wsW_ yX0_isClosed cX0_isClosed 4 (some .int) [((0 : Nat), (16 : Nat), (19 : Nat), (13 : Nat))]) B.pre
  have htab := vx_table (x := yX0_isClosed) B (hts _ List.mem_cons_self)
  have hts : ∀ w ∈ lw_all, w.before _ s = true := fun w h => hts w (List.mem_cons_of_mem _ h)
  have hown : s.vm.findClass RX0 = some m.cls := findClass_of_methodNamed B.named
  have hlk := B.notSynchronized
  have hS : va_S (kNW s.heap) s.heap s.heap [] := va_S.rf
  have hB : ∀ q, (kNW s.heap) q → kBase D ≤ q := fun q h => Nat.le_trans hK.size h
  have hl := lv_entry ([.ref x1, .int (kI (li)), .ref out]) (n := 4) (Nat.le_of_ble_eq_true rfl)
  rw [lg_entry_eq]
  generalize (lg_sl ([.ref x1, .int (kI (li)), .ref out]) ++ List.replicate (4 - (lg_sl ([.ref x1, .int (kI (li)), .ref out])).length) Slot.unset).toArray = ls at hl ⊢
  have hl : lv_has ls 4 [(0, .ref x1), (1, .int (kI (li))), (2, .ref out)] := hl
  refine lv_aload_n hx hb dX0_isClosed_0 rfl (lv_at hl 2 rfl) ?_
  refine kx_iconst hx hb dX0_isClosed_1 ?_
  refine lv_aload_n hx hb dX0_isClosed_2 rfl (lv_at hl 0 rfl) ?_
  refine lv_iload_n hx hb dX0_isClosed_3 rfl (lv_at hl 1 rfl) ?_
  refine kx_catch (own := RX0) (nm := "java/lang/IndexOutOfBoundsException") (vx_runV (As := [.int (kI (li))]) (rest := [.int (kI (0)), .ref out]) ⟨hx, hb, hml, hown, hts⟩ (x_isClosed l hl9 D s.heap x1 snp hi bu st la mc ea F S gap li hO_x1 hO_st hO_la hP_kLs_ea hP_kLn_F (by first | assumption | omega) (by first | assumption | omega) (by first | assumption | omega)) (cwV 1 hts (lw_V q1962 q1963 q1964 q79 q1965) rfl rfl rfl (by decide +kernel) ⟨Nat.le_of_ble_eq_true rfl, Nat.le_of_ble_eq_true rfl⟩) (kx_pv hK hS hB (kx_rc hK hO_x1 (C := RX1) (T := TX1) (N := 4) rfl)) rfl rfl hl.1 rfl (lv_room (Nat.le_of_ble_eq_true rfl)) dX0_isClosed_4 ⟨by first | exact Nat.le_of_ble_eq_true rfl | omega | (show _ ≤ _; omega) | (dsimp only [headSpec]; omega), by first | exact Nat.le_of_ble_eq_true rfl | omega | (show _ ≤ _; omega) | (dsimp only [headSpec]; omega)⟩) hS (fun q _ h => by have h9 := hS.1; (try dsimp only at h); (try dsimp only); (try simp only [kNW] at h); (try simp only [kNW]); omega) (fun q h => by have h9 := hS.1; (try dsimp only at h); (try dsimp only); (try simp only [kNW] at h); (try simp only [kNW]); omega) hts hK hown [] ⟨0, 16, 19, 13⟩ [] (by rw [htab]; rfl) (fun z hz => by cases hz) (by decide) (by decide) q1808 q1825 (fun q9_1 H_2 locs_3 hF_4 hS_5 => ?_)
  have hF_4 := hF_4.nw
  refine W.widen (k := 1) (n := 6) (Nat.le_of_ble_eq_true rfl) (Nat.le_of_ble_eq_true rfl) ?_
  refine lv_astore_n (lv' := [(3, .ref q9_1), (0, .ref x1), (1, .int (kI (li))), (2, .ref out)]) hx hb dX0_isClosed_19 rfl hl (by decide) rfl (fun ls hl => ?_)
  refine kx_iconst hx hb dX0_isClosed_20 ?_
  refine vx_ret ?_
  exact kx_iret (z := 1) hx hb hr hlk (⟨by rfl, by first | assumption | rfl | omega | grind⟩) hS_5 dX0_isClosed_21

set_option maxHeartbeats 4000000 in
set_option maxRecDepth 100000 in
theorem wx_isTurned (l : Launch) (hl9 : l.stackTraces = false) (D : kG) (H : Heap) (x1 : Nat) (snp : Option Nat) (hi : Nat) (bu : Nat) (st : Nat) (la : Nat) (mc : Int) (ea : Nat) (F : Fts) (S : Ls) (gap : Int) (li : Int) (out : Nat) (hO_x1 : kO D H x1 0 [.ref st, va_rf (snp), .ref hi, .ref bu]) (hO_st : kO D H st 1 [.ref la, .int (kI (gap))]) (hO_la : kO D H la 9 [.int (kI (mc)), .ref ea, .int (kI ((S.length : Nat) : Int))]) (hP_kLs_ea : kLs D H ea S.length F) (hP_kLn_F : kLn D H F S) (hok : LsOK S gap) (hr_li : -2147483648 ≤ li ∧ li ≤ 2147483647) (hnl : li < 0 ∨ (S.length : Int) ≤ li) : Met l yX0_isTurned (wsW_ yX0_isTurned cX0_isTurned 4 (some .int) [((0 : Nat), (16 : Nat), (19 : Nat), (13 : Nat))]) ({ frames := 9, cells := 1, slots := 6, locals := 183 } : Room) (kPre D H [.ref x1, .int (kI (li)), .ref out]) (kQi (fun (r : Int) H' => (r = 1) ∧ (True)) (kNW H)) (1) (6) ((kNW H)) := by
  refine met_of_vx (vx_ofWH (cc := cX0_isTurned) (maxL := 4) (ret := (some .int)) (hh := [((0 : Nat), (16 : Nat), (19 : Nat), (13 : Nat))]) (by decide) rfl ?_)
  intro p e s m args below meth c s₁ B hml hv
  obtain ⟨rfl, hH, hK⟩ := hv
  subst hH
  have hx := B.exec
  have hb := B.bytes
  have hr := B.returns
  have hts := atoms_spec (ws := wsW_ yX0_isTurned cX0_isTurned 4 (some .int) [((0 : Nat), (16 : Nat), (19 : Nat), (13 : Nat))]) B.pre
  have htab := vx_table (x := yX0_isTurned) B (hts _ List.mem_cons_self)
  have hts : ∀ w ∈ lw_all, w.before _ s = true := fun w h => hts w (List.mem_cons_of_mem _ h)
  have hown : s.vm.findClass RX0 = some m.cls := findClass_of_methodNamed B.named
  have hlk := B.notSynchronized
  have hS : va_S (kNW s.heap) s.heap s.heap [] := va_S.rf
  have hB : ∀ q, (kNW s.heap) q → kBase D ≤ q := fun q h => Nat.le_trans hK.size h
  have hl := lv_entry ([.ref x1, .int (kI (li)), .ref out]) (n := 4) (Nat.le_of_ble_eq_true rfl)
  rw [lg_entry_eq]
  generalize (lg_sl ([.ref x1, .int (kI (li)), .ref out]) ++ List.replicate (4 - (lg_sl ([.ref x1, .int (kI (li)), .ref out])).length) Slot.unset).toArray = ls at hl ⊢
  have hl : lv_has ls 4 [(0, .ref x1), (1, .int (kI (li))), (2, .ref out)] := hl
  refine lv_aload_n hx hb dX0_isTurned_0 rfl (lv_at hl 2 rfl) ?_
  refine kx_iconst hx hb dX0_isTurned_1 ?_
  refine lv_aload_n hx hb dX0_isTurned_2 rfl (lv_at hl 0 rfl) ?_
  refine lv_iload_n hx hb dX0_isTurned_3 rfl (lv_at hl 1 rfl) ?_
  refine kx_catch (own := RX0) (nm := "java/lang/IndexOutOfBoundsException") (vx_runV (As := [.int (kI (li))]) (rest := [.int (kI (0)), .ref out]) ⟨hx, hb, hml, hown, hts⟩ (x_isTurned l hl9 D s.heap x1 snp hi bu st la mc ea F S gap li hO_x1 hO_st hO_la hP_kLs_ea hP_kLn_F (by first | assumption | omega) (by first | assumption | omega) (by first | assumption | omega)) (cwV 1 hts (lw_V q2013 q2014 q2015 q79 q2016) rfl rfl rfl (by decide +kernel) ⟨Nat.le_of_ble_eq_true rfl, Nat.le_of_ble_eq_true rfl⟩) (kx_pv hK hS hB (kx_rc hK hO_x1 (C := RX1) (T := TX1) (N := 4) rfl)) rfl rfl hl.1 rfl (lv_room (Nat.le_of_ble_eq_true rfl)) dX0_isTurned_4 ⟨by first | exact Nat.le_of_ble_eq_true rfl | omega | (show _ ≤ _; omega) | (dsimp only [headSpec]; omega), by first | exact Nat.le_of_ble_eq_true rfl | omega | (show _ ≤ _; omega) | (dsimp only [headSpec]; omega)⟩) hS (fun q _ h => by have h9 := hS.1; (try dsimp only at h); (try dsimp only); (try simp only [kNW] at h); (try simp only [kNW]); omega) (fun q h => by have h9 := hS.1; (try dsimp only at h); (try dsimp only); (try simp only [kNW] at h); (try simp only [kNW]); omega) hts hK hown [] ⟨0, 16, 19, 13⟩ [] (by rw [htab]; rfl) (fun z hz => by cases hz) (by decide) (by decide) q1808 q1825 (fun q9_1 H_2 locs_3 hF_4 hS_5 => ?_)
  have hF_4 := hF_4.nw
  refine W.widen (k := 1) (n := 6) (Nat.le_of_ble_eq_true rfl) (Nat.le_of_ble_eq_true rfl) ?_
  refine lv_astore_n (lv' := [(3, .ref q9_1), (0, .ref x1), (1, .int (kI (li))), (2, .ref out)]) hx hb dX0_isTurned_19 rfl hl (by decide) rfl (fun ls hl => ?_)
  refine kx_iconst hx hb dX0_isTurned_20 ?_
  refine vx_ret ?_
  exact kx_iret (z := 1) hx hb hr hlk (⟨by rfl, by first | assumption | rfl | omega | grind⟩) hS_5 dX0_isTurned_21

set_option maxHeartbeats 4000000 in
set_option maxRecDepth 100000 in
theorem wx_readFrom (l : Launch) (hl9 : l.stackTraces = false) (D : kG) (H : Heap) (x1 : Nat) (snp : Option Nat) (hi : Nat) (bu : Nat) (st : Nat) (la : Nat) (mc : Int) (ea : Nat) (F : Fts) (S : Ls) (gap : Int) (li : Int) (out : Nat) (hO_x1 : kO D H x1 0 [.ref st, va_rf (snp), .ref hi, .ref bu]) (hO_st : kO D H st 1 [.ref la, .int (kI (gap))]) (hO_la : kO D H la 9 [.int (kI (mc)), .ref ea, .int (kI ((S.length : Nat) : Int))]) (hP_kLs_ea : kLs D H ea S.length F) (hP_kLn_F : kLn D H F S) (hok : LsOK S gap) (hr_li : -2147483648 ≤ li ∧ li ≤ 2147483647) (hnl : li < 0 ∨ (S.length : Int) ≤ li) : Met l yX0_readFrom (wsW_ yX0_readFrom cX0_readFrom 4 (some .int) [((0 : Nat), (9 : Nat), (12 : Nat), (13 : Nat))]) ({ frames := 9, cells := 1, slots := 6, locals := 183 } : Room) (kPre D H [.ref x1, .int (kI (li)), .ref out]) (kQi (fun (r : Int) H' => (r = 1) ∧ (True)) (kNW H)) (1) (6) ((kNW H)) := by
  refine met_of_vx (vx_ofWH (cc := cX0_readFrom) (maxL := 4) (ret := (some .int)) (hh := [((0 : Nat), (9 : Nat), (12 : Nat), (13 : Nat))]) (by decide) rfl ?_)
  intro p e s m args below meth c s₁ B hml hv
  obtain ⟨rfl, hH, hK⟩ := hv
  subst hH
  have hx := B.exec
  have hb := B.bytes
  have hr := B.returns
  have hts := atoms_spec (ws := wsW_ yX0_readFrom cX0_readFrom 4 (some .int) [((0 : Nat), (9 : Nat), (12 : Nat), (13 : Nat))]) B.pre
  have htab := vx_table (x := yX0_readFrom) B (hts _ List.mem_cons_self)
  have hts : ∀ w ∈ lw_all, w.before _ s = true := fun w h => hts w (List.mem_cons_of_mem _ h)
  have hown : s.vm.findClass RX0 = some m.cls := findClass_of_methodNamed B.named
  have hlk := B.notSynchronized
  have hS : va_S (kNW s.heap) s.heap s.heap [] := va_S.rf
  have hB : ∀ q, (kNW s.heap) q → kBase D ≤ q := fun q h => Nat.le_trans hK.size h
  have hl := lv_entry ([.ref x1, .int (kI (li)), .ref out]) (n := 4) (Nat.le_of_ble_eq_true rfl)
  rw [lg_entry_eq]
  generalize (lg_sl ([.ref x1, .int (kI (li)), .ref out]) ++ List.replicate (4 - (lg_sl ([.ref x1, .int (kI (li)), .ref out])).length) Slot.unset).toArray = ls at hl ⊢
  have hl : lv_has ls 4 [(0, .ref x1), (1, .int (kI (li))), (2, .ref out)] := hl
  refine lv_aload_n hx hb dX0_readFrom_0 rfl (lv_at hl 2 rfl) ?_
  refine kx_iconst hx hb dX0_readFrom_1 ?_
  refine lv_aload_n hx hb dX0_readFrom_2 rfl (lv_at hl 0 rfl) ?_
  refine lv_iload_n hx hb dX0_readFrom_3 rfl (lv_at hl 1 rfl) ?_
  refine kx_catch (own := RX0) (nm := "java/lang/IndexOutOfBoundsException") (vx_runV (As := [.int (kI (li))]) (rest := [.int (kI (0)), .ref out]) ⟨hx, hb, hml, hown, hts⟩ (x_readFrom l hl9 D s.heap x1 snp hi bu st la mc ea F S gap li hO_x1 hO_st hO_la hP_kLs_ea hP_kLn_F (by first | assumption | omega) (by first | assumption | omega) (by first | assumption | omega)) (cwV 1 hts (lw_V q2024 q2025 q2026 q79 q2027) rfl rfl rfl (by decide +kernel) ⟨Nat.le_of_ble_eq_true rfl, Nat.le_of_ble_eq_true rfl⟩) (kx_pv hK hS hB (kx_rc hK hO_x1 (C := RX1) (T := TX1) (N := 4) rfl)) rfl rfl hl.1 rfl (lv_room (Nat.le_of_ble_eq_true rfl)) dX0_readFrom_4 ⟨by first | exact Nat.le_of_ble_eq_true rfl | omega | (show _ ≤ _; omega) | (dsimp only [headSpec]; omega), by first | exact Nat.le_of_ble_eq_true rfl | omega | (show _ ≤ _; omega) | (dsimp only [headSpec]; omega)⟩) hS (fun q _ h => by have h9 := hS.1; (try dsimp only at h); (try dsimp only); (try simp only [kNW] at h); (try simp only [kNW]); omega) (fun q h => by have h9 := hS.1; (try dsimp only at h); (try dsimp only); (try simp only [kNW] at h); (try simp only [kNW]); omega) hts hK hown [] ⟨0, 9, 12, 13⟩ [] (by rw [htab]; rfl) (fun z hz => by cases hz) (by decide) (by decide) q1808 q1825 (fun q9_1 H_2 locs_3 hF_4 hS_5 => ?_)
  have hF_4 := hF_4.nw
  refine W.widen (k := 1) (n := 6) (Nat.le_of_ble_eq_true rfl) (Nat.le_of_ble_eq_true rfl) ?_
  refine lv_astore_n (lv' := [(3, .ref q9_1), (0, .ref x1), (1, .int (kI (li))), (2, .ref out)]) hx hb dX0_readFrom_12 rfl hl (by decide) rfl (fun ls hl => ?_)
  refine kx_iconst hx hb dX0_readFrom_13 ?_
  refine vx_ret ?_
  exact kx_iret (z := 1) hx hb hr hlk (⟨by rfl, by first | assumption | rfl | omega | grind⟩) hS_5 dX0_readFrom_14

set_option maxHeartbeats 4000000 in
set_option maxRecDepth 100000 in
theorem wx_sizeOf (l : Launch) (hl9 : l.stackTraces = false) (D : kG) (H : Heap) (x1 : Nat) (snp : Option Nat) (hi : Nat) (bu : Nat) (st : Nat) (la : Nat) (mc : Int) (ea : Nat) (F : Fts) (S : Ls) (gap : Int) (li : Int) (out : Nat) (hO_x1 : kO D H x1 0 [.ref st, va_rf (snp), .ref hi, .ref bu]) (hO_st : kO D H st 1 [.ref la, .int (kI (gap))]) (hO_la : kO D H la 9 [.int (kI (mc)), .ref ea, .int (kI ((S.length : Nat) : Int))]) (hP_kLs_ea : kLs D H ea S.length F) (hP_kLn_F : kLn D H F S) (hok : LsOK S gap) (hr_li : -2147483648 ≤ li ∧ li ≤ 2147483647) (hnl : li < 0 ∨ (S.length : Int) ≤ li) : Met l yX0_sizeOf (wsW_ yX0_sizeOf cX0_sizeOf 4 (some .int) [((0 : Nat), (9 : Nat), (12 : Nat), (13 : Nat))]) ({ frames := 9, cells := 1, slots := 6, locals := 183 } : Room) (kPre D H [.ref x1, .int (kI (li)), .ref out]) (kQi (fun (r : Int) H' => (r = 1) ∧ (True)) (kNW H)) (1) (6) ((kNW H)) := by
  refine met_of_vx (vx_ofWH (cc := cX0_sizeOf) (maxL := 4) (ret := (some .int)) (hh := [((0 : Nat), (9 : Nat), (12 : Nat), (13 : Nat))]) (by decide) rfl ?_)
  intro p e s m args below meth c s₁ B hml hv
  obtain ⟨rfl, hH, hK⟩ := hv
  subst hH
  have hx := B.exec
  have hb := B.bytes
  have hr := B.returns
  have hts := atoms_spec (ws := wsW_ yX0_sizeOf cX0_sizeOf 4 (some .int) [((0 : Nat), (9 : Nat), (12 : Nat), (13 : Nat))]) B.pre
  have htab := vx_table (x := yX0_sizeOf) B (hts _ List.mem_cons_self)
  have hts : ∀ w ∈ lw_all, w.before _ s = true := fun w h => hts w (List.mem_cons_of_mem _ h)
  have hown : s.vm.findClass RX0 = some m.cls := findClass_of_methodNamed B.named
  have hlk := B.notSynchronized
  have hS : va_S (kNW s.heap) s.heap s.heap [] := va_S.rf
  have hB : ∀ q, (kNW s.heap) q → kBase D ≤ q := fun q h => Nat.le_trans hK.size h
  have hl := lv_entry ([.ref x1, .int (kI (li)), .ref out]) (n := 4) (Nat.le_of_ble_eq_true rfl)
  rw [lg_entry_eq]
  generalize (lg_sl ([.ref x1, .int (kI (li)), .ref out]) ++ List.replicate (4 - (lg_sl ([.ref x1, .int (kI (li)), .ref out])).length) Slot.unset).toArray = ls at hl ⊢
  have hl : lv_has ls 4 [(0, .ref x1), (1, .int (kI (li))), (2, .ref out)] := hl
  refine lv_aload_n hx hb dX0_sizeOf_0 rfl (lv_at hl 2 rfl) ?_
  refine kx_iconst hx hb dX0_sizeOf_1 ?_
  refine lv_aload_n hx hb dX0_sizeOf_2 rfl (lv_at hl 0 rfl) ?_
  refine lv_iload_n hx hb dX0_sizeOf_3 rfl (lv_at hl 1 rfl) ?_
  refine kx_catch (own := RX0) (nm := "java/lang/IndexOutOfBoundsException") (vx_runV (As := [.int (kI (li))]) (rest := [.int (kI (0)), .ref out]) ⟨hx, hb, hml, hown, hts⟩ (x_sizeOf l hl9 D s.heap x1 snp hi bu st la mc ea F S gap li hO_x1 hO_st hO_la hP_kLs_ea hP_kLn_F (by first | assumption | omega) (by first | assumption | omega) (by first | assumption | omega)) (cwV 1 hts (lw_V q2036 q2037 q2038 q79 q2039) rfl rfl rfl (by decide +kernel) ⟨Nat.le_of_ble_eq_true rfl, Nat.le_of_ble_eq_true rfl⟩) (kx_pv hK hS hB (kx_rc hK hO_x1 (C := RX1) (T := TX1) (N := 4) rfl)) rfl rfl hl.1 rfl (lv_room (Nat.le_of_ble_eq_true rfl)) dX0_sizeOf_4 ⟨by first | exact Nat.le_of_ble_eq_true rfl | omega | (show _ ≤ _; omega) | (dsimp only [headSpec]; omega), by first | exact Nat.le_of_ble_eq_true rfl | omega | (show _ ≤ _; omega) | (dsimp only [headSpec]; omega)⟩) hS (fun q _ h => by have h9 := hS.1; (try dsimp only at h); (try dsimp only); (try simp only [kNW] at h); (try simp only [kNW]); omega) (fun q h => by have h9 := hS.1; (try dsimp only at h); (try dsimp only); (try simp only [kNW] at h); (try simp only [kNW]); omega) hts hK hown [] ⟨0, 9, 12, 13⟩ [] (by rw [htab]; rfl) (fun z hz => by cases hz) (by decide) (by decide) q1808 q1825 (fun q9_1 H_2 locs_3 hF_4 hS_5 => ?_)
  have hF_4 := hF_4.nw
  refine W.widen (k := 1) (n := 6) (Nat.le_of_ble_eq_true rfl) (Nat.le_of_ble_eq_true rfl) ?_
  refine lv_astore_n (lv' := [(3, .ref q9_1), (0, .ref x1), (1, .int (kI (li))), (2, .ref out)]) hx hb dX0_sizeOf_12 rfl hl (by decide) rfl (fun ls hl => ?_)
  refine kx_iconst hx hb dX0_sizeOf_13 ?_
  refine vx_ret ?_
  exact kx_iret (z := 1) hx hb hr hlk (⟨by rfl, by first | assumption | rfl | omega | grind⟩) hS_5 dX0_sizeOf_14

set_option maxHeartbeats 4000000 in
set_option maxRecDepth 100000 in
theorem wx_placesOf (l : Launch) (hl9 : l.stackTraces = false) (D : kG) (H : Heap) (x1 : Nat) (snp : Option Nat) (hi : Nat) (bu : Nat) (st : Nat) (la : Nat) (mc : Int) (ea : Nat) (F : Fts) (S : Ls) (gap : Int) (li : Int) (out : Nat) (hO_x1 : kO D H x1 0 [.ref st, va_rf (snp), .ref hi, .ref bu]) (hO_st : kO D H st 1 [.ref la, .int (kI (gap))]) (hO_la : kO D H la 9 [.int (kI (mc)), .ref ea, .int (kI ((S.length : Nat) : Int))]) (hP_kLs_ea : kLs D H ea S.length F) (hP_kLn_F : kLn D H F S) (hok : LsOK S gap) (hr_li : -2147483648 ≤ li ∧ li ≤ 2147483647) (hnl : li < 0 ∨ (S.length : Int) ≤ li) : Met l yX0_placesOf (wsW_ yX0_placesOf cX0_placesOf 4 (some .int) [((0 : Nat), (9 : Nat), (12 : Nat), (13 : Nat))]) ({ frames := 9, cells := 1, slots := 6, locals := 183 } : Room) (kPre D H [.ref x1, .int (kI (li)), .ref out]) (kQi (fun (r : Int) H' => (r = 1) ∧ (True)) (kNW H)) (1) (6) ((kNW H)) := by
  refine met_of_vx (vx_ofWH (cc := cX0_placesOf) (maxL := 4) (ret := (some .int)) (hh := [((0 : Nat), (9 : Nat), (12 : Nat), (13 : Nat))]) (by decide) rfl ?_)
  intro p e s m args below meth c s₁ B hml hv
  obtain ⟨rfl, hH, hK⟩ := hv
  subst hH
  have hx := B.exec
  have hb := B.bytes
  have hr := B.returns
  have hts := atoms_spec (ws := wsW_ yX0_placesOf cX0_placesOf 4 (some .int) [((0 : Nat), (9 : Nat), (12 : Nat), (13 : Nat))]) B.pre
  have htab := vx_table (x := yX0_placesOf) B (hts _ List.mem_cons_self)
  have hts : ∀ w ∈ lw_all, w.before _ s = true := fun w h => hts w (List.mem_cons_of_mem _ h)
  have hown : s.vm.findClass RX0 = some m.cls := findClass_of_methodNamed B.named
  have hlk := B.notSynchronized
  have hS : va_S (kNW s.heap) s.heap s.heap [] := va_S.rf
  have hB : ∀ q, (kNW s.heap) q → kBase D ≤ q := fun q h => Nat.le_trans hK.size h
  have hl := lv_entry ([.ref x1, .int (kI (li)), .ref out]) (n := 4) (Nat.le_of_ble_eq_true rfl)
  rw [lg_entry_eq]
  generalize (lg_sl ([.ref x1, .int (kI (li)), .ref out]) ++ List.replicate (4 - (lg_sl ([.ref x1, .int (kI (li)), .ref out])).length) Slot.unset).toArray = ls at hl ⊢
  have hl : lv_has ls 4 [(0, .ref x1), (1, .int (kI (li))), (2, .ref out)] := hl
  refine lv_aload_n hx hb dX0_placesOf_0 rfl (lv_at hl 2 rfl) ?_
  refine kx_iconst hx hb dX0_placesOf_1 ?_
  refine lv_aload_n hx hb dX0_placesOf_2 rfl (lv_at hl 0 rfl) ?_
  refine lv_iload_n hx hb dX0_placesOf_3 rfl (lv_at hl 1 rfl) ?_
  refine kx_catch (own := RX0) (nm := "java/lang/IndexOutOfBoundsException") (vx_runV (As := [.int (kI (li))]) (rest := [.int (kI (0)), .ref out]) ⟨hx, hb, hml, hown, hts⟩ (x_placesOf l hl9 D s.heap x1 snp hi bu st la mc ea F S gap li hO_x1 hO_st hO_la hP_kLs_ea hP_kLn_F (by first | assumption | omega) (by first | assumption | omega) (by first | assumption | omega)) (cwV 1 hts (lw_V q2056 q2057 q2058 q79 q2059) rfl rfl rfl (by decide +kernel) ⟨Nat.le_of_ble_eq_true rfl, Nat.le_of_ble_eq_true rfl⟩) (kx_pv hK hS hB (kx_rc hK hO_x1 (C := RX1) (T := TX1) (N := 4) rfl)) rfl rfl hl.1 rfl (lv_room (Nat.le_of_ble_eq_true rfl)) dX0_placesOf_4 ⟨by first | exact Nat.le_of_ble_eq_true rfl | omega | (show _ ≤ _; omega) | (dsimp only [headSpec]; omega), by first | exact Nat.le_of_ble_eq_true rfl | omega | (show _ ≤ _; omega) | (dsimp only [headSpec]; omega)⟩) hS (fun q _ h => by have h9 := hS.1; (try dsimp only at h); (try dsimp only); (try simp only [kNW] at h); (try simp only [kNW]); omega) (fun q h => by have h9 := hS.1; (try dsimp only at h); (try dsimp only); (try simp only [kNW] at h); (try simp only [kNW]); omega) hts hK hown [] ⟨0, 9, 12, 13⟩ [] (by rw [htab]; rfl) (fun z hz => by cases hz) (by decide) (by decide) q1808 q1825 (fun q9_1 H_2 locs_3 hF_4 hS_5 => ?_)
  have hF_4 := hF_4.nw
  refine W.widen (k := 1) (n := 6) (Nat.le_of_ble_eq_true rfl) (Nat.le_of_ble_eq_true rfl) ?_
  refine lv_astore_n (lv' := [(3, .ref q9_1), (0, .ref x1), (1, .int (kI (li))), (2, .ref out)]) hx hb dX0_placesOf_12 rfl hl (by decide) rfl (fun ls hl => ?_)
  refine kx_iconst hx hb dX0_placesOf_13 ?_
  refine vx_ret ?_
  exact kx_iret (z := 1) hx hb hr hlk (⟨by rfl, by first | assumption | rfl | omega | grind⟩) hS_5 dX0_placesOf_14

set_option maxHeartbeats 4000000 in
set_option maxRecDepth 100000 in
theorem wx_bestPlace (l : Launch) (hl9 : l.stackTraces = false) (D : kG) (H : Heap) (x1 : Nat) (snp : Option Nat) (hi : Nat) (bu : Nat) (st : Nat) (la : Nat) (mc : Int) (ea : Nat) (F : Fts) (S : Ls) (gap : Int) (li : Int) (out : Nat) (hO_x1 : kO D H x1 0 [.ref st, va_rf (snp), .ref hi, .ref bu]) (hO_st : kO D H st 1 [.ref la, .int (kI (gap))]) (hO_la : kO D H la 9 [.int (kI (mc)), .ref ea, .int (kI ((S.length : Nat) : Int))]) (hP_kLs_ea : kLs D H ea S.length F) (hP_kLn_F : kLn D H F S) (hok : LsOK S gap) (hr_li : -2147483648 ≤ li ∧ li ≤ 2147483647) (hnl : li < 0 ∨ (S.length : Int) ≤ li) : Met l yX0_bestPlace (wsW_ yX0_bestPlace cX0_bestPlace 4 (some .int) [((0 : Nat), (9 : Nat), (12 : Nat), (13 : Nat))]) ({ frames := 9, cells := 1, slots := 6, locals := 183 } : Room) (kPre D H [.ref x1, .int (kI (li)), .ref out]) (kQi (fun (r : Int) H' => (r = 1) ∧ (True)) (kNW H)) (1) (6) ((kNW H)) := by
  refine met_of_vx (vx_ofWH (cc := cX0_bestPlace) (maxL := 4) (ret := (some .int)) (hh := [((0 : Nat), (9 : Nat), (12 : Nat), (13 : Nat))]) (by decide) rfl ?_)
  intro p e s m args below meth c s₁ B hml hv
  obtain ⟨rfl, hH, hK⟩ := hv
  subst hH
  have hx := B.exec
  have hb := B.bytes
  have hr := B.returns
  have hts := atoms_spec (ws := wsW_ yX0_bestPlace cX0_bestPlace 4 (some .int) [((0 : Nat), (9 : Nat), (12 : Nat), (13 : Nat))]) B.pre
  have htab := vx_table (x := yX0_bestPlace) B (hts _ List.mem_cons_self)
  have hts : ∀ w ∈ lw_all, w.before _ s = true := fun w h => hts w (List.mem_cons_of_mem _ h)
  have hown : s.vm.findClass RX0 = some m.cls := findClass_of_methodNamed B.named
  have hlk := B.notSynchronized
  have hS : va_S (kNW s.heap) s.heap s.heap [] := va_S.rf
  have hB : ∀ q, (kNW s.heap) q → kBase D ≤ q := fun q h => Nat.le_trans hK.size h
  have hl := lv_entry ([.ref x1, .int (kI (li)), .ref out]) (n := 4) (Nat.le_of_ble_eq_true rfl)
  rw [lg_entry_eq]
  generalize (lg_sl ([.ref x1, .int (kI (li)), .ref out]) ++ List.replicate (4 - (lg_sl ([.ref x1, .int (kI (li)), .ref out])).length) Slot.unset).toArray = ls at hl ⊢
  have hl : lv_has ls 4 [(0, .ref x1), (1, .int (kI (li))), (2, .ref out)] := hl
  refine lv_aload_n hx hb dX0_bestPlace_0 rfl (lv_at hl 2 rfl) ?_
  refine kx_iconst hx hb dX0_bestPlace_1 ?_
  refine lv_aload_n hx hb dX0_bestPlace_2 rfl (lv_at hl 0 rfl) ?_
  refine lv_iload_n hx hb dX0_bestPlace_3 rfl (lv_at hl 1 rfl) ?_
  refine kx_catch (own := RX0) (nm := "java/lang/IndexOutOfBoundsException") (vx_runV (As := [.int (kI (li))]) (rest := [.int (kI (0)), .ref out]) ⟨hx, hb, hml, hown, hts⟩ (x_bestPlace l hl9 D s.heap x1 snp hi bu st la mc ea F S gap li hO_x1 hO_st hO_la hP_kLs_ea hP_kLn_F (by first | assumption | omega) (by first | assumption | omega) (by first | assumption | omega)) (cwV 1 hts (lw_V q2067 q2068 q2069 q79 q2070) rfl rfl rfl (by decide +kernel) ⟨Nat.le_of_ble_eq_true rfl, Nat.le_of_ble_eq_true rfl⟩) (kx_pv hK hS hB (kx_rc hK hO_x1 (C := RX1) (T := TX1) (N := 4) rfl)) rfl rfl hl.1 rfl (lv_room (Nat.le_of_ble_eq_true rfl)) dX0_bestPlace_4 ⟨by first | exact Nat.le_of_ble_eq_true rfl | omega | (show _ ≤ _; omega) | (dsimp only [headSpec]; omega), by first | exact Nat.le_of_ble_eq_true rfl | omega | (show _ ≤ _; omega) | (dsimp only [headSpec]; omega)⟩) hS (fun q _ h => by have h9 := hS.1; (try dsimp only at h); (try dsimp only); (try simp only [kNW] at h); (try simp only [kNW]); omega) (fun q h => by have h9 := hS.1; (try dsimp only at h); (try dsimp only); (try simp only [kNW] at h); (try simp only [kNW]); omega) hts hK hown [] ⟨0, 9, 12, 13⟩ [] (by rw [htab]; rfl) (fun z hz => by cases hz) (by decide) (by decide) q1808 q1825 (fun q9_1 H_2 locs_3 hF_4 hS_5 => ?_)
  have hF_4 := hF_4.nw
  refine W.widen (k := 1) (n := 6) (Nat.le_of_ble_eq_true rfl) (Nat.le_of_ble_eq_true rfl) ?_
  refine lv_astore_n (lv' := [(3, .ref q9_1), (0, .ref x1), (1, .int (kI (li))), (2, .ref out)]) hx hb dX0_bestPlace_12 rfl hl (by decide) rfl (fun ls hl => ?_)
  refine kx_iconst hx hb dX0_bestPlace_13 ?_
  refine vx_ret ?_
  exact kx_iret (z := 1) hx hb hr hlk (⟨by rfl, by first | assumption | rfl | omega | grind⟩) hS_5 dX0_bestPlace_14

set_option maxHeartbeats 4000000 in
set_option maxRecDepth 100000 in
theorem wx_pointsWithin (l : Launch) (hl9 : l.stackTraces = false) (D : kG) (H : Heap) (x1 : Nat) (snp : Option Nat) (hi : Nat) (bu : Nat) (st : Nat) (la : Nat) (mc : Int) (ea : Nat) (F : Fts) (S : Ls) (gap : Int) (li : Int) (out : Nat) (hO_x1 : kO D H x1 0 [.ref st, va_rf (snp), .ref hi, .ref bu]) (hO_st : kO D H st 1 [.ref la, .int (kI (gap))]) (hO_la : kO D H la 9 [.int (kI (mc)), .ref ea, .int (kI ((S.length : Nat) : Int))]) (hP_kLs_ea : kLs D H ea S.length F) (hP_kLn_F : kLn D H F S) (hok : LsOK S gap) (hr_li : -2147483648 ≤ li ∧ li ≤ 2147483647) (hnl : li < 0 ∨ (S.length : Int) ≤ li) : Met l yX0_pointsWithin (wsW_ yX0_pointsWithin cX0_pointsWithin 4 (some .int) [((0 : Nat), (9 : Nat), (12 : Nat), (13 : Nat))]) ({ frames := 9, cells := 1, slots := 6, locals := 183 } : Room) (kPre D H [.ref x1, .int (kI (li)), .ref out]) (kQi (fun (r : Int) H' => (r = 1) ∧ (True)) (kNW H)) (1) (6) ((kNW H)) := by
  refine met_of_vx (vx_ofWH (cc := cX0_pointsWithin) (maxL := 4) (ret := (some .int)) (hh := [((0 : Nat), (9 : Nat), (12 : Nat), (13 : Nat))]) (by decide) rfl ?_)
  intro p e s m args below meth c s₁ B hml hv
  obtain ⟨rfl, hH, hK⟩ := hv
  subst hH
  have hx := B.exec
  have hb := B.bytes
  have hr := B.returns
  have hts := atoms_spec (ws := wsW_ yX0_pointsWithin cX0_pointsWithin 4 (some .int) [((0 : Nat), (9 : Nat), (12 : Nat), (13 : Nat))]) B.pre
  have htab := vx_table (x := yX0_pointsWithin) B (hts _ List.mem_cons_self)
  have hts : ∀ w ∈ lw_all, w.before _ s = true := fun w h => hts w (List.mem_cons_of_mem _ h)
  have hown : s.vm.findClass RX0 = some m.cls := findClass_of_methodNamed B.named
  have hlk := B.notSynchronized
  have hS : va_S (kNW s.heap) s.heap s.heap [] := va_S.rf
  have hB : ∀ q, (kNW s.heap) q → kBase D ≤ q := fun q h => Nat.le_trans hK.size h
  have hl := lv_entry ([.ref x1, .int (kI (li)), .ref out]) (n := 4) (Nat.le_of_ble_eq_true rfl)
  rw [lg_entry_eq]
  generalize (lg_sl ([.ref x1, .int (kI (li)), .ref out]) ++ List.replicate (4 - (lg_sl ([.ref x1, .int (kI (li)), .ref out])).length) Slot.unset).toArray = ls at hl ⊢
  have hl : lv_has ls 4 [(0, .ref x1), (1, .int (kI (li))), (2, .ref out)] := hl
  refine lv_aload_n hx hb dX0_pointsWithin_0 rfl (lv_at hl 2 rfl) ?_
  refine kx_iconst hx hb dX0_pointsWithin_1 ?_
  refine lv_aload_n hx hb dX0_pointsWithin_2 rfl (lv_at hl 0 rfl) ?_
  refine lv_iload_n hx hb dX0_pointsWithin_3 rfl (lv_at hl 1 rfl) ?_
  refine kx_catch (own := RX0) (nm := "java/lang/IndexOutOfBoundsException") (vx_runV (As := [.int (kI (li))]) (rest := [.int (kI (0)), .ref out]) ⟨hx, hb, hml, hown, hts⟩ (x_pointsWithin l hl9 D s.heap x1 snp hi bu st la mc ea F S gap li hO_x1 hO_st hO_la hP_kLs_ea hP_kLn_F (by first | assumption | omega) (by first | assumption | omega) (by first | assumption | omega)) (cwV 1 hts (lw_V q2120 q2121 q2122 q79 q2123) rfl rfl rfl (by decide +kernel) ⟨Nat.le_of_ble_eq_true rfl, Nat.le_of_ble_eq_true rfl⟩) (kx_pv hK hS hB (kx_rc hK hO_x1 (C := RX1) (T := TX1) (N := 4) rfl)) rfl rfl hl.1 rfl (lv_room (Nat.le_of_ble_eq_true rfl)) dX0_pointsWithin_4 ⟨by first | exact Nat.le_of_ble_eq_true rfl | omega | (show _ ≤ _; omega) | (dsimp only [headSpec]; omega), by first | exact Nat.le_of_ble_eq_true rfl | omega | (show _ ≤ _; omega) | (dsimp only [headSpec]; omega)⟩) hS (fun q _ h => by have h9 := hS.1; (try dsimp only at h); (try dsimp only); (try simp only [kNW] at h); (try simp only [kNW]); omega) (fun q h => by have h9 := hS.1; (try dsimp only at h); (try dsimp only); (try simp only [kNW] at h); (try simp only [kNW]); omega) hts hK hown [] ⟨0, 9, 12, 13⟩ [] (by rw [htab]; rfl) (fun z hz => by cases hz) (by decide) (by decide) q1808 q1825 (fun q9_1 H_2 locs_3 hF_4 hS_5 => ?_)
  have hF_4 := hF_4.nw
  refine W.widen (k := 1) (n := 6) (Nat.le_of_ble_eq_true rfl) (Nat.le_of_ble_eq_true rfl) ?_
  refine lv_astore_n (lv' := [(3, .ref q9_1), (0, .ref x1), (1, .int (kI (li))), (2, .ref out)]) hx hb dX0_pointsWithin_12 rfl hl (by decide) rfl (fun ls hl => ?_)
  refine kx_iconst hx hb dX0_pointsWithin_13 ?_
  refine vx_ret ?_
  exact kx_iret (z := 1) hx hb hr hlk (⟨by rfl, by first | assumption | rfl | omega | grind⟩) hS_5 dX0_pointsWithin_14

set_option maxHeartbeats 4000000 in
set_option maxRecDepth 100000 in
theorem wx_lineRound (l : Launch) (hl9 : l.stackTraces = false) (D : kG) (H : Heap) (x1 : Nat) (snp : Option Nat) (hi : Nat) (bu : Nat) (st : Nat) (la : Nat) (mc : Int) (ea : Nat) (F : Fts) (S : Ls) (gap : Int) (li : Int) (out : Nat) (hO_x1 : kO D H x1 0 [.ref st, va_rf (snp), .ref hi, .ref bu]) (hO_st : kO D H st 1 [.ref la, .int (kI (gap))]) (hO_la : kO D H la 9 [.int (kI (mc)), .ref ea, .int (kI ((S.length : Nat) : Int))]) (hP_kLs_ea : kLs D H ea S.length F) (hP_kLn_F : kLn D H F S) (hok : LsOK S gap) (hr_li : -2147483648 ≤ li ∧ li ≤ 2147483647) (hnl : li < 0 ∨ (S.length : Int) ≤ li) : Met l yX0_lineRound (wsW_ yX0_lineRound cX0_lineRound 4 (some .int) [((0 : Nat), (9 : Nat), (12 : Nat), (13 : Nat))]) ({ frames := 9, cells := 1, slots := 6, locals := 183 } : Room) (kPre D H [.ref x1, .int (kI (li)), .ref out]) (kQi (fun (r : Int) H' => (r = 1) ∧ (True)) (kNW H)) (1) (6) ((kNW H)) := by
  refine met_of_vx (vx_ofWH (cc := cX0_lineRound) (maxL := 4) (ret := (some .int)) (hh := [((0 : Nat), (9 : Nat), (12 : Nat), (13 : Nat))]) (by decide) rfl ?_)
  intro p e s m args below meth c s₁ B hml hv
  obtain ⟨rfl, hH, hK⟩ := hv
  subst hH
  have hx := B.exec
  have hb := B.bytes
  have hr := B.returns
  have hts := atoms_spec (ws := wsW_ yX0_lineRound cX0_lineRound 4 (some .int) [((0 : Nat), (9 : Nat), (12 : Nat), (13 : Nat))]) B.pre
  have htab := vx_table (x := yX0_lineRound) B (hts _ List.mem_cons_self)
  have hts : ∀ w ∈ lw_all, w.before _ s = true := fun w h => hts w (List.mem_cons_of_mem _ h)
  have hown : s.vm.findClass RX0 = some m.cls := findClass_of_methodNamed B.named
  have hlk := B.notSynchronized
  have hS : va_S (kNW s.heap) s.heap s.heap [] := va_S.rf
  have hB : ∀ q, (kNW s.heap) q → kBase D ≤ q := fun q h => Nat.le_trans hK.size h
  have hl := lv_entry ([.ref x1, .int (kI (li)), .ref out]) (n := 4) (Nat.le_of_ble_eq_true rfl)
  rw [lg_entry_eq]
  generalize (lg_sl ([.ref x1, .int (kI (li)), .ref out]) ++ List.replicate (4 - (lg_sl ([.ref x1, .int (kI (li)), .ref out])).length) Slot.unset).toArray = ls at hl ⊢
  have hl : lv_has ls 4 [(0, .ref x1), (1, .int (kI (li))), (2, .ref out)] := hl
  refine lv_aload_n hx hb dX0_lineRound_0 rfl (lv_at hl 2 rfl) ?_
  refine kx_iconst hx hb dX0_lineRound_1 ?_
  refine lv_aload_n hx hb dX0_lineRound_2 rfl (lv_at hl 0 rfl) ?_
  refine lv_iload_n hx hb dX0_lineRound_3 rfl (lv_at hl 1 rfl) ?_
  refine kx_catch (own := RX0) (nm := "java/lang/IndexOutOfBoundsException") (vx_runV (As := [.int (kI (li))]) (rest := [.int (kI (0)), .ref out]) ⟨hx, hb, hml, hown, hts⟩ (x_lineRound l hl9 D s.heap x1 snp hi bu st la mc ea F S gap li hO_x1 hO_st hO_la hP_kLs_ea hP_kLn_F (by first | assumption | omega) (by first | assumption | omega) (by first | assumption | omega)) (cwV 1 hts (lw_V q2132 q2133 q2134 q79 q2135) rfl rfl rfl (by decide +kernel) ⟨Nat.le_of_ble_eq_true rfl, Nat.le_of_ble_eq_true rfl⟩) (kx_pv hK hS hB (kx_rc hK hO_x1 (C := RX1) (T := TX1) (N := 4) rfl)) rfl rfl hl.1 rfl (lv_room (Nat.le_of_ble_eq_true rfl)) dX0_lineRound_4 ⟨by first | exact Nat.le_of_ble_eq_true rfl | omega | (show _ ≤ _; omega) | (dsimp only [headSpec]; omega), by first | exact Nat.le_of_ble_eq_true rfl | omega | (show _ ≤ _; omega) | (dsimp only [headSpec]; omega)⟩) hS (fun q _ h => by have h9 := hS.1; (try dsimp only at h); (try dsimp only); (try simp only [kNW] at h); (try simp only [kNW]); omega) (fun q h => by have h9 := hS.1; (try dsimp only at h); (try dsimp only); (try simp only [kNW] at h); (try simp only [kNW]); omega) hts hK hown [] ⟨0, 9, 12, 13⟩ [] (by rw [htab]; rfl) (fun z hz => by cases hz) (by decide) (by decide) q1808 q1825 (fun q9_1 H_2 locs_3 hF_4 hS_5 => ?_)
  have hF_4 := hF_4.nw
  refine W.widen (k := 1) (n := 6) (Nat.le_of_ble_eq_true rfl) (Nat.le_of_ble_eq_true rfl) ?_
  refine lv_astore_n (lv' := [(3, .ref q9_1), (0, .ref x1), (1, .int (kI (li))), (2, .ref out)]) hx hb dX0_lineRound_12 rfl hl (by decide) rfl (fun ls hl => ?_)
  refine kx_iconst hx hb dX0_lineRound_13 ?_
  refine vx_ret ?_
  exact kx_iret (z := 1) hx hb hr hlk (⟨by rfl, by first | assumption | rfl | omega | grind⟩) hS_5 dX0_lineRound_14

set_option maxHeartbeats 4000000 in
set_option maxRecDepth 100000 in
theorem wx_isSteady (l : Launch) (hl9 : l.stackTraces = false) (D : kG) (H : Heap) (x1 : Nat) (snp : Option Nat) (hi : Nat) (bu : Nat) (st : Nat) (la : Nat) (mc : Int) (ea : Nat) (F : Fts) (S : Ls) (gap : Int) (li : Int) (out : Nat) (hO_x1 : kO D H x1 0 [.ref st, va_rf (snp), .ref hi, .ref bu]) (hO_st : kO D H st 1 [.ref la, .int (kI (gap))]) (hO_la : kO D H la 9 [.int (kI (mc)), .ref ea, .int (kI ((S.length : Nat) : Int))]) (hP_kLs_ea : kLs D H ea S.length F) (hP_kLn_F : kLn D H F S) (hok : LsOK S gap) (hr_li : -2147483648 ≤ li ∧ li ≤ 2147483647) (hnl : li < 0 ∨ (S.length : Int) ≤ li) : Met l yX0_isSteady (wsW_ yX0_isSteady cX0_isSteady 4 (some .int) [((0 : Nat), (16 : Nat), (19 : Nat), (13 : Nat))]) ({ frames := 9, cells := 1, slots := 6, locals := 183 } : Room) (kPre D H [.ref x1, .int (kI (li)), .ref out]) (kQi (fun (r : Int) H' => (r = 1) ∧ (True)) (kNW H)) (1) (6) ((kNW H)) := by
  refine met_of_vx (vx_ofWH (cc := cX0_isSteady) (maxL := 4) (ret := (some .int)) (hh := [((0 : Nat), (16 : Nat), (19 : Nat), (13 : Nat))]) (by decide) rfl ?_)
  intro p e s m args below meth c s₁ B hml hv
  obtain ⟨rfl, hH, hK⟩ := hv
  subst hH
  have hx := B.exec
  have hb := B.bytes
  have hr := B.returns
  have hts := atoms_spec (ws := wsW_ yX0_isSteady cX0_isSteady 4 (some .int) [((0 : Nat), (16 : Nat), (19 : Nat), (13 : Nat))]) B.pre
  have htab := vx_table (x := yX0_isSteady) B (hts _ List.mem_cons_self)
  have hts : ∀ w ∈ lw_all, w.before _ s = true := fun w h => hts w (List.mem_cons_of_mem _ h)
  have hown : s.vm.findClass RX0 = some m.cls := findClass_of_methodNamed B.named
  have hlk := B.notSynchronized
  have hS : va_S (kNW s.heap) s.heap s.heap [] := va_S.rf
  have hB : ∀ q, (kNW s.heap) q → kBase D ≤ q := fun q h => Nat.le_trans hK.size h
  have hl := lv_entry ([.ref x1, .int (kI (li)), .ref out]) (n := 4) (Nat.le_of_ble_eq_true rfl)
  rw [lg_entry_eq]
  generalize (lg_sl ([.ref x1, .int (kI (li)), .ref out]) ++ List.replicate (4 - (lg_sl ([.ref x1, .int (kI (li)), .ref out])).length) Slot.unset).toArray = ls at hl ⊢
  have hl : lv_has ls 4 [(0, .ref x1), (1, .int (kI (li))), (2, .ref out)] := hl
  refine lv_aload_n hx hb dX0_isSteady_0 rfl (lv_at hl 2 rfl) ?_
  refine kx_iconst hx hb dX0_isSteady_1 ?_
  refine lv_aload_n hx hb dX0_isSteady_2 rfl (lv_at hl 0 rfl) ?_
  refine lv_iload_n hx hb dX0_isSteady_3 rfl (lv_at hl 1 rfl) ?_
  refine kx_catch (own := RX0) (nm := "java/lang/IndexOutOfBoundsException") (vx_runV (As := [.int (kI (li))]) (rest := [.int (kI (0)), .ref out]) ⟨hx, hb, hml, hown, hts⟩ (x_isSteady l hl9 D s.heap x1 snp hi bu st la mc ea F S gap li hO_x1 hO_st hO_la hP_kLs_ea hP_kLn_F (by first | assumption | omega) (by first | assumption | omega) (by first | assumption | omega)) (cwV 1 hts (lw_V q2143 q2144 q2145 q79 q2146) rfl rfl rfl (by decide +kernel) ⟨Nat.le_of_ble_eq_true rfl, Nat.le_of_ble_eq_true rfl⟩) (kx_pv hK hS hB (kx_rc hK hO_x1 (C := RX1) (T := TX1) (N := 4) rfl)) rfl rfl hl.1 rfl (lv_room (Nat.le_of_ble_eq_true rfl)) dX0_isSteady_4 ⟨by first | exact Nat.le_of_ble_eq_true rfl | omega | (show _ ≤ _; omega) | (dsimp only [headSpec]; omega), by first | exact Nat.le_of_ble_eq_true rfl | omega | (show _ ≤ _; omega) | (dsimp only [headSpec]; omega)⟩) hS (fun q _ h => by have h9 := hS.1; (try dsimp only at h); (try dsimp only); (try simp only [kNW] at h); (try simp only [kNW]); omega) (fun q h => by have h9 := hS.1; (try dsimp only at h); (try dsimp only); (try simp only [kNW] at h); (try simp only [kNW]); omega) hts hK hown [] ⟨0, 16, 19, 13⟩ [] (by rw [htab]; rfl) (fun z hz => by cases hz) (by decide) (by decide) q1808 q1825 (fun q9_1 H_2 locs_3 hF_4 hS_5 => ?_)
  have hF_4 := hF_4.nw
  refine W.widen (k := 1) (n := 6) (Nat.le_of_ble_eq_true rfl) (Nat.le_of_ble_eq_true rfl) ?_
  refine lv_astore_n (lv' := [(3, .ref q9_1), (0, .ref x1), (1, .int (kI (li))), (2, .ref out)]) hx hb dX0_isSteady_19 rfl hl (by decide) rfl (fun ls hl => ?_)
  refine kx_iconst hx hb dX0_isSteady_20 ?_
  refine vx_ret ?_
  exact kx_iret (z := 1) hx hb hr hlk (⟨by rfl, by first | assumption | rfl | omega | grind⟩) hS_5 dX0_isSteady_21

set_option maxHeartbeats 4000000 in
set_option maxRecDepth 100000 in
theorem wx_pointOf_l (l : Launch) (hl9 : l.stackTraces = false) (D : kG) (H : Heap) (x1 : Nat) (snp : Option Nat) (hi : Nat) (bu : Nat) (st : Nat) (la : Nat) (mc : Int) (ea : Nat) (F : Fts) (S : Ls) (gap : Int) (li : Int) (nu : Int) (out : Nat) (hO_x1 : kO D H x1 0 [.ref st, va_rf (snp), .ref hi, .ref bu]) (hO_st : kO D H st 1 [.ref la, .int (kI (gap))]) (hO_la : kO D H la 9 [.int (kI (mc)), .ref ea, .int (kI ((S.length : Nat) : Int))]) (hP_kLs_ea : kLs D H ea S.length F) (hP_kLn_F : kLn D H F S) (hok : LsOK S gap) (hr_li : -2147483648 ≤ li ∧ li ≤ 2147483647) (hnl : li < 0 ∨ (S.length : Int) ≤ li) (hr_nu : -2147483648 ≤ nu ∧ nu ≤ 2147483647) : Met l yX0_pointOf (wsW_ yX0_pointOf cX0_pointOf 5 (some .int) [((0 : Nat), (10 : Nat), (13 : Nat), (13 : Nat))]) ({ frames := 10, cells := 1, slots := 6, locals := 207 } : Room) (kPre D H [.ref x1, .int (kI (li)), .int (kI (nu)), .ref out]) (kQi (fun (r : Int) H' => (r = 1) ∧ (True)) (kNW H)) (1) (6) ((kNW H)) := by
  refine met_of_vx (vx_ofWH (cc := cX0_pointOf) (maxL := 5) (ret := (some .int)) (hh := [((0 : Nat), (10 : Nat), (13 : Nat), (13 : Nat))]) (by decide) rfl ?_)
  intro p e s m args below meth c s₁ B hml hv
  obtain ⟨rfl, hH, hK⟩ := hv
  subst hH
  have hx := B.exec
  have hb := B.bytes
  have hr := B.returns
  have hts := atoms_spec (ws := wsW_ yX0_pointOf cX0_pointOf 5 (some .int) [((0 : Nat), (10 : Nat), (13 : Nat), (13 : Nat))]) B.pre
  have htab := vx_table (x := yX0_pointOf) B (hts _ List.mem_cons_self)
  have hts : ∀ w ∈ lw_all, w.before _ s = true := fun w h => hts w (List.mem_cons_of_mem _ h)
  have hown : s.vm.findClass RX0 = some m.cls := findClass_of_methodNamed B.named
  have hlk := B.notSynchronized
  have hS : va_S (kNW s.heap) s.heap s.heap [] := va_S.rf
  have hB : ∀ q, (kNW s.heap) q → kBase D ≤ q := fun q h => Nat.le_trans hK.size h
  have hl := lv_entry ([.ref x1, .int (kI (li)), .int (kI (nu)), .ref out]) (n := 5) (Nat.le_of_ble_eq_true rfl)
  rw [lg_entry_eq]
  generalize (lg_sl ([.ref x1, .int (kI (li)), .int (kI (nu)), .ref out]) ++ List.replicate (5 - (lg_sl ([.ref x1, .int (kI (li)), .int (kI (nu)), .ref out])).length) Slot.unset).toArray = ls at hl ⊢
  have hl : lv_has ls 5 [(0, .ref x1), (1, .int (kI (li))), (2, .int (kI (nu))), (3, .ref out)] := hl
  refine lv_aload_n hx hb dX0_pointOf_0 rfl (lv_at hl 3 rfl) ?_
  refine kx_iconst hx hb dX0_pointOf_1 ?_
  refine lv_aload_n hx hb dX0_pointOf_2 rfl (lv_at hl 0 rfl) ?_
  refine lv_iload_n hx hb dX0_pointOf_3 rfl (lv_at hl 1 rfl) ?_
  refine lv_iload_n hx hb dX0_pointOf_4 rfl (lv_at hl 2 rfl) ?_
  refine kx_catch (own := RX0) (nm := "java/lang/IndexOutOfBoundsException") (vx_runV (As := [.int (kI (li)), .int (kI (nu))]) (rest := [.int (kI (0)), .ref out]) ⟨hx, hb, hml, hown, hts⟩ (x_pointOf_l l hl9 D s.heap x1 snp hi bu st la mc ea F S gap li nu hO_x1 hO_st hO_la hP_kLs_ea hP_kLn_F (by first | assumption | omega) (by first | assumption | omega) (by first | assumption | omega) (by first | assumption | omega)) (cwV 2 hts (lw_V q1948 q1949 q1950 q79 q1951) rfl rfl rfl (by decide +kernel) ⟨Nat.le_of_ble_eq_true rfl, Nat.le_of_ble_eq_true rfl⟩) (kx_pv hK hS hB (kx_rc hK hO_x1 (C := RX1) (T := TX1) (N := 4) rfl)) rfl rfl hl.1 rfl (lv_room (Nat.le_of_ble_eq_true rfl)) dX0_pointOf_5 ⟨by first | exact Nat.le_of_ble_eq_true rfl | omega | (show _ ≤ _; omega) | (dsimp only [headSpec]; omega), by first | exact Nat.le_of_ble_eq_true rfl | omega | (show _ ≤ _; omega) | (dsimp only [headSpec]; omega)⟩) hS (fun q _ h => by have h9 := hS.1; (try dsimp only at h); (try dsimp only); (try simp only [kNW] at h); (try simp only [kNW]); omega) (fun q h => by have h9 := hS.1; (try dsimp only at h); (try dsimp only); (try simp only [kNW] at h); (try simp only [kNW]); omega) hts hK hown [] ⟨0, 10, 13, 13⟩ [] (by rw [htab]; rfl) (fun z hz => by cases hz) (by decide) (by decide) q1808 q1825 (fun q9_1 H_2 locs_3 hF_4 hS_5 => ?_)
  have hF_4 := hF_4.nw
  refine W.widen (k := 1) (n := 6) (Nat.le_of_ble_eq_true rfl) (Nat.le_of_ble_eq_true rfl) ?_
  refine lv_astore (lv' := [(4, .ref q9_1), (0, .ref x1), (1, .int (kI (li))), (2, .int (kI (nu))), (3, .ref out)]) hx hb dX0_pointOf_13 hl (by decide) rfl (fun ls hl => ?_)
  refine kx_iconst hx hb dX0_pointOf_15 ?_
  refine vx_ret ?_
  exact kx_iret (z := 1) hx hb hr hlk (⟨by rfl, by first | assumption | rfl | omega | grind⟩) hS_5 dX0_pointOf_16

set_option maxHeartbeats 4000000 in
set_option maxRecDepth 100000 in
theorem wx_pointOf_n (l : Launch) (hl9 : l.stackTraces = false) (D : kG) (H : Heap) (x1 : Nat) (snp : Option Nat) (hi : Nat) (bu : Nat) (st : Nat) (la : Nat) (mc : Int) (ea : Nat) (F : Fts) (S : Ls) (gap : Int) (ln : Nat) (nu : Int) (out : Nat) (hO_x1 : kO D H x1 0 [.ref st, va_rf (snp), .ref hi, .ref bu]) (hO_st : kO D H st 1 [.ref la, .int (kI (gap))]) (hO_la : kO D H la 9 [.int (kI (mc)), .ref ea, .int (kI ((S.length : Nat) : Int))]) (hP_kLs_ea : kLs D H ea S.length F) (hP_kLn_F : kLn D H F S) (hok : LsOK S gap) (hln : ln < S.length) (hr_nu : -2147483648 ≤ nu ∧ nu ≤ 2147483647) (hnn : nu < 0 ∨ (ln_n (st_ln S ln) : Int) < nu) : Met l yX0_pointOf (wsW_ yX0_pointOf cX0_pointOf 5 (some .int) [((0 : Nat), (10 : Nat), (13 : Nat), (13 : Nat))]) ({ frames := 9, cells := 1, slots := 6, locals := 186 } : Room) (kPre D H [.ref x1, .int (kI ((ln : Nat) : Int)), .int (kI (nu)), .ref out]) (kQi (fun (r : Int) H' => (r = 1) ∧ (True)) (kNW H)) (1) (6) ((kNW H)) := by
  refine met_of_vx (vx_ofWH (cc := cX0_pointOf) (maxL := 5) (ret := (some .int)) (hh := [((0 : Nat), (10 : Nat), (13 : Nat), (13 : Nat))]) (by decide) rfl ?_)
  intro p e s m args below meth c s₁ B hml hv
  obtain ⟨rfl, hH, hK⟩ := hv
  subst hH
  have hx := B.exec
  have hb := B.bytes
  have hr := B.returns
  have hts := atoms_spec (ws := wsW_ yX0_pointOf cX0_pointOf 5 (some .int) [((0 : Nat), (10 : Nat), (13 : Nat), (13 : Nat))]) B.pre
  have htab := vx_table (x := yX0_pointOf) B (hts _ List.mem_cons_self)
  have hts : ∀ w ∈ lw_all, w.before _ s = true := fun w h => hts w (List.mem_cons_of_mem _ h)
  have hown : s.vm.findClass RX0 = some m.cls := findClass_of_methodNamed B.named
  have hlk := B.notSynchronized
  have hS : va_S (kNW s.heap) s.heap s.heap [] := va_S.rf
  have hB : ∀ q, (kNW s.heap) q → kBase D ≤ q := fun q h => Nat.le_trans hK.size h
  have hl := lv_entry ([.ref x1, .int (kI ((ln : Nat) : Int)), .int (kI (nu)), .ref out]) (n := 5) (Nat.le_of_ble_eq_true rfl)
  rw [lg_entry_eq]
  generalize (lg_sl ([.ref x1, .int (kI ((ln : Nat) : Int)), .int (kI (nu)), .ref out]) ++ List.replicate (5 - (lg_sl ([.ref x1, .int (kI ((ln : Nat) : Int)), .int (kI (nu)), .ref out])).length) Slot.unset).toArray = ls at hl ⊢
  have hl : lv_has ls 5 [(0, .ref x1), (1, .int (kI ((ln : Nat) : Int))), (2, .int (kI (nu))), (3, .ref out)] := hl
  refine lv_aload_n hx hb dX0_pointOf_0 rfl (lv_at hl 3 rfl) ?_
  refine kx_iconst hx hb dX0_pointOf_1 ?_
  refine lv_aload_n hx hb dX0_pointOf_2 rfl (lv_at hl 0 rfl) ?_
  refine lv_iload_n hx hb dX0_pointOf_3 rfl (lv_at hl 1 rfl) ?_
  refine lv_iload_n hx hb dX0_pointOf_4 rfl (lv_at hl 2 rfl) ?_
  refine kx_catch (own := RX0) (nm := "java/lang/IndexOutOfBoundsException") (vx_runV (As := [.int (kI ((ln : Nat) : Int)), .int (kI (nu))]) (rest := [.int (kI (0)), .ref out]) ⟨hx, hb, hml, hown, hts⟩ (x_pointOf_n l hl9 D s.heap x1 snp hi bu st la mc ea F S gap ln nu hO_x1 hO_st hO_la hP_kLs_ea hP_kLn_F (by first | assumption | omega) (by first | assumption | omega) (by first | assumption | omega) (by first | assumption | omega)) (cwV 2 hts (lw_V q1948 q1949 q1950 q79 q1951) rfl rfl rfl (by decide +kernel) ⟨Nat.le_of_ble_eq_true rfl, Nat.le_of_ble_eq_true rfl⟩) (kx_pv hK hS hB (kx_rc hK hO_x1 (C := RX1) (T := TX1) (N := 4) rfl)) rfl rfl hl.1 rfl (lv_room (Nat.le_of_ble_eq_true rfl)) dX0_pointOf_5 ⟨by first | exact Nat.le_of_ble_eq_true rfl | omega | (show _ ≤ _; omega) | (dsimp only [headSpec]; omega), by first | exact Nat.le_of_ble_eq_true rfl | omega | (show _ ≤ _; omega) | (dsimp only [headSpec]; omega)⟩) hS (fun q _ h => by have h9 := hS.1; (try dsimp only at h); (try dsimp only); (try simp only [kNW] at h); (try simp only [kNW]); omega) (fun q h => by have h9 := hS.1; (try dsimp only at h); (try dsimp only); (try simp only [kNW] at h); (try simp only [kNW]); omega) hts hK hown [] ⟨0, 10, 13, 13⟩ [] (by rw [htab]; rfl) (fun z hz => by cases hz) (by decide) (by decide) q1808 q1825 (fun q9_1 H_2 locs_3 hF_4 hS_5 => ?_)
  have hF_4 := hF_4.nw
  refine W.widen (k := 1) (n := 6) (Nat.le_of_ble_eq_true rfl) (Nat.le_of_ble_eq_true rfl) ?_
  refine lv_astore (lv' := [(4, .ref q9_1), (0, .ref x1), (1, .int (kI ((ln : Nat) : Int))), (2, .int (kI (nu))), (3, .ref out)]) hx hb dX0_pointOf_13 hl (by decide) rfl (fun ls hl => ?_)
  refine kx_iconst hx hb dX0_pointOf_15 ?_
  refine vx_ret ?_
  exact kx_iret (z := 1) hx hb hr hlk (⟨by rfl, by first | assumption | rfl | omega | grind⟩) hS_5 dX0_pointOf_16

set_option maxHeartbeats 4000000 in
set_option maxRecDepth 100000 in
theorem wx_bendAt_l (l : Launch) (hl9 : l.stackTraces = false) (D : kG) (H : Heap) (x1 : Nat) (snp : Option Nat) (hi : Nat) (bu : Nat) (st : Nat) (la : Nat) (mc : Int) (ea : Nat) (F : Fts) (S : Ls) (gap : Int) (li : Int) (nu : Int) (out : Nat) (hO_x1 : kO D H x1 0 [.ref st, va_rf (snp), .ref hi, .ref bu]) (hO_st : kO D H st 1 [.ref la, .int (kI (gap))]) (hO_la : kO D H la 9 [.int (kI (mc)), .ref ea, .int (kI ((S.length : Nat) : Int))]) (hP_kLs_ea : kLs D H ea S.length F) (hP_kLn_F : kLn D H F S) (hok : LsOK S gap) (hr_li : -2147483648 ≤ li ∧ li ≤ 2147483647) (hnl : li < 0 ∨ (S.length : Int) ≤ li) (hr_nu : -2147483648 ≤ nu ∧ nu ≤ 2147483647) : Met l yX0_bendAt (wsW_ yX0_bendAt cX0_bendAt 5 (some .int) [((0 : Nat), (10 : Nat), (13 : Nat), (13 : Nat))]) ({ frames := 10, cells := 1, slots := 6, locals := 207 } : Room) (kPre D H [.ref x1, .int (kI (li)), .int (kI (nu)), .ref out]) (kQi (fun (r : Int) H' => (r = 1) ∧ (True)) (kNW H)) (1) (6) ((kNW H)) := by
  refine met_of_vx (vx_ofWH (cc := cX0_bendAt) (maxL := 5) (ret := (some .int)) (hh := [((0 : Nat), (10 : Nat), (13 : Nat), (13 : Nat))]) (by decide) rfl ?_)
  intro p e s m args below meth c s₁ B hml hv
  obtain ⟨rfl, hH, hK⟩ := hv
  subst hH
  have hx := B.exec
  have hb := B.bytes
  have hr := B.returns
  have hts := atoms_spec (ws := wsW_ yX0_bendAt cX0_bendAt 5 (some .int) [((0 : Nat), (10 : Nat), (13 : Nat), (13 : Nat))]) B.pre
  have htab := vx_table (x := yX0_bendAt) B (hts _ List.mem_cons_self)
  have hts : ∀ w ∈ lw_all, w.before _ s = true := fun w h => hts w (List.mem_cons_of_mem _ h)
  have hown : s.vm.findClass RX0 = some m.cls := findClass_of_methodNamed B.named
  have hlk := B.notSynchronized
  have hS : va_S (kNW s.heap) s.heap s.heap [] := va_S.rf
  have hB : ∀ q, (kNW s.heap) q → kBase D ≤ q := fun q h => Nat.le_trans hK.size h
  have hl := lv_entry ([.ref x1, .int (kI (li)), .int (kI (nu)), .ref out]) (n := 5) (Nat.le_of_ble_eq_true rfl)
  rw [lg_entry_eq]
  generalize (lg_sl ([.ref x1, .int (kI (li)), .int (kI (nu)), .ref out]) ++ List.replicate (5 - (lg_sl ([.ref x1, .int (kI (li)), .int (kI (nu)), .ref out])).length) Slot.unset).toArray = ls at hl ⊢
  have hl : lv_has ls 5 [(0, .ref x1), (1, .int (kI (li))), (2, .int (kI (nu))), (3, .ref out)] := hl
  refine lv_aload_n hx hb dX0_bendAt_0 rfl (lv_at hl 3 rfl) ?_
  refine kx_iconst hx hb dX0_bendAt_1 ?_
  refine lv_aload_n hx hb dX0_bendAt_2 rfl (lv_at hl 0 rfl) ?_
  refine lv_iload_n hx hb dX0_bendAt_3 rfl (lv_at hl 1 rfl) ?_
  refine lv_iload_n hx hb dX0_bendAt_4 rfl (lv_at hl 2 rfl) ?_
  refine kx_catch (own := RX0) (nm := "java/lang/IndexOutOfBoundsException") (vx_runV (As := [.int (kI (li)), .int (kI (nu))]) (rest := [.int (kI (0)), .ref out]) ⟨hx, hb, hml, hown, hts⟩ (x_bendAt_l l hl9 D s.heap x1 snp hi bu st la mc ea F S gap li nu hO_x1 hO_st hO_la hP_kLs_ea hP_kLn_F (by first | assumption | omega) (by first | assumption | omega) (by first | assumption | omega) (by first | assumption | omega)) (cwV 2 hts (lw_V q1973 q1974 q1975 q79 q1976) rfl rfl rfl (by decide +kernel) ⟨Nat.le_of_ble_eq_true rfl, Nat.le_of_ble_eq_true rfl⟩) (kx_pv hK hS hB (kx_rc hK hO_x1 (C := RX1) (T := TX1) (N := 4) rfl)) rfl rfl hl.1 rfl (lv_room (Nat.le_of_ble_eq_true rfl)) dX0_bendAt_5 ⟨by first | exact Nat.le_of_ble_eq_true rfl | omega | (show _ ≤ _; omega) | (dsimp only [headSpec]; omega), by first | exact Nat.le_of_ble_eq_true rfl | omega | (show _ ≤ _; omega) | (dsimp only [headSpec]; omega)⟩) hS (fun q _ h => by have h9 := hS.1; (try dsimp only at h); (try dsimp only); (try simp only [kNW] at h); (try simp only [kNW]); omega) (fun q h => by have h9 := hS.1; (try dsimp only at h); (try dsimp only); (try simp only [kNW] at h); (try simp only [kNW]); omega) hts hK hown [] ⟨0, 10, 13, 13⟩ [] (by rw [htab]; rfl) (fun z hz => by cases hz) (by decide) (by decide) q1808 q1825 (fun q9_1 H_2 locs_3 hF_4 hS_5 => ?_)
  have hF_4 := hF_4.nw
  refine W.widen (k := 1) (n := 6) (Nat.le_of_ble_eq_true rfl) (Nat.le_of_ble_eq_true rfl) ?_
  refine lv_astore (lv' := [(4, .ref q9_1), (0, .ref x1), (1, .int (kI (li))), (2, .int (kI (nu))), (3, .ref out)]) hx hb dX0_bendAt_13 hl (by decide) rfl (fun ls hl => ?_)
  refine kx_iconst hx hb dX0_bendAt_15 ?_
  refine vx_ret ?_
  exact kx_iret (z := 1) hx hb hr hlk (⟨by rfl, by first | assumption | rfl | omega | grind⟩) hS_5 dX0_bendAt_16

set_option maxHeartbeats 4000000 in
set_option maxRecDepth 100000 in
theorem wx_bendAt_n (l : Launch) (hl9 : l.stackTraces = false) (D : kG) (H : Heap) (x1 : Nat) (snp : Option Nat) (hi : Nat) (bu : Nat) (st : Nat) (la : Nat) (mc : Int) (ea : Nat) (F : Fts) (S : Ls) (gap : Int) (ln : Nat) (nu : Int) (out : Nat) (hO_x1 : kO D H x1 0 [.ref st, va_rf (snp), .ref hi, .ref bu]) (hO_st : kO D H st 1 [.ref la, .int (kI (gap))]) (hO_la : kO D H la 9 [.int (kI (mc)), .ref ea, .int (kI ((S.length : Nat) : Int))]) (hP_kLs_ea : kLs D H ea S.length F) (hP_kLn_F : kLn D H F S) (hok : LsOK S gap) (hln : ln < S.length) (hr_nu : -2147483648 ≤ nu ∧ nu ≤ 2147483647) (hnn : nu < 0 ∨ (ln_n (st_ln S ln) : Int) < nu) : Met l yX0_bendAt (wsW_ yX0_bendAt cX0_bendAt 5 (some .int) [((0 : Nat), (10 : Nat), (13 : Nat), (13 : Nat))]) ({ frames := 9, cells := 1, slots := 6, locals := 186 } : Room) (kPre D H [.ref x1, .int (kI ((ln : Nat) : Int)), .int (kI (nu)), .ref out]) (kQi (fun (r : Int) H' => (r = 1) ∧ (True)) (kNW H)) (1) (6) ((kNW H)) := by
  refine met_of_vx (vx_ofWH (cc := cX0_bendAt) (maxL := 5) (ret := (some .int)) (hh := [((0 : Nat), (10 : Nat), (13 : Nat), (13 : Nat))]) (by decide) rfl ?_)
  intro p e s m args below meth c s₁ B hml hv
  obtain ⟨rfl, hH, hK⟩ := hv
  subst hH
  have hx := B.exec
  have hb := B.bytes
  have hr := B.returns
  have hts := atoms_spec (ws := wsW_ yX0_bendAt cX0_bendAt 5 (some .int) [((0 : Nat), (10 : Nat), (13 : Nat), (13 : Nat))]) B.pre
  have htab := vx_table (x := yX0_bendAt) B (hts _ List.mem_cons_self)
  have hts : ∀ w ∈ lw_all, w.before _ s = true := fun w h => hts w (List.mem_cons_of_mem _ h)
  have hown : s.vm.findClass RX0 = some m.cls := findClass_of_methodNamed B.named
  have hlk := B.notSynchronized
  have hS : va_S (kNW s.heap) s.heap s.heap [] := va_S.rf
  have hB : ∀ q, (kNW s.heap) q → kBase D ≤ q := fun q h => Nat.le_trans hK.size h
  have hl := lv_entry ([.ref x1, .int (kI ((ln : Nat) : Int)), .int (kI (nu)), .ref out]) (n := 5) (Nat.le_of_ble_eq_true rfl)
  rw [lg_entry_eq]
  generalize (lg_sl ([.ref x1, .int (kI ((ln : Nat) : Int)), .int (kI (nu)), .ref out]) ++ List.replicate (5 - (lg_sl ([.ref x1, .int (kI ((ln : Nat) : Int)), .int (kI (nu)), .ref out])).length) Slot.unset).toArray = ls at hl ⊢
  have hl : lv_has ls 5 [(0, .ref x1), (1, .int (kI ((ln : Nat) : Int))), (2, .int (kI (nu))), (3, .ref out)] := hl
  refine lv_aload_n hx hb dX0_bendAt_0 rfl (lv_at hl 3 rfl) ?_
  refine kx_iconst hx hb dX0_bendAt_1 ?_
  refine lv_aload_n hx hb dX0_bendAt_2 rfl (lv_at hl 0 rfl) ?_
  refine lv_iload_n hx hb dX0_bendAt_3 rfl (lv_at hl 1 rfl) ?_
  refine lv_iload_n hx hb dX0_bendAt_4 rfl (lv_at hl 2 rfl) ?_
  refine kx_catch (own := RX0) (nm := "java/lang/IndexOutOfBoundsException") (vx_runV (As := [.int (kI ((ln : Nat) : Int)), .int (kI (nu))]) (rest := [.int (kI (0)), .ref out]) ⟨hx, hb, hml, hown, hts⟩ (x_bendAt_n l hl9 D s.heap x1 snp hi bu st la mc ea F S gap ln nu hO_x1 hO_st hO_la hP_kLs_ea hP_kLn_F (by first | assumption | omega) (by first | assumption | omega) (by first | assumption | omega) (by first | assumption | omega)) (cwV 2 hts (lw_V q1973 q1974 q1975 q79 q1976) rfl rfl rfl (by decide +kernel) ⟨Nat.le_of_ble_eq_true rfl, Nat.le_of_ble_eq_true rfl⟩) (kx_pv hK hS hB (kx_rc hK hO_x1 (C := RX1) (T := TX1) (N := 4) rfl)) rfl rfl hl.1 rfl (lv_room (Nat.le_of_ble_eq_true rfl)) dX0_bendAt_5 ⟨by first | exact Nat.le_of_ble_eq_true rfl | omega | (show _ ≤ _; omega) | (dsimp only [headSpec]; omega), by first | exact Nat.le_of_ble_eq_true rfl | omega | (show _ ≤ _; omega) | (dsimp only [headSpec]; omega)⟩) hS (fun q _ h => by have h9 := hS.1; (try dsimp only at h); (try dsimp only); (try simp only [kNW] at h); (try simp only [kNW]); omega) (fun q h => by have h9 := hS.1; (try dsimp only at h); (try dsimp only); (try simp only [kNW] at h); (try simp only [kNW]); omega) hts hK hown [] ⟨0, 10, 13, 13⟩ [] (by rw [htab]; rfl) (fun z hz => by cases hz) (by decide) (by decide) q1808 q1825 (fun q9_1 H_2 locs_3 hF_4 hS_5 => ?_)
  have hF_4 := hF_4.nw
  refine W.widen (k := 1) (n := 6) (Nat.le_of_ble_eq_true rfl) (Nat.le_of_ble_eq_true rfl) ?_
  refine lv_astore (lv' := [(4, .ref q9_1), (0, .ref x1), (1, .int (kI ((ln : Nat) : Int))), (2, .int (kI (nu))), (3, .ref out)]) hx hb dX0_bendAt_13 hl (by decide) rfl (fun ls hl => ?_)
  refine kx_iconst hx hb dX0_bendAt_15 ?_
  refine vx_ret ?_
  exact kx_iret (z := 1) hx hb hr hlk (⟨by rfl, by first | assumption | rfl | omega | grind⟩) hS_5 dX0_bendAt_16

set_option maxHeartbeats 4000000 in
set_option maxRecDepth 100000 in
theorem wx_bendOf_l (l : Launch) (hl9 : l.stackTraces = false) (D : kG) (H : Heap) (x1 : Nat) (snp : Option Nat) (hi : Nat) (bu : Nat) (st : Nat) (la : Nat) (mc : Int) (ea : Nat) (F : Fts) (S : Ls) (gap : Int) (li : Int) (nu : Int) (out : Nat) (hO_x1 : kO D H x1 0 [.ref st, va_rf (snp), .ref hi, .ref bu]) (hO_st : kO D H st 1 [.ref la, .int (kI (gap))]) (hO_la : kO D H la 9 [.int (kI (mc)), .ref ea, .int (kI ((S.length : Nat) : Int))]) (hP_kLs_ea : kLs D H ea S.length F) (hP_kLn_F : kLn D H F S) (hok : LsOK S gap) (hr_li : -2147483648 ≤ li ∧ li ≤ 2147483647) (hnl : li < 0 ∨ (S.length : Int) ≤ li) (hr_nu : -2147483648 ≤ nu ∧ nu ≤ 2147483647) : Met l yX0_bendOf (wsW_ yX0_bendOf cX0_bendOf 5 (some .int) [((0 : Nat), (10 : Nat), (13 : Nat), (13 : Nat))]) ({ frames := 10, cells := 1, slots := 6, locals := 208 } : Room) (kPre D H [.ref x1, .int (kI (li)), .int (kI (nu)), .ref out]) (kQi (fun (r : Int) H' => (r = 1) ∧ (True)) (kNW H)) (1) (6) ((kNW H)) := by
  refine met_of_vx (vx_ofWH (cc := cX0_bendOf) (maxL := 5) (ret := (some .int)) (hh := [((0 : Nat), (10 : Nat), (13 : Nat), (13 : Nat))]) (by decide) rfl ?_)
  intro p e s m args below meth c s₁ B hml hv
  obtain ⟨rfl, hH, hK⟩ := hv
  subst hH
  have hx := B.exec
  have hb := B.bytes
  have hr := B.returns
  have hts := atoms_spec (ws := wsW_ yX0_bendOf cX0_bendOf 5 (some .int) [((0 : Nat), (10 : Nat), (13 : Nat), (13 : Nat))]) B.pre
  have htab := vx_table (x := yX0_bendOf) B (hts _ List.mem_cons_self)
  have hts : ∀ w ∈ lw_all, w.before _ s = true := fun w h => hts w (List.mem_cons_of_mem _ h)
  have hown : s.vm.findClass RX0 = some m.cls := findClass_of_methodNamed B.named
  have hlk := B.notSynchronized
  have hS : va_S (kNW s.heap) s.heap s.heap [] := va_S.rf
  have hB : ∀ q, (kNW s.heap) q → kBase D ≤ q := fun q h => Nat.le_trans hK.size h
  have hl := lv_entry ([.ref x1, .int (kI (li)), .int (kI (nu)), .ref out]) (n := 5) (Nat.le_of_ble_eq_true rfl)
  rw [lg_entry_eq]
  generalize (lg_sl ([.ref x1, .int (kI (li)), .int (kI (nu)), .ref out]) ++ List.replicate (5 - (lg_sl ([.ref x1, .int (kI (li)), .int (kI (nu)), .ref out])).length) Slot.unset).toArray = ls at hl ⊢
  have hl : lv_has ls 5 [(0, .ref x1), (1, .int (kI (li))), (2, .int (kI (nu))), (3, .ref out)] := hl
  refine lv_aload_n hx hb dX0_bendOf_0 rfl (lv_at hl 3 rfl) ?_
  refine kx_iconst hx hb dX0_bendOf_1 ?_
  refine lv_aload_n hx hb dX0_bendOf_2 rfl (lv_at hl 0 rfl) ?_
  refine lv_iload_n hx hb dX0_bendOf_3 rfl (lv_at hl 1 rfl) ?_
  refine lv_iload_n hx hb dX0_bendOf_4 rfl (lv_at hl 2 rfl) ?_
  refine kx_catch (own := RX0) (nm := "java/lang/IndexOutOfBoundsException") (vx_runV (As := [.int (kI (li)), .int (kI (nu))]) (rest := [.int (kI (0)), .ref out]) ⟨hx, hb, hml, hown, hts⟩ (x_bendOf_l l hl9 D s.heap x1 snp hi bu st la mc ea F S gap li nu hO_x1 hO_st hO_la hP_kLs_ea hP_kLn_F (by first | assumption | omega) (by first | assumption | omega) (by first | assumption | omega) (by first | assumption | omega)) (cwV 2 hts (lw_V q2044 q2045 q2046 q79 q2047) rfl rfl rfl (by decide +kernel) ⟨Nat.le_of_ble_eq_true rfl, Nat.le_of_ble_eq_true rfl⟩) (kx_pv hK hS hB (kx_rc hK hO_x1 (C := RX1) (T := TX1) (N := 4) rfl)) rfl rfl hl.1 rfl (lv_room (Nat.le_of_ble_eq_true rfl)) dX0_bendOf_5 ⟨by first | exact Nat.le_of_ble_eq_true rfl | omega | (show _ ≤ _; omega) | (dsimp only [headSpec]; omega), by first | exact Nat.le_of_ble_eq_true rfl | omega | (show _ ≤ _; omega) | (dsimp only [headSpec]; omega)⟩) hS (fun q _ h => by have h9 := hS.1; (try dsimp only at h); (try dsimp only); (try simp only [kNW] at h); (try simp only [kNW]); omega) (fun q h => by have h9 := hS.1; (try dsimp only at h); (try dsimp only); (try simp only [kNW] at h); (try simp only [kNW]); omega) hts hK hown [] ⟨0, 10, 13, 13⟩ [] (by rw [htab]; rfl) (fun z hz => by cases hz) (by decide) (by decide) q1808 q1825 (fun q9_1 H_2 locs_3 hF_4 hS_5 => ?_)
  have hF_4 := hF_4.nw
  refine W.widen (k := 1) (n := 6) (Nat.le_of_ble_eq_true rfl) (Nat.le_of_ble_eq_true rfl) ?_
  refine lv_astore (lv' := [(4, .ref q9_1), (0, .ref x1), (1, .int (kI (li))), (2, .int (kI (nu))), (3, .ref out)]) hx hb dX0_bendOf_13 hl (by decide) rfl (fun ls hl => ?_)
  refine kx_iconst hx hb dX0_bendOf_15 ?_
  refine vx_ret ?_
  exact kx_iret (z := 1) hx hb hr hlk (⟨by rfl, by first | assumption | rfl | omega | grind⟩) hS_5 dX0_bendOf_16

set_option maxHeartbeats 4000000 in
set_option maxRecDepth 100000 in
theorem wx_bendOf_n (l : Launch) (hl9 : l.stackTraces = false) (D : kG) (H : Heap) (x1 : Nat) (snp : Option Nat) (hi : Nat) (bu : Nat) (st : Nat) (la : Nat) (mc : Int) (ea : Nat) (F : Fts) (S : Ls) (gap : Int) (ln : Nat) (nu : Int) (out : Nat) (hO_x1 : kO D H x1 0 [.ref st, va_rf (snp), .ref hi, .ref bu]) (hO_st : kO D H st 1 [.ref la, .int (kI (gap))]) (hO_la : kO D H la 9 [.int (kI (mc)), .ref ea, .int (kI ((S.length : Nat) : Int))]) (hP_kLs_ea : kLs D H ea S.length F) (hP_kLn_F : kLn D H F S) (hok : LsOK S gap) (hln : ln < S.length) (hr_nu : -2147483648 ≤ nu ∧ nu ≤ 2147483647) (hnn : nu < 0 ∨ (ln_n (st_ln S ln) : Int) < nu) : Met l yX0_bendOf (wsW_ yX0_bendOf cX0_bendOf 5 (some .int) [((0 : Nat), (10 : Nat), (13 : Nat), (13 : Nat))]) ({ frames := 9, cells := 1, slots := 6, locals := 187 } : Room) (kPre D H [.ref x1, .int (kI ((ln : Nat) : Int)), .int (kI (nu)), .ref out]) (kQi (fun (r : Int) H' => (r = 1) ∧ (True)) (kNW H)) (1) (6) ((kNW H)) := by
  refine met_of_vx (vx_ofWH (cc := cX0_bendOf) (maxL := 5) (ret := (some .int)) (hh := [((0 : Nat), (10 : Nat), (13 : Nat), (13 : Nat))]) (by decide) rfl ?_)
  intro p e s m args below meth c s₁ B hml hv
  obtain ⟨rfl, hH, hK⟩ := hv
  subst hH
  have hx := B.exec
  have hb := B.bytes
  have hr := B.returns
  have hts := atoms_spec (ws := wsW_ yX0_bendOf cX0_bendOf 5 (some .int) [((0 : Nat), (10 : Nat), (13 : Nat), (13 : Nat))]) B.pre
  have htab := vx_table (x := yX0_bendOf) B (hts _ List.mem_cons_self)
  have hts : ∀ w ∈ lw_all, w.before _ s = true := fun w h => hts w (List.mem_cons_of_mem _ h)
  have hown : s.vm.findClass RX0 = some m.cls := findClass_of_methodNamed B.named
  have hlk := B.notSynchronized
  have hS : va_S (kNW s.heap) s.heap s.heap [] := va_S.rf
  have hB : ∀ q, (kNW s.heap) q → kBase D ≤ q := fun q h => Nat.le_trans hK.size h
  have hl := lv_entry ([.ref x1, .int (kI ((ln : Nat) : Int)), .int (kI (nu)), .ref out]) (n := 5) (Nat.le_of_ble_eq_true rfl)
  rw [lg_entry_eq]
  generalize (lg_sl ([.ref x1, .int (kI ((ln : Nat) : Int)), .int (kI (nu)), .ref out]) ++ List.replicate (5 - (lg_sl ([.ref x1, .int (kI ((ln : Nat) : Int)), .int (kI (nu)), .ref out])).length) Slot.unset).toArray = ls at hl ⊢
  have hl : lv_has ls 5 [(0, .ref x1), (1, .int (kI ((ln : Nat) : Int))), (2, .int (kI (nu))), (3, .ref out)] := hl
  refine lv_aload_n hx hb dX0_bendOf_0 rfl (lv_at hl 3 rfl) ?_
  refine kx_iconst hx hb dX0_bendOf_1 ?_
  refine lv_aload_n hx hb dX0_bendOf_2 rfl (lv_at hl 0 rfl) ?_
  refine lv_iload_n hx hb dX0_bendOf_3 rfl (lv_at hl 1 rfl) ?_
  refine lv_iload_n hx hb dX0_bendOf_4 rfl (lv_at hl 2 rfl) ?_
  refine kx_catch (own := RX0) (nm := "java/lang/IndexOutOfBoundsException") (vx_runV (As := [.int (kI ((ln : Nat) : Int)), .int (kI (nu))]) (rest := [.int (kI (0)), .ref out]) ⟨hx, hb, hml, hown, hts⟩ (x_bendOf_n l hl9 D s.heap x1 snp hi bu st la mc ea F S gap ln nu hO_x1 hO_st hO_la hP_kLs_ea hP_kLn_F (by first | assumption | omega) (by first | assumption | omega) (by first | assumption | omega) (by first | assumption | omega)) (cwV 2 hts (lw_V q2044 q2045 q2046 q79 q2047) rfl rfl rfl (by decide +kernel) ⟨Nat.le_of_ble_eq_true rfl, Nat.le_of_ble_eq_true rfl⟩) (kx_pv hK hS hB (kx_rc hK hO_x1 (C := RX1) (T := TX1) (N := 4) rfl)) rfl rfl hl.1 rfl (lv_room (Nat.le_of_ble_eq_true rfl)) dX0_bendOf_5 ⟨by first | exact Nat.le_of_ble_eq_true rfl | omega | (show _ ≤ _; omega) | (dsimp only [headSpec]; omega), by first | exact Nat.le_of_ble_eq_true rfl | omega | (show _ ≤ _; omega) | (dsimp only [headSpec]; omega)⟩) hS (fun q _ h => by have h9 := hS.1; (try dsimp only at h); (try dsimp only); (try simp only [kNW] at h); (try simp only [kNW]); omega) (fun q h => by have h9 := hS.1; (try dsimp only at h); (try dsimp only); (try simp only [kNW] at h); (try simp only [kNW]); omega) hts hK hown [] ⟨0, 10, 13, 13⟩ [] (by rw [htab]; rfl) (fun z hz => by cases hz) (by decide) (by decide) q1808 q1825 (fun q9_1 H_2 locs_3 hF_4 hS_5 => ?_)
  have hF_4 := hF_4.nw
  refine W.widen (k := 1) (n := 6) (Nat.le_of_ble_eq_true rfl) (Nat.le_of_ble_eq_true rfl) ?_
  refine lv_astore (lv' := [(4, .ref q9_1), (0, .ref x1), (1, .int (kI ((ln : Nat) : Int))), (2, .int (kI (nu))), (3, .ref out)]) hx hb dX0_bendOf_13 hl (by decide) rfl (fun ls hl => ?_)
  refine kx_iconst hx hb dX0_bendOf_15 ?_
  refine vx_ret ?_
  exact kx_iret (z := 1) hx hb hr hlk (⟨by rfl, by first | assumption | rfl | omega | grind⟩) hS_5 dX0_bendOf_16

set_option maxHeartbeats 4000000 in
set_option maxRecDepth 100000 in
theorem wx_whyNotLabelled_l (l : Launch) (hl9 : l.stackTraces = false) (D : kG) (H : Heap) (x1 : Nat) (snp : Option Nat) (hi : Nat) (bu : Nat) (st : Nat) (la : Nat) (mc : Int) (ea : Nat) (F : Fts) (S : Ls) (gap : Int) (li : Int) (nu : Int) (out : Nat) (hO_x1 : kO D H x1 0 [.ref st, va_rf (snp), .ref hi, .ref bu]) (hO_st : kO D H st 1 [.ref la, .int (kI (gap))]) (hO_la : kO D H la 9 [.int (kI (mc)), .ref ea, .int (kI ((S.length : Nat) : Int))]) (hP_kLs_ea : kLs D H ea S.length F) (hP_kLn_F : kLn D H F S) (hok : LsOK S gap) (hr_li : -2147483648 ≤ li ∧ li ≤ 2147483647) (hnl : li < 0 ∨ (S.length : Int) ≤ li) (hr_nu : -2147483648 ≤ nu ∧ nu ≤ 2147483647) : Met l yX0_whyNotLabelled (wsW_ yX0_whyNotLabelled cX0_whyNotLabelled 5 (some .int) [((0 : Nat), (10 : Nat), (13 : Nat), (13 : Nat))]) ({ frames := 10, cells := 1, slots := 6, locals := 207 } : Room) (kPre D H [.ref x1, .int (kI (li)), .int (kI (nu)), .ref out]) (kQi (fun (r : Int) H' => (r = 1) ∧ (True)) (kNW H)) (1) (6) ((kNW H)) := by
  refine met_of_vx (vx_ofWH (cc := cX0_whyNotLabelled) (maxL := 5) (ret := (some .int)) (hh := [((0 : Nat), (10 : Nat), (13 : Nat), (13 : Nat))]) (by decide) rfl ?_)
  intro p e s m args below meth c s₁ B hml hv
  obtain ⟨rfl, hH, hK⟩ := hv
  subst hH
  have hx := B.exec
  have hb := B.bytes
  have hr := B.returns
  have hts := atoms_spec (ws := wsW_ yX0_whyNotLabelled cX0_whyNotLabelled 5 (some .int) [((0 : Nat), (10 : Nat), (13 : Nat), (13 : Nat))]) B.pre
  have htab := vx_table (x := yX0_whyNotLabelled) B (hts _ List.mem_cons_self)
  have hts : ∀ w ∈ lw_all, w.before _ s = true := fun w h => hts w (List.mem_cons_of_mem _ h)
  have hown : s.vm.findClass RX0 = some m.cls := findClass_of_methodNamed B.named
  have hlk := B.notSynchronized
  have hS : va_S (kNW s.heap) s.heap s.heap [] := va_S.rf
  have hB : ∀ q, (kNW s.heap) q → kBase D ≤ q := fun q h => Nat.le_trans hK.size h
  have hl := lv_entry ([.ref x1, .int (kI (li)), .int (kI (nu)), .ref out]) (n := 5) (Nat.le_of_ble_eq_true rfl)
  rw [lg_entry_eq]
  generalize (lg_sl ([.ref x1, .int (kI (li)), .int (kI (nu)), .ref out]) ++ List.replicate (5 - (lg_sl ([.ref x1, .int (kI (li)), .int (kI (nu)), .ref out])).length) Slot.unset).toArray = ls at hl ⊢
  have hl : lv_has ls 5 [(0, .ref x1), (1, .int (kI (li))), (2, .int (kI (nu))), (3, .ref out)] := hl
  refine lv_aload_n hx hb dX0_whyNotLabelled_0 rfl (lv_at hl 3 rfl) ?_
  refine kx_iconst hx hb dX0_whyNotLabelled_1 ?_
  refine lv_aload_n hx hb dX0_whyNotLabelled_2 rfl (lv_at hl 0 rfl) ?_
  refine lv_iload_n hx hb dX0_whyNotLabelled_3 rfl (lv_at hl 1 rfl) ?_
  refine lv_iload_n hx hb dX0_whyNotLabelled_4 rfl (lv_at hl 2 rfl) ?_
  refine kx_catch (own := RX0) (nm := "java/lang/IndexOutOfBoundsException") (vx_runV (As := [.int (kI (li)), .int (kI (nu))]) (rest := [.int (kI (0)), .ref out]) ⟨hx, hb, hml, hown, hts⟩ (x_whyNotLabelled_l l hl9 D s.heap x1 snp hi bu st la mc ea F S gap li nu hO_x1 hO_st hO_la hP_kLs_ea hP_kLn_F (by first | assumption | omega) (by first | assumption | omega) (by first | assumption | omega) (by first | assumption | omega)) (cwV 2 hts (lw_V q2052 q1897 q1898 q79 q1899) rfl rfl rfl (by decide +kernel) ⟨Nat.le_of_ble_eq_true rfl, Nat.le_of_ble_eq_true rfl⟩) (kx_pv hK hS hB (kx_rc hK hO_x1 (C := RX1) (T := TX1) (N := 4) rfl)) rfl rfl hl.1 rfl (lv_room (Nat.le_of_ble_eq_true rfl)) dX0_whyNotLabelled_5 ⟨by first | exact Nat.le_of_ble_eq_true rfl | omega | (show _ ≤ _; omega) | (dsimp only [headSpec]; omega), by first | exact Nat.le_of_ble_eq_true rfl | omega | (show _ ≤ _; omega) | (dsimp only [headSpec]; omega)⟩) hS (fun q _ h => by have h9 := hS.1; (try dsimp only at h); (try dsimp only); (try simp only [kNW] at h); (try simp only [kNW]); omega) (fun q h => by have h9 := hS.1; (try dsimp only at h); (try dsimp only); (try simp only [kNW] at h); (try simp only [kNW]); omega) hts hK hown [] ⟨0, 10, 13, 13⟩ [] (by rw [htab]; rfl) (fun z hz => by cases hz) (by decide) (by decide) q1808 q1825 (fun q9_1 H_2 locs_3 hF_4 hS_5 => ?_)
  have hF_4 := hF_4.nw
  refine W.widen (k := 1) (n := 6) (Nat.le_of_ble_eq_true rfl) (Nat.le_of_ble_eq_true rfl) ?_
  refine lv_astore (lv' := [(4, .ref q9_1), (0, .ref x1), (1, .int (kI (li))), (2, .int (kI (nu))), (3, .ref out)]) hx hb dX0_whyNotLabelled_13 hl (by decide) rfl (fun ls hl => ?_)
  refine kx_iconst hx hb dX0_whyNotLabelled_15 ?_
  refine vx_ret ?_
  exact kx_iret (z := 1) hx hb hr hlk (⟨by rfl, by first | assumption | rfl | omega | grind⟩) hS_5 dX0_whyNotLabelled_16

set_option maxHeartbeats 4000000 in
set_option maxRecDepth 100000 in
theorem wx_whyNotLabelled_n (l : Launch) (hl9 : l.stackTraces = false) (D : kG) (H : Heap) (x1 : Nat) (snp : Option Nat) (hi : Nat) (bu : Nat) (st : Nat) (la : Nat) (mc : Int) (ea : Nat) (F : Fts) (S : Ls) (gap : Int) (ln : Nat) (nu : Int) (out : Nat) (hO_x1 : kO D H x1 0 [.ref st, va_rf (snp), .ref hi, .ref bu]) (hO_st : kO D H st 1 [.ref la, .int (kI (gap))]) (hO_la : kO D H la 9 [.int (kI (mc)), .ref ea, .int (kI ((S.length : Nat) : Int))]) (hP_kLs_ea : kLs D H ea S.length F) (hP_kLn_F : kLn D H F S) (hok : LsOK S gap) (hln : ln < S.length) (hr_nu : -2147483648 ≤ nu ∧ nu ≤ 2147483647) (hnn : nu < 0 ∨ (ln_n (st_ln S ln) : Int) < nu) : Met l yX0_whyNotLabelled (wsW_ yX0_whyNotLabelled cX0_whyNotLabelled 5 (some .int) [((0 : Nat), (10 : Nat), (13 : Nat), (13 : Nat))]) ({ frames := 9, cells := 1, slots := 6, locals := 186 } : Room) (kPre D H [.ref x1, .int (kI ((ln : Nat) : Int)), .int (kI (nu)), .ref out]) (kQi (fun (r : Int) H' => (r = 1) ∧ (True)) (kNW H)) (1) (6) ((kNW H)) := by
  refine met_of_vx (vx_ofWH (cc := cX0_whyNotLabelled) (maxL := 5) (ret := (some .int)) (hh := [((0 : Nat), (10 : Nat), (13 : Nat), (13 : Nat))]) (by decide) rfl ?_)
  intro p e s m args below meth c s₁ B hml hv
  obtain ⟨rfl, hH, hK⟩ := hv
  subst hH
  have hx := B.exec
  have hb := B.bytes
  have hr := B.returns
  have hts := atoms_spec (ws := wsW_ yX0_whyNotLabelled cX0_whyNotLabelled 5 (some .int) [((0 : Nat), (10 : Nat), (13 : Nat), (13 : Nat))]) B.pre
  have htab := vx_table (x := yX0_whyNotLabelled) B (hts _ List.mem_cons_self)
  have hts : ∀ w ∈ lw_all, w.before _ s = true := fun w h => hts w (List.mem_cons_of_mem _ h)
  have hown : s.vm.findClass RX0 = some m.cls := findClass_of_methodNamed B.named
  have hlk := B.notSynchronized
  have hS : va_S (kNW s.heap) s.heap s.heap [] := va_S.rf
  have hB : ∀ q, (kNW s.heap) q → kBase D ≤ q := fun q h => Nat.le_trans hK.size h
  have hl := lv_entry ([.ref x1, .int (kI ((ln : Nat) : Int)), .int (kI (nu)), .ref out]) (n := 5) (Nat.le_of_ble_eq_true rfl)
  rw [lg_entry_eq]
  generalize (lg_sl ([.ref x1, .int (kI ((ln : Nat) : Int)), .int (kI (nu)), .ref out]) ++ List.replicate (5 - (lg_sl ([.ref x1, .int (kI ((ln : Nat) : Int)), .int (kI (nu)), .ref out])).length) Slot.unset).toArray = ls at hl ⊢
  have hl : lv_has ls 5 [(0, .ref x1), (1, .int (kI ((ln : Nat) : Int))), (2, .int (kI (nu))), (3, .ref out)] := hl
  refine lv_aload_n hx hb dX0_whyNotLabelled_0 rfl (lv_at hl 3 rfl) ?_
  refine kx_iconst hx hb dX0_whyNotLabelled_1 ?_
  refine lv_aload_n hx hb dX0_whyNotLabelled_2 rfl (lv_at hl 0 rfl) ?_
  refine lv_iload_n hx hb dX0_whyNotLabelled_3 rfl (lv_at hl 1 rfl) ?_
  refine lv_iload_n hx hb dX0_whyNotLabelled_4 rfl (lv_at hl 2 rfl) ?_
  refine kx_catch (own := RX0) (nm := "java/lang/IndexOutOfBoundsException") (vx_runV (As := [.int (kI ((ln : Nat) : Int)), .int (kI (nu))]) (rest := [.int (kI (0)), .ref out]) ⟨hx, hb, hml, hown, hts⟩ (x_whyNotLabelled_n l hl9 D s.heap x1 snp hi bu st la mc ea F S gap ln nu hO_x1 hO_st hO_la hP_kLs_ea hP_kLn_F (by first | assumption | omega) (by first | assumption | omega) (by first | assumption | omega) (by first | assumption | omega)) (cwV 2 hts (lw_V q2052 q1897 q1898 q79 q1899) rfl rfl rfl (by decide +kernel) ⟨Nat.le_of_ble_eq_true rfl, Nat.le_of_ble_eq_true rfl⟩) (kx_pv hK hS hB (kx_rc hK hO_x1 (C := RX1) (T := TX1) (N := 4) rfl)) rfl rfl hl.1 rfl (lv_room (Nat.le_of_ble_eq_true rfl)) dX0_whyNotLabelled_5 ⟨by first | exact Nat.le_of_ble_eq_true rfl | omega | (show _ ≤ _; omega) | (dsimp only [headSpec]; omega), by first | exact Nat.le_of_ble_eq_true rfl | omega | (show _ ≤ _; omega) | (dsimp only [headSpec]; omega)⟩) hS (fun q _ h => by have h9 := hS.1; (try dsimp only at h); (try dsimp only); (try simp only [kNW] at h); (try simp only [kNW]); omega) (fun q h => by have h9 := hS.1; (try dsimp only at h); (try dsimp only); (try simp only [kNW] at h); (try simp only [kNW]); omega) hts hK hown [] ⟨0, 10, 13, 13⟩ [] (by rw [htab]; rfl) (fun z hz => by cases hz) (by decide) (by decide) q1808 q1825 (fun q9_1 H_2 locs_3 hF_4 hS_5 => ?_)
  have hF_4 := hF_4.nw
  refine W.widen (k := 1) (n := 6) (Nat.le_of_ble_eq_true rfl) (Nat.le_of_ble_eq_true rfl) ?_
  refine lv_astore (lv' := [(4, .ref q9_1), (0, .ref x1), (1, .int (kI ((ln : Nat) : Int))), (2, .int (kI (nu))), (3, .ref out)]) hx hb dX0_whyNotLabelled_13 hl (by decide) rfl (fun ls hl => ?_)
  refine kx_iconst hx hb dX0_whyNotLabelled_15 ?_
  refine vx_ret ?_
  exact kx_iret (z := 1) hx hb hr hlk (⟨by rfl, by first | assumption | rfl | omega | grind⟩) hS_5 dX0_whyNotLabelled_16

set_option maxHeartbeats 4000000 in
set_option maxRecDepth 100000 in
theorem wx_lengthByKinds (l : Launch) (hl9 : l.stackTraces = false) (D : kG) (H : Heap) (x1 : Nat) (snp : Option Nat) (hi : Nat) (bu : Nat) (st : Nat) (la : Nat) (mc : Int) (ea : Nat) (F : Fts) (S : Ls) (gap : Int) (li : Int) (out : Nat) (hO_x1 : kO D H x1 0 [.ref st, va_rf (snp), .ref hi, .ref bu]) (hO_st : kO D H st 1 [.ref la, .int (kI (gap))]) (hO_la : kO D H la 9 [.int (kI (mc)), .ref ea, .int (kI ((S.length : Nat) : Int))]) (hP_kLs_ea : kLs D H ea S.length F) (hP_kLn_F : kLn D H F S) (hok : LsOK S gap) (hr_li : -2147483648 ≤ li ∧ li ≤ 2147483647) (hnl : li < 0 ∨ (S.length : Int) ≤ li) : Met l yX0_lengthByKinds (wsW_ yX0_lengthByKinds cX0_lengthByKinds 4 (some .int) [((0 : Nat), (8 : Nat), (11 : Nat), (13 : Nat))]) ({ frames := 9, cells := 1, slots := 6, locals := 185 } : Room) (kPre D H [.ref x1, .int (kI (li)), .ref out]) (kQi (fun (r : Int) H' => (r = 1) ∧ (True)) (kNW H)) (1) (6) ((kNW H)) := by
  refine met_of_vx (vx_ofWH (cc := cX0_lengthByKinds) (maxL := 4) (ret := (some .int)) (hh := [((0 : Nat), (8 : Nat), (11 : Nat), (13 : Nat))]) (by decide) rfl ?_)
  intro p e s m args below meth c s₁ B hml hv
  obtain ⟨rfl, hH, hK⟩ := hv
  subst hH
  have hx := B.exec
  have hb := B.bytes
  have hr := B.returns
  have hts := atoms_spec (ws := wsW_ yX0_lengthByKinds cX0_lengthByKinds 4 (some .int) [((0 : Nat), (8 : Nat), (11 : Nat), (13 : Nat))]) B.pre
  have htab := vx_table (x := yX0_lengthByKinds) B (hts _ List.mem_cons_self)
  have hts : ∀ w ∈ lw_all, w.before _ s = true := fun w h => hts w (List.mem_cons_of_mem _ h)
  have hown : s.vm.findClass RX0 = some m.cls := findClass_of_methodNamed B.named
  have hlk := B.notSynchronized
  have hS : va_S (kNW s.heap) s.heap s.heap [] := va_S.rf
  have hB : ∀ q, (kNW s.heap) q → kBase D ≤ q := fun q h => Nat.le_trans hK.size h
  have hl := lv_entry ([.ref x1, .int (kI (li)), .ref out]) (n := 4) (Nat.le_of_ble_eq_true rfl)
  rw [lg_entry_eq]
  generalize (lg_sl ([.ref x1, .int (kI (li)), .ref out]) ++ List.replicate (4 - (lg_sl ([.ref x1, .int (kI (li)), .ref out])).length) Slot.unset).toArray = ls at hl ⊢
  have hl : lv_has ls 4 [(0, .ref x1), (1, .int (kI (li))), (2, .ref out)] := hl
  refine lv_aload_n hx hb dX0_lengthByKinds_0 rfl (lv_at hl 2 rfl) ?_
  refine kx_iconst hx hb dX0_lengthByKinds_1 ?_
  refine lv_aload_n hx hb dX0_lengthByKinds_2 rfl (lv_at hl 0 rfl) ?_
  refine lv_iload_n hx hb dX0_lengthByKinds_3 rfl (lv_at hl 1 rfl) ?_
  refine kx_catch (own := RX0) (nm := "java/lang/IndexOutOfBoundsException") (vx_runV (As := [.int (kI (li))]) (rest := [.int (kI (0)), .ref out]) ⟨hx, hb, hml, hown, hts⟩ (x_lengthByKinds l hl9 D s.heap x1 snp hi bu st la mc ea F S gap li hO_x1 hO_st hO_la hP_kLs_ea hP_kLn_F (by first | assumption | omega) (by first | assumption | omega) (by first | assumption | omega)) (cwV 1 hts (lw_V q1981 q1982 q1983 q79 q1984) rfl rfl rfl (by decide +kernel) ⟨Nat.le_of_ble_eq_true rfl, Nat.le_of_ble_eq_true rfl⟩) (kx_pv hK hS hB (kx_rc hK hO_x1 (C := RX1) (T := TX1) (N := 4) rfl)) rfl rfl hl.1 rfl (lv_room (Nat.le_of_ble_eq_true rfl)) dX0_lengthByKinds_4 ⟨by first | exact Nat.le_of_ble_eq_true rfl | omega | (show _ ≤ _; omega) | (dsimp only [headSpec]; omega), by first | exact Nat.le_of_ble_eq_true rfl | omega | (show _ ≤ _; omega) | (dsimp only [headSpec]; omega)⟩) hS (fun q _ h => by have h9 := hS.1; (try dsimp only at h); (try dsimp only); (try simp only [kNW] at h); (try simp only [kNW]); omega) (fun q h => by have h9 := hS.1; (try dsimp only at h); (try dsimp only); (try simp only [kNW] at h); (try simp only [kNW]); omega) hts hK hown [] ⟨0, 8, 11, 13⟩ [] (by rw [htab]; rfl) (fun z hz => by cases hz) (by decide) (by decide) q1808 q1825 (fun q9_1 H_2 locs_3 hF_4 hS_5 => ?_)
  have hF_4 := hF_4.nw
  refine W.widen (k := 1) (n := 6) (Nat.le_of_ble_eq_true rfl) (Nat.le_of_ble_eq_true rfl) ?_
  refine lv_astore_n (lv' := [(3, .ref q9_1), (0, .ref x1), (1, .int (kI (li))), (2, .ref out)]) hx hb dX0_lengthByKinds_11 rfl hl (by decide) rfl (fun ls hl => ?_)
  refine kx_iconst hx hb dX0_lengthByKinds_12 ?_
  refine vx_ret ?_
  exact kx_iret (z := 1) hx hb hr hlk (⟨by rfl, by first | assumption | rfl | omega | grind⟩) hS_5 dX0_lengthByKinds_13

set_option maxHeartbeats 4000000 in
set_option maxRecDepth 100000 in
theorem wx_lengthBySteps (l : Launch) (hl9 : l.stackTraces = false) (D : kG) (H : Heap) (x1 : Nat) (snp : Option Nat) (hi : Nat) (bu : Nat) (st : Nat) (la : Nat) (mc : Int) (ea : Nat) (F : Fts) (S : Ls) (gap : Int) (li : Int) (out : Nat) (hO_x1 : kO D H x1 0 [.ref st, va_rf (snp), .ref hi, .ref bu]) (hO_st : kO D H st 1 [.ref la, .int (kI (gap))]) (hO_la : kO D H la 9 [.int (kI (mc)), .ref ea, .int (kI ((S.length : Nat) : Int))]) (hP_kLs_ea : kLs D H ea S.length F) (hP_kLn_F : kLn D H F S) (hok : LsOK S gap) (hr_li : -2147483648 ≤ li ∧ li ≤ 2147483647) (hnl : li < 0 ∨ (S.length : Int) ≤ li) : Met l yX0_lengthBySteps (wsW_ yX0_lengthBySteps cX0_lengthBySteps 4 (some .int) [((0 : Nat), (8 : Nat), (11 : Nat), (13 : Nat))]) ({ frames := 9, cells := 1, slots := 6, locals := 183 } : Room) (kPre D H [.ref x1, .int (kI (li)), .ref out]) (kQi (fun (r : Int) H' => (r = 1) ∧ (True)) (kNW H)) (1) (6) ((kNW H)) := by
  refine met_of_vx (vx_ofWH (cc := cX0_lengthBySteps) (maxL := 4) (ret := (some .int)) (hh := [((0 : Nat), (8 : Nat), (11 : Nat), (13 : Nat))]) (by decide) rfl ?_)
  intro p e s m args below meth c s₁ B hml hv
  obtain ⟨rfl, hH, hK⟩ := hv
  subst hH
  have hx := B.exec
  have hb := B.bytes
  have hr := B.returns
  have hts := atoms_spec (ws := wsW_ yX0_lengthBySteps cX0_lengthBySteps 4 (some .int) [((0 : Nat), (8 : Nat), (11 : Nat), (13 : Nat))]) B.pre
  have htab := vx_table (x := yX0_lengthBySteps) B (hts _ List.mem_cons_self)
  have hts : ∀ w ∈ lw_all, w.before _ s = true := fun w h => hts w (List.mem_cons_of_mem _ h)
  have hown : s.vm.findClass RX0 = some m.cls := findClass_of_methodNamed B.named
  have hlk := B.notSynchronized
  have hS : va_S (kNW s.heap) s.heap s.heap [] := va_S.rf
  have hB : ∀ q, (kNW s.heap) q → kBase D ≤ q := fun q h => Nat.le_trans hK.size h
  have hl := lv_entry ([.ref x1, .int (kI (li)), .ref out]) (n := 4) (Nat.le_of_ble_eq_true rfl)
  rw [lg_entry_eq]
  generalize (lg_sl ([.ref x1, .int (kI (li)), .ref out]) ++ List.replicate (4 - (lg_sl ([.ref x1, .int (kI (li)), .ref out])).length) Slot.unset).toArray = ls at hl ⊢
  have hl : lv_has ls 4 [(0, .ref x1), (1, .int (kI (li))), (2, .ref out)] := hl
  refine lv_aload_n hx hb dX0_lengthBySteps_0 rfl (lv_at hl 2 rfl) ?_
  refine kx_iconst hx hb dX0_lengthBySteps_1 ?_
  refine lv_aload_n hx hb dX0_lengthBySteps_2 rfl (lv_at hl 0 rfl) ?_
  refine lv_iload_n hx hb dX0_lengthBySteps_3 rfl (lv_at hl 1 rfl) ?_
  refine kx_catch (own := RX0) (nm := "java/lang/IndexOutOfBoundsException") (vx_runV (As := [.int (kI (li))]) (rest := [.int (kI (0)), .ref out]) ⟨hx, hb, hml, hown, hts⟩ (x_lengthBySteps l hl9 D s.heap x1 snp hi bu st la mc ea F S gap li hO_x1 hO_st hO_la hP_kLs_ea hP_kLn_F (by first | assumption | omega) (by first | assumption | omega) (by first | assumption | omega)) (cwV 1 hts (lw_V q1994 q1995 q1996 q79 q1997) rfl rfl rfl (by decide +kernel) ⟨Nat.le_of_ble_eq_true rfl, Nat.le_of_ble_eq_true rfl⟩) (kx_pv hK hS hB (kx_rc hK hO_x1 (C := RX1) (T := TX1) (N := 4) rfl)) rfl rfl hl.1 rfl (lv_room (Nat.le_of_ble_eq_true rfl)) dX0_lengthBySteps_4 ⟨by first | exact Nat.le_of_ble_eq_true rfl | omega | (show _ ≤ _; omega) | (dsimp only [headSpec]; omega), by first | exact Nat.le_of_ble_eq_true rfl | omega | (show _ ≤ _; omega) | (dsimp only [headSpec]; omega)⟩) hS (fun q _ h => by have h9 := hS.1; (try dsimp only at h); (try dsimp only); (try simp only [kNW] at h); (try simp only [kNW]); omega) (fun q h => by have h9 := hS.1; (try dsimp only at h); (try dsimp only); (try simp only [kNW] at h); (try simp only [kNW]); omega) hts hK hown [] ⟨0, 8, 11, 13⟩ [] (by rw [htab]; rfl) (fun z hz => by cases hz) (by decide) (by decide) q1808 q1825 (fun q9_1 H_2 locs_3 hF_4 hS_5 => ?_)
  have hF_4 := hF_4.nw
  refine W.widen (k := 1) (n := 6) (Nat.le_of_ble_eq_true rfl) (Nat.le_of_ble_eq_true rfl) ?_
  refine lv_astore_n (lv' := [(3, .ref q9_1), (0, .ref x1), (1, .int (kI (li))), (2, .ref out)]) hx hb dX0_lengthBySteps_11 rfl hl (by decide) rfl (fun ls hl => ?_)
  refine kx_iconst hx hb dX0_lengthBySteps_12 ?_
  refine vx_ret ?_
  exact kx_iret (z := 1) hx hb hr hlk (⟨by rfl, by first | assumption | rfl | omega | grind⟩) hS_5 dX0_lengthBySteps_13

