/-! MATH 61: the buffer; two writes in a row -/
def kTx (D : kG) (H : Heap) (bu vb : Nat) (t : List Int) : Prop := ∃ (ml : Bool) (cap : Nat) (g : Nat → Int), kO D H bu 11 [.ref vb, .int (kI 0), .int (kI (kb ml)), .int (kI ((t.length : Nat) : Int))] ∧ kAb D H vb cap g ∧ MTx g t ∧ t.length ≤ cap ∧ (cap = 16 ∨ cap = 34 ∨ cap = 70) ∧ t.length ≤ 60
theorem kTx.fr {D : kG} {H H1 : Heap} {bu vb : Nat} {t : List Int} {A : Nat → Prop} (q : kTx D H bu vb t) (f : kFr A H H1) (n : ¬ A bu ∧ ¬ A vb) : kTx D H1 bu vb t := by
  obtain ⟨ml, cap, g, h1, h2, h3⟩ := q
  exact ⟨ml, cap, g, h1.fr f n.1, h2.fr f n.2, h3⟩
theorem kTx.ex {D : kG} {H H1 : Heap} {bu vb : Nat} {t : List Int} (q : kTx D H bu vb t) (f : kEx H H1) : kTx D H1 bu vb t := by
  obtain ⟨ml, cap, g, h1, h2, h3⟩ := q
  exact ⟨ml, cap, g, h1.ex f, h2.ex f, h3⟩
theorem MTx.snoc {g g2 : Nat → Int} {t : List Int} {x : Int} (hT : MTx g t) (h : ∀ j, j < t.length → g2 j = g j) (hx : g2 t.length = x) (hr : 32 ≤ x ∧ x ≤ 126) : MTx g2 (t ++ [x]) := by
  intro i hi
  have hl : i < t.length + 1 := by simpa using hi
  rw [List.getD_eq_getElem?_getD]
  by_cases e : i = t.length
  · subst e
    rw [List.getElem?_append_right (Nat.le_refl _), Nat.sub_self]
    exact ⟨hx, hr⟩
  · rw [List.getElem?_append_left (by omega), ← List.getD_eq_getElem?_getD, h i (by omega)]
    exact hT i (by omega)
theorem kEx.fr2 {H0 H1 H2 : Heap} {A : Nat → Prop} (h1 : kEx H0 H1) (h2 : kFr A H1 H2) (hA : ∀ x, A x → H0.size ≤ x) : kEx H0 H2 :=
  ⟨Nat.le_trans h1.1 h2.1, fun q hq => (h2.2 q (Nat.lt_of_lt_of_le hq h1.1) (fun z => by have := hA q z; omega)).trans (h1.2 q hq)⟩
def w_l1 (L : Ln) (v : Int) : Ln := (v, ln_lb L, ln_bg L, ln_ds L)
set_option maxHeartbeats 4000000 in
set_option maxRecDepth 100000 in
theorem m_X1_line_w (l : Launch) (D : kG) (H : Heap) (x1 : Nat) (snp : Option Nat) (hi : Nat) (bu : Nat) (st : Nat) (la : Nat) (mc : Int) (ea : Nat) (F : Fts) (S : Ls) (gap : Int) (ln : Nat) (hO_x1 : kO D H x1 0 [.ref st, va_rf (snp), .ref hi, .ref bu]) (hO_st : kO D H st 1 [.ref la, .int (kI (gap))]) (hO_la : kO D H la 9 [.int (kI (mc)), .ref ea, .int (kI ((S.length : Nat) : Int))]) (hP_kLs_ea : kLs D H ea S.length F) (hP_kLn_F : kLn D H F S) (hL8 : S.length ≤ 8) (hln : ln < S.length) : Met l yX1_line (ws_ yX1_line cX1_line 2 (some (.object "ContourLabels$Line"))) ({ frames := 3, cells := 0, slots := 0, locals := 64 } : Room) (kPre D H [.ref x1, .int (kI ((ln : Nat) : Int))]) (kQr (fun (r : Nat) H' => H' = H ∧ r = fA F ln) kNO) (0) (0) (kNO) := by
  refine Met.ofW (cc := cX1_line) (maxL := 2) (ret := (some (.object "ContourLabels$Line"))) (by decide) rfl ?_
  intro p e s m args below meth c s₁ B hml hv
  obtain ⟨rfl, hH, hK⟩ := hv
  subst hH
  have hx := B.exec
  have hb := B.bytes
  have hr := B.returns
  have hts := atoms_spec (ws := ws_ yX1_line cX1_line 2 (some (.object "ContourLabels$Line"))) B.pre
  have hts : ∀ w ∈ lw_all, w.before _ s = true := fun w h => hts w (List.mem_cons_of_mem _ h)
  have hown : s.vm.findClass RX1 = some m.cls := findClass_of_methodNamed B.named
  have hlk := B.notSynchronized
  have hS : va_S kNO s.heap s.heap [] := va_S.rf
  have hB : ∀ q, kNO q → kBase D ≤ q := fun _ h => h.elim
  have hl := lv_entry ([.ref x1, .int (kI ((ln : Nat) : Int))]) (n := 2) (Nat.le_of_ble_eq_true rfl)
  rw [lg_entry_eq]
  generalize (lg_sl ([.ref x1, .int (kI ((ln : Nat) : Int))]) ++ List.replicate (2 - (lg_sl ([.ref x1, .int (kI ((ln : Nat) : Int))])).length) Slot.unset).toArray = ls at hl ⊢
  have hl : lv_has ls 2 [(0, .ref x1), (1, .int (kI ((ln : Nat) : Int)))] := hl
  refine lv_iload_n hx hb dX1_line_0 rfl (lv_at hl 1 rfl) ?_
  refine lv_aload_n hx hb dX1_line_1 rfl (lv_at hl 0 rfl) ?_
  refine kx_get (v := .ref st) (C := RX1) (T := TX1) (N := 4) hx hb hts in_X1 hown hK hO_x1 rfl 0 (by decide) q229 (fun _ h9 => h9) rfl dX1_line_2 ?_
  refine kx_get (v := .ref la) (C := RX2) (T := TX2) (N := 2) hx hb hts in_X2 hown hK hO_st rfl 0 (by decide) q168 (fun _ h9 => h9) rfl dX1_line_5 ?_
  refine kx_cFi0 (va_runF (C := RJ2) (As := []) (rest := [.int (kI ((ln : Nat) : Int))]) (hK.at (ci := 9) rfl) ⟨hx, hb, hml, hown, hts⟩ (m_J2_size l D s.heap la mc ea S.length hO_la ) (va_cwF (x := ({ cls := "java/util/List", name := "size", desc := "()I" } : Jvm.MethodName)) 0 hts (lw_F q1267 q283 q285 q83 q287) rfl rfl rfl (hK.fw (by decide)) (by decide +kernel) ⟨Nat.le_of_ble_eq_true rfl, Nat.le_of_ble_eq_true rfl⟩) (kx_pv hK hS hB (kx_rc hK hO_la (C := RJ2) (T := TJ2) (N := 3) rfl)) rfl rfl hl.1 rfl (lv_room (Nat.le_of_ble_eq_true rfl)) dX1_line_8 ⟨by first | exact Nat.le_of_ble_eq_true rfl | omega | (show _ ≤ _; omega) | (dsimp only [headSpec]; omega), by first | exact Nat.le_of_ble_eq_true rfl | omega | (show _ ≤ _; omega) | (dsimp only [headSpec]; omega)⟩) hS (fun z_4 locs_1 hz_3 hS_2 => ?_)
  subst z_4
  refine kx_cv0 (va_runS (As := [.int (kI ((ln : Nat) : Int)), .int (kI ((S.length : Nat) : Int))]) (rest := []) ⟨hx, hb, hml, hown, hts⟩ (m_X1_checkNumber l D s.heap (((ln : Nat) : Int)) (((S.length : Nat) : Int))  (by first | assumption | omega) (by first | assumption | omega) (by first | assumption | omega)) (va_cwS 2 hts (lw_S q1820 q1821 q79 q1822) rfl rfl rfl (by decide +kernel) ⟨Nat.le_of_ble_eq_true rfl, Nat.le_of_ble_eq_true rfl⟩) (kx_ps hK hS_2 hB) rfl rfl hl.1 rfl (lv_room (Nat.le_of_ble_eq_true rfl)) dX1_line_13 ⟨by first | exact Nat.le_of_ble_eq_true rfl | omega | (show _ ≤ _; omega) | (dsimp only [headSpec]; omega), by first | exact Nat.le_of_ble_eq_true rfl | omega | (show _ ≤ _; omega) | (dsimp only [headSpec]; omega)⟩) hS_2 (fun locs_5 hz_7 hS_6 => ?_)
  refine lv_aload_n hx hb dX1_line_16 rfl (lv_at hl 0 rfl) ?_
  refine kx_get (v := .ref st) (C := RX1) (T := TX1) (N := 4) hx hb hts in_X1 hown hK hO_x1 rfl 0 (by decide) q229 (fun _ h9 => h9) rfl dX1_line_17 ?_
  refine kx_get (v := .ref la) (C := RX2) (T := TX2) (N := 2) hx hb hts in_X2 hown hK hO_st rfl 0 (by decide) q168 (fun _ h9 => h9) rfl dX1_line_20 ?_
  refine lv_iload_n hx hb dX1_line_23 rfl (lv_at hl 1 rfl) ?_
  refine kx_cFr0 (va_runF (C := RJ2) (As := [.int (kI ((ln : Nat) : Int))]) (rest := []) (hK.at (ci := 9) rfl) ⟨hx, hb, hml, hown, hts⟩ (m_get l D s.heap la mc ea S.length F ln hO_la hP_kLs_ea (by first | assumption | omega)) (va_cwF (x := ({ cls := "java/util/List", name := "get", desc := "(I)Ljava/lang/Object;" } : Jvm.MethodName)) 1 hts (lw_F q1869 q292 q294 q83 q296) rfl rfl rfl (hK.fw (by decide)) (by decide +kernel) ⟨Nat.le_of_ble_eq_true rfl, Nat.le_of_ble_eq_true rfl⟩) (kx_pv hK hS_6 hB (kx_rc hK hO_la (C := RJ2) (T := TJ2) (N := 3) rfl)) rfl rfl hl.1 rfl (lv_room (Nat.le_of_ble_eq_true rfl)) dX1_line_24 ⟨by first | exact Nat.le_of_ble_eq_true rfl | omega | (show _ ≤ _; omega) | (dsimp only [headSpec]; omega), by first | exact Nat.le_of_ble_eq_true rfl | omega | (show _ ≤ _; omega) | (dsimp only [headSpec]; omega)⟩) hS_6 (fun z_12 locs_9 hz_11 hS_10 => ?_)
  subst z_12
  obtain ⟨ea_13, gp_13, gs_13, ho_13, hp_13, hs_13, he_13, hm_13⟩ := (hP_kLn_F ln (hln))
  refine kx_castS hx hb hts hown q1870 hK ho_13 rfl dX1_line_29 ?_
  exact kx_aret (z := fA F ln) hx hb hr (by first | exact Or.inl ⟨_, rfl⟩ | exact Or.inr ⟨_, rfl⟩) hlk (⟨rfl, by rfl⟩) hS_10 dX1_line_32

set_option maxHeartbeats 4000000 in
set_option maxRecDepth 100000 in
theorem m_X1_setLevel (l : Launch) (D : kG) (H : Heap) (x1 : Nat) (snp : Option Nat) (hi : Nat) (bu : Nat) (es : Nat) (L : List Nat) (st : Nat) (la : Nat) (ea : Nat) (F : Fts) (S : Ls) (gap : Int) (ln : Nat) (lv : Int) (hO_x1 : kO D H x1 0 [.ref st, va_rf (snp), .ref hi, .ref bu]) (hP_kState_st : kState D H st la ea gap S F) (hP_kDq_hi : kDq D H hi es L) (hok : LsOK S gap) (hnx : ∀ q, kOwn D st la ea F S.length q → q ≠ hi ∧ q ≠ es ∧ q ≠ x1) (bs_hi : kBase D ≤ hi) (bs_es : kBase D ≤ es) (ne_x1 : x1 ≠ hi ∧ x1 ≠ es) (hln : ln < S.length) (hlv : 0 ≤ lv ∧ lv ≤ 99) : Met l yX1_setLevel (ws_ yX1_setLevel cX1_setLevel 4 (some .int)) ({ frames := 7, cells := 47, slots := 1240, locals := 159 } : Room) (kPre D H [.ref x1, .int (kI ((ln : Nat) : Int)), .int (kI (lv))]) (kQi (fun (r : Int) H' => ∃ (cr : Nat) (la2 : Nat) (ea2 : Nat) (F2 : Fts) (ea3 : Nat) (F3 : Fts), (r = ln_lv (st_ln S ln)) ∧ (kO D H' x1 0 [.ref st, va_rf (snp), .ref hi, .ref bu]) ∧ (kState D H' st la ea3 gap (S.set ln (w_lv (st_ln S ln) lv)) F3) ∧ (kState D H' cr la2 ea2 gap S F2) ∧ (kDq D H' hi es ((pushL L cr))) ∧ (∀ q, kOwn D cr la2 ea2 F2 S.length q → H.size ≤ q) ∧ (∀ q, kOwn D st la ea3 F3 (S.set ln (w_lv (st_ln S ln) lv)).length q → kOwn D st la ea F S.length q ∨ H.size ≤ q) ∧ (∀ q, kOwn D cr la2 ea2 F2 S.length q → ¬ kOwn D st la ea3 F3 (S.set ln (w_lv (st_ln S ln) lv)).length q)) (fun q : Nat => kOwn D st la ea F S.length q ∨ q = hi ∨ q = es ∨ H.size ≤ q)) (47) (1240) ((fun q : Nat => kOwn D st la ea F S.length q ∨ q = hi ∨ q = es ∨ H.size ≤ q)) := by
  refine Met.ofW (cc := cX1_setLevel) (maxL := 4) (ret := (some .int)) (by decide) rfl ?_
  intro p e s m args below meth c s₁ B hml hv
  obtain ⟨rfl, hH, hK⟩ := hv
  subst hH
  have hx := B.exec
  have hb := B.bytes
  have hr := B.returns
  have hts := atoms_spec (ws := ws_ yX1_setLevel cX1_setLevel 4 (some .int)) B.pre
  have hts : ∀ w ∈ lw_all, w.before _ s = true := fun w h => hts w (List.mem_cons_of_mem _ h)
  have hown : s.vm.findClass RX1 = some m.cls := findClass_of_methodNamed B.named
  have hlk := B.notSynchronized
  have hS : va_S (fun q : Nat => kOwn D st la ea F S.length q ∨ q = hi ∨ q = es ∨ s.heap.size ≤ q) s.heap s.heap [] := va_S.rf
  have hB : ∀ q, (fun q : Nat => kOwn D st la ea F S.length q ∨ q = hi ∨ q = es ∨ s.heap.size ≤ q) q → kBase D ≤ q := fun q h => by (have h2 := hK.size; rcases h with h | h | h | h; exact hP_kState_st.ownge h; (rw [h]; exact bs_hi); (rw [h]; exact bs_es); exact Nat.le_trans h2 h)
  have hl := lv_entry ([.ref x1, .int (kI ((ln : Nat) : Int)), .int (kI (lv))]) (n := 4) (Nat.le_of_ble_eq_true rfl)
  rw [lg_entry_eq]
  generalize (lg_sl ([.ref x1, .int (kI ((ln : Nat) : Int)), .int (kI (lv))]) ++ List.replicate (4 - (lg_sl ([.ref x1, .int (kI ((ln : Nat) : Int)), .int (kI (lv))])).length) Slot.unset).toArray = ls at hl ⊢
  have hl : lv_has ls 4 [(0, .ref x1), (1, .int (kI ((ln : Nat) : Int))), (2, .int (kI (lv)))] := hl
  have hL8 := hok.1
  have hn60 := (hok.ln hln).n
  have hown0 := hnx (fA F ln) (Or.inr (Or.inr (Or.inr ⟨ln, hln, Or.inl rfl⟩)))
  have hd9 := hK.dis
  have hx9 : ¬ kBase D ≤ D.2.2.2 2 := hK.tE.out
  obtain ⟨⟨hO_st, mc, hO_la⟩, hLs9, hLn9, hF9, hDs9, hb1, hb2, hb3⟩ := id hP_kState_st
  have hltx1 := hO_x1.lt
  have hlthi : hi < s.heap.size ∧ es < s.heap.size := by obtain ⟨_, _, _, z1, z2, _⟩ := hP_kDq_hi; exact ⟨z1.lt, z2.lt⟩
  have hnst := hnx st (Or.inl rfl)
  have hnla := hnx la (Or.inr (Or.inl rfl))
  refine lv_aload_n hx hb dX1_setLevel_0 rfl (lv_at hl 0 rfl) ?_
  refine lv_iload_n hx hb dX1_setLevel_1 rfl (lv_at hl 1 rfl) ?_
  refine kx_cr0 (va_runV (As := [.int (kI ((ln : Nat) : Int))]) (rest := []) ⟨hx, hb, hml, hown, hts⟩ (m_X1_line l D s.heap x1 snp hi bu st la mc ea F S gap ln hO_x1 hO_st hO_la hLs9 hLn9 (by first | assumption | omega) (by first | assumption | omega)) (cwV 1 hts (lw_V q1864 q1866 qs35 q79 q1867) rfl rfl rfl (by decide +kernel) ⟨Nat.le_of_ble_eq_true rfl, Nat.le_of_ble_eq_true rfl⟩) (kx_pv hK hS hB (kx_rc hK hO_x1 (C := RX1) (T := TX1) (N := 4) rfl)) rfl rfl hl.1 rfl (lv_room (Nat.le_of_ble_eq_true rfl)) dX1_setLevel_2 ⟨by first | exact Nat.le_of_ble_eq_true rfl | omega | (show _ ≤ _; omega) | (dsimp only [headSpec]; omega), by first | exact Nat.le_of_ble_eq_true rfl | omega | (show _ ≤ _; omega) | (dsimp only [headSpec]; omega)⟩) hS (fun z_4 locs_1 hz_3 hS_2 => ?_)
  subst z_4
  obtain ⟨ea_5, gp_5, gs_5, ho_5, hp_5, hs_5, he_5, hm_5⟩ := (hLn9 ln (hln))
  refine kx_get (v := .int (kI (ln_lv (st_ln S ln)))) (C := RX4) (T := TX4) (N := 6) hx hb hts in_X4 hown hK ho_5 rfl 0 (by decide) q335 (fun _ h9 => h9) rfl dX1_setLevel_5 ?_
  refine lv_istore_n (lv' := [(3, .int (kI (ln_lv (st_ln S ln)))), (0, .ref x1), (1, .int (kI ((ln : Nat) : Int))), (2, .int (kI (lv)))]) hx hb dX1_setLevel_8 rfl hl (by decide) rfl (fun ls hl => ?_)
  refine lv_iload_n hx hb dX1_setLevel_9 rfl (lv_at hl 3 rfl) ?_
  refine kx_iconst hx hb dX1_setLevel_10 ?_
  refine kx_bipush hx hb (by decide) dX1_setLevel_11 ?_
  refine kx_cv0 (va_runS (As := [.int (kI (lv)), .int (kI (0)), .int (kI (99))]) (rest := []) ⟨hx, hb, hml, hown, hts⟩ (m_X1_checkRange l D s.heap lv 0 99  (by first | assumption | omega) (by first | assumption | omega) (by first | assumption | omega) (by first | assumption | omega)) (va_cwS 3 hts (lw_S q1838 q1839 q79 q1840) rfl rfl rfl (by decide +kernel) ⟨Nat.le_of_ble_eq_true rfl, Nat.le_of_ble_eq_true rfl⟩) (kx_ps hK hS_2 hB) rfl rfl hl.1 rfl (lv_room (Nat.le_of_ble_eq_true rfl)) dX1_setLevel_13 ⟨by first | exact Nat.le_of_ble_eq_true rfl | omega | (show _ ≤ _; omega) | (dsimp only [headSpec]; omega), by first | exact Nat.le_of_ble_eq_true rfl | omega | (show _ ≤ _; omega) | (dsimp only [headSpec]; omega)⟩) hS_2 (fun locs_6 hz_8 hS_7 => ?_)
  refine lv_aload_n hx hb dX1_setLevel_16 rfl (lv_at hl 1 rfl) ?_
  refine kx_cv (va_runV (As := []) (rest := []) ⟨hx, hb, hml, hown, hts⟩ (m_X1_save l D s.heap x1 snp hi bu es L st la ea F S gap hO_x1 hP_kState_st hP_kDq_hi (by first | assumption | omega) hnx bs_hi bs_es ne_x1) (cwV 0 hts (lw_V q247 q249 qs0 q79 q250) rfl rfl rfl (by decide +kernel) ⟨Nat.le_of_ble_eq_true rfl, Nat.le_of_ble_eq_true rfl⟩) (kx_pv hK hS_7 hB (kx_rc hK hO_x1 (C := RX1) (T := TX1) (N := 4) rfl)) rfl rfl hl.1 rfl (lv_room (Nat.le_of_ble_eq_true rfl)) dX1_setLevel_17 ⟨by first | exact Nat.le_of_ble_eq_true rfl | omega | (show _ ≤ _; omega) | (dsimp only [headSpec]; omega), by first | exact Nat.le_of_ble_eq_true rfl | omega | (show _ ≤ _; omega) | (dsimp only [headSpec]; omega)⟩) hS_7 (fun q _ h => by rcases h with h | h | h; exact Or.inr (Or.inl h); exact Or.inr (Or.inr (Or.inl h)); exact Or.inr (Or.inr (Or.inr (by omega)))) (fun q h => by rcases h with h | h | h; exact Or.inr (Or.inl h); exact Or.inr (Or.inr (Or.inl h)); exact Or.inr (Or.inr (Or.inr (by omega)))) (fun H_13 locs_10 hz_12 hF_14 hS_11 => ?_)
  have hzf_16 := hF_14.1
  refine W.widen (k := 42) (n := 1101) (Nat.le_of_ble_eq_true rfl) (Nat.le_of_ble_eq_true rfl) ?_
  obtain ⟨cr9, la9, ea9, F9, ho_21, ho_22, ho_23, ho_24, hcn9⟩ := hz_12
  have hd9z := hK.dis
  have hx9z : ¬ kBase D ≤ D.2.2.2 2 := hK.tE.out
  obtain ⟨⟨hO_stz, mcz, hO_laz⟩, hLs9z, hLn9z, hF9z, hDs9z, hb1z, hb2z, hb3z⟩ := id ho_22
  refine lv_aload_n hx hb dX1_setLevel_20 rfl (lv_at hl 1 rfl) ?_
  refine lv_iload_n hx hb dX1_setLevel_21 rfl (lv_at hl 2 rfl) ?_
  refine kx_cr0 (va_runV (As := [.int (kI ((ln : Nat) : Int))]) (rest := []) ⟨hx, hb, hml, hown, hts⟩ (m_X1_line_w l D H_13 x1 snp hi bu st la mcz ea F S gap ln ho_21 hO_stz hO_laz hLs9z hLn9z (by first | assumption | omega) (by first | assumption | omega)) (cwV 1 hts (lw_V q1864 q1866 qs35 q79 q1867) rfl rfl rfl (by decide +kernel) ⟨Nat.le_of_ble_eq_true rfl, Nat.le_of_ble_eq_true rfl⟩) (kx_pv hK hS_11 hB (kx_rc hK ho_21 (C := RX1) (T := TX1) (N := 4) rfl)) rfl rfl hl.1 rfl (lv_room (Nat.le_of_ble_eq_true rfl)) dX1_setLevel_22 ⟨by first | exact Nat.le_of_ble_eq_true rfl | omega | (show _ ≤ _; omega) | (dsimp only [headSpec]; omega), by first | exact Nat.le_of_ble_eq_true rfl | omega | (show _ ≤ _; omega) | (dsimp only [headSpec]; omega)⟩) hS_11 (fun z_28 locs_25 hz_27 hS_26 => ?_)
  subst z_28
  obtain ⟨HS9, hHS9⟩ : ∃ z, z = H_13.size := ⟨_, rfl⟩
  have hSc9 := ho_22
  have hcl9 : ∀ q, kOwn D cr9 la9 ea9 F9 S.length q → q < HS9 := fun q hq => by rw [hHS9]; exact ho_23.ownlt hx9 hq
  have hol9 : ∀ q, kOwn D st la ea F S.length q → q < s.heap.size := fun q hq => hP_kState_st.ownlt hx9 hq
  obtain ⟨ea_29, gp_29, gs_29, ho_29, hp_29, hs_29, he_29, hm_29⟩ := (ho_22.2.2.1 ln (by omega))
  have hen_29 := ((ho_22.2.2.1 ln (by omega)).tyA.1).ne hd9 (b := ln_cl (st_ln S ln)) he_29
  have hpn_29 := kOA_ne hd9 ho_29 hp_29 (by decide) (by decide)
  have hsn_29 := kOA_ne hd9 ho_29 hs_29 (by decide) (by decide)
  refine lv_iload_n hx hb dX1_setLevel_25 rfl (lv_at hl 3 rfl) ?_
  refine kx_put (v := .int (kI (lv))) (C := RX4) (T := TX4) (N := 6) hx hb hts in_X4 hown hK ho_29 rfl 0 (by decide) tyX4 tyX4_ok nmX4 hS_26 (Or.inl (Or.inr (Or.inr (Or.inr ⟨ln, hln, Or.inl rfl⟩)))) q335 (fun _ h9 => h9) rfl rfl rfl rfl (Nat.le_of_ble_eq_true rfl) dX1_setLevel_26 (fun H_32 locs_33 hO_31 hU_30 hS_34 => ?_)
  have hO_31 : kO D H_32 (fA F ln) 3 [.int (kI (lv)), .ref (fP F ln), .ref (fS F ln), .int (kI ((ln_n (st_ln S ln) : Nat) : Int)), .ref ea_29, .int (kI (ln_lb (st_ln S ln)))] := hO_31
  have hzu_35 := hU_30.1
  have h_36 := hp_29.up hU_30 (by first | assumption | exact Ne.symm (by assumption)  | omega | (have h9 := hp_29.lt; omega))
  have h_37 := hs_29.up hU_30 (by first | assumption | exact Ne.symm (by assumption)  | omega | (have h9 := hs_29.lt; omega))
  have h_38 := he_29.up hU_30 (by first | assumption | exact Ne.symm (by assumption)  | omega | (have h9 := he_29.lt; omega))
  have hSu_39 : kState D H_32 st la ea gap (S.set ln (w_l1 (st_ln S ln) lv)) F := ho_22.line hd9 (by omega) (kUp.fr hU_30) (fun x hx => Or.inr (Or.inl hx)) (LnAt.of (L := (w_l1 (st_ln S ln) lv)) (M := st_ln S ln) rfl rfl hO_31 h_36 h_37 h_38 hm_29)
  have hCu_40 : kState D H_32 cr9 la9 ea9 gap S F9 := ho_23.fr hd9 (kUp.fr hU_30) (fun x hx => by rw [show x = fA F ln from hx]; exact Or.inr ⟨(ho_22.2.2.1 ln (by omega)).tyA.1, fun w => by have h1 := hcn9 _ w; have h2 := hol9 (fA F ln) (Or.inr (Or.inr (Or.inr ⟨ln, hln, Or.inl rfl⟩))); omega⟩)
  have hDu_41 := ho_24.fr (kUp.fr hU_30) ⟨fun hx => (hnx _ (Or.inr (Or.inr (Or.inr ⟨ln, hln, Or.inl rfl⟩)))).1 (by exact hx.symm), fun hx => (hnx _ (Or.inr (Or.inr (Or.inr ⟨ln, hln, Or.inl rfl⟩)))).2.1 (by exact hx.symm)⟩
  have hl19 : (S.set ln (w_l1 (st_ln S ln) lv)).length = S.length := List.length_set
  have hL19 : st_ln (S.set ln (w_l1 (st_ln S ln) lv)) ln = (w_l1 (st_ln S ln) lv) := by rw [st_ln_set hln, if_pos rfl]
  have hd9z := hK.dis
  have hx9z : ¬ kBase D ≤ D.2.2.2 2 := hK.tE.out
  obtain ⟨⟨hO_stz, mcz, hO_laz⟩, hLs9z, hLn9z, hF9z, hDs9z, hb1z, hb2z, hb3z⟩ := id hSu_39
  refine lv_aload_n hx hb dX1_setLevel_29 rfl (lv_at hl 1 rfl) ?_
  refine lv_iload_n hx hb dX1_setLevel_30 rfl (lv_at hl 2 rfl) ?_
  have h_42 := ho_21.up hU_30 (by first | assumption | exact Ne.symm (by assumption)  | omega | (have h9 := ho_21.lt; omega))
  refine kx_cr0 (va_runV (As := [.int (kI ((ln : Nat) : Int))]) (rest := []) ⟨hx, hb, hml, hown, hts⟩ (m_X1_line_w l D H_32 x1 snp hi bu st la mcz ea F ((S.set ln (w_l1 (st_ln S ln) lv))) gap ln h_42 hO_stz hO_laz hLs9z hLn9z ((by omega)) ((by omega))) (cwV 1 hts (lw_V q1864 q1866 qs35 q79 q1867) rfl rfl rfl (by decide +kernel) ⟨Nat.le_of_ble_eq_true rfl, Nat.le_of_ble_eq_true rfl⟩) (kx_pv hK hS_34 hB (kx_rc hK h_42 (C := RX1) (T := TX1) (N := 4) rfl)) rfl rfl hl.1 rfl (lv_room (Nat.le_of_ble_eq_true rfl)) dX1_setLevel_31 ⟨by first | exact Nat.le_of_ble_eq_true rfl | omega | (show _ ≤ _; omega) | (dsimp only [headSpec]; omega), by first | exact Nat.le_of_ble_eq_true rfl | omega | (show _ ≤ _; omega) | (dsimp only [headSpec]; omega)⟩) hS_34 (fun z_46 locs_43 hz_45 hS_44 => ?_)
  subst z_46
  obtain ⟨ea_47, gp_47, gs_47, ho_47, hp_47, hs_47, he_47, hm_47⟩ := (hSu_39.2.2.1 ln (by omega))
  have hen_47 := ((hSu_39.2.2.1 ln (by omega)).tyA.1).ne hd9 (b := ln_cl (st_ln (S.set ln (w_l1 (st_ln S ln) lv)) ln)) he_47
  have hpn_47 := kOA_ne hd9 ho_47 hp_47 (by decide) (by decide)
  have hsn_47 := kOA_ne hd9 ho_47 hs_47 (by decide) (by decide)
  refine kx_iconst hx hb dX1_setLevel_34 ?_
  refine kx_put (v := .int (kI ((-1)))) (C := RX4) (T := TX4) (N := 6) hx hb hts in_X4 hown hK ho_47 rfl 5 (by decide) tyX4 tyX4_ok nmX4 hS_44 (Or.inl (Or.inr (Or.inr (Or.inr ⟨ln, hln, Or.inl rfl⟩)))) q350 (fun _ h9 => h9) rfl rfl rfl rfl (Nat.le_of_ble_eq_true rfl) dX1_setLevel_35 (fun H_50 locs_51 hO_49 hU_48 hS_52 => ?_)
  have hO_49 : kO D H_50 (fA F ln) 3 [.int (kI (ln_lv (st_ln (S.set ln (w_l1 (st_ln S ln) lv)) ln))), .ref (fP F ln), .ref (fS F ln), .int (kI ((ln_n (st_ln (S.set ln (w_l1 (st_ln S ln) lv)) ln) : Nat) : Int)), .ref ea_47, .int (kI ((-1)))] := hO_49
  have hzu_53 := hU_48.1
  have h_54 := hp_47.up hU_48 (by first | assumption | exact Ne.symm (by assumption)  | omega | (have h9 := hp_47.lt; omega))
  have h_55 := hs_47.up hU_48 (by first | assumption | exact Ne.symm (by assumption)  | omega | (have h9 := hs_47.lt; omega))
  have h_56 := he_47.up hU_48 (by first | assumption | exact Ne.symm (by assumption)  | omega | (have h9 := he_47.lt; omega))
  have hSu_57 : kState D H_50 st la ea gap ((S.set ln (w_l1 (st_ln S ln) lv)).set ln (w_lv (st_ln S ln) lv)) F := hSu_39.line hd9 (by omega) (kUp.fr hU_48) (fun x hx => Or.inr (Or.inl hx)) (LnAt.of (L := (w_lv (st_ln S ln) lv)) (M := (w_l1 (st_ln S ln) lv)) rfl rfl (by have h9 := hO_49; rw [hL19] at h9; exact h9) h_54 h_55 (by have h9 := h_56; rw [hL19] at h9; exact h9) (by have h9 := hm_47; rw [hL19] at h9; exact h9))
  have hSv_58 : kState D H_50 st la ea gap (S.set ln (w_lv (st_ln S ln) lv)) F := by have h9 := hSu_57; rw [List.set_set] at h9; exact h9
  have hCu_59 : kState D H_50 cr9 la9 ea9 gap S F9 := hCu_40.fr hd9 (kUp.fr hU_48) (fun x hx => by rw [show x = fA F ln from hx]; exact Or.inr ⟨(hSu_39.2.2.1 ln (by omega)).tyA.1, fun w => by have h1 := hcn9 _ w; have h2 := hol9 (fA F ln) (Or.inr (Or.inr (Or.inr ⟨ln, hln, Or.inl rfl⟩))); omega⟩)
  have hDu_60 := hDu_41.fr (kUp.fr hU_48) ⟨fun hx => (hnx _ (Or.inr (Or.inr (Or.inr ⟨ln, hln, Or.inl rfl⟩)))).1 (by exact hx.symm), fun hx => (hnx _ (Or.inr (Or.inr (Or.inr ⟨ln, hln, Or.inl rfl⟩)))).2.1 (by exact hx.symm)⟩
  have hown9 : ∀ q, kOwn D st la ea F (S.set ln (w_lv (st_ln S ln) lv)).length q → kOwn D st la ea F S.length q ∨ HS9 ≤ q := fun q hq => by rw [List.length_set] at hq; exact Or.inl hq
  refine lv_iload_n hx hb dX1_setLevel_38 rfl (lv_at hl 0 rfl) ?_
  refine W.widen (k := 47) (n := 1240) (by omega) (by omega) ?_
  have h_61 := h_42.up hU_48 (by first | assumption | exact Ne.symm (by assumption)  | omega | (have h9 := h_42.lt; omega))
  exact kx_iret (z := ln_lv (st_ln S ln)) hx hb hr hlk (⟨cr9, la9, ea9, F9, ea, F, by rfl, h_61, hSv_58, hCu_59, hDu_60, by exact fun q hq => by have h9 := hcn9 q hq; omega, by exact fun q hq => by rcases hown9 q hq with z | z; exact Or.inl z; exact Or.inr (by omega), by exact fun q hq hw => by have h1 := hcn9 q hq; have h2 := hcl9 q hq; rcases hown9 q hw with z | z; (have h3 := hol9 q z; omega); omega⟩) hS_52 dX1_setLevel_39

