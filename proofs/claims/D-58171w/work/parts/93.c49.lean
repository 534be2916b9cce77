set_option maxHeartbeats 4000000 in
set_option maxRecDepth 100000 in
theorem m_X1_restoreSnapshot (l : Launch) (D : kG) (H : Heap) (x1 : Nat) (hi : Nat) (bu : Nat) (es : Nat) (L : List Nat) (st : Nat) (la : Nat) (ea : Nat) (F : Fts) (S : Ls) (gap : Int) (sp : Nat) (las : Nat) (eas : Nat) (gaps : Int) (Ss : Ls) (Fs : Fts) (hO_x1 : kO D H x1 0 [.ref st, .ref sp, .ref hi, .ref bu]) (hP_kState_st : kState D H st la ea gap S F) (hP_kDq_hi : kDq D H hi es L) (hP_kState_sp : kState D H sp las eas gaps Ss Fs) (hok : LsOK S gap) (hnx : ∀ q, kOwn D st la ea F S.length q → q ≠ hi ∧ q ≠ es ∧ q ≠ x1) (bs_hi : kBase D ≤ hi) (bs_es : kBase D ≤ es) (ne_x1 : x1 ≠ hi ∧ x1 ≠ es) (hoks : LsOK Ss gaps) (hnsp : ∀ q, kOwn D sp las eas Fs Ss.length q → q ≠ hi ∧ q ≠ es ∧ q ≠ x1) (bs_x1 : kBase D ≤ x1) : Met l yX1_restoreSnapshot (ws_ yX1_restoreSnapshot cX1_restoreSnapshot 1 (some .int)) ({ frames := 7, cells := 84, slots := 2202, locals := 159 } : Room) (kPre D H [.ref x1]) (kQi (fun (r : Int) H' => ∃ (cr : Nat) (la2 : Nat) (ea2 : Nat) (F2 : Fts) (cr2 : Nat) (la3 : Nat) (ea3 : Nat) (F3 : Fts), (r = ((Ss.length : Nat) : Int)) ∧ (kO D H' x1 0 [.ref cr2, .ref sp, .ref hi, .ref bu]) ∧ (kState D H' cr la2 ea2 gap S F2) ∧ (kState D H' cr2 la3 ea3 gaps Ss F3) ∧ (kState D H' sp las eas gaps Ss Fs) ∧ (kDq D H' hi es ((pushL L cr))) ∧ (∀ q, kOwn D cr la2 ea2 F2 S.length q → H.size ≤ q) ∧ (∀ q, kOwn D cr2 la3 ea3 F3 Ss.length q → H.size ≤ q) ∧ (∀ q, kOwn D cr la2 ea2 F2 S.length q → ¬ kOwn D cr2 la3 ea3 F3 Ss.length q)) (fun q : Nat => q = x1 ∨ q = hi ∨ q = es ∨ H.size ≤ q)) (84) (2202) ((fun q : Nat => q = x1 ∨ q = hi ∨ q = es ∨ H.size ≤ q)) := by
  refine Met.ofW (cc := cX1_restoreSnapshot) (maxL := 1) (ret := (some .int)) (by decide) rfl ?_
  intro p e s m args below meth c s₁ B hml hv
  obtain ⟨rfl, hH, hK⟩ := hv
  subst hH
  have hx := B.exec
  have hb := B.bytes
  have hr := B.returns
  have hts := atoms_spec (ws := ws_ yX1_restoreSnapshot cX1_restoreSnapshot 1 (some .int)) B.pre
  have hts : ∀ w ∈ lw_all, w.before _ s = true := fun w h => hts w (List.mem_cons_of_mem _ h)
  have hown : s.vm.findClass RX1 = some m.cls := findClass_of_methodNamed B.named
  have hlk := B.notSynchronized
  have hS : va_S (fun q : Nat => q = x1 ∨ q = hi ∨ q = es ∨ s.heap.size ≤ q) s.heap s.heap [] := va_S.rf
  have hB : ∀ q, (fun q : Nat => q = x1 ∨ q = hi ∨ q = es ∨ s.heap.size ≤ q) q → kBase D ≤ q := fun q h => by (have h2 := hK.size; rcases h with h | h | h | h; (rw [h]; exact bs_x1); (rw [h]; exact bs_hi); (rw [h]; exact bs_es); exact Nat.le_trans h2 h)
  have hl := lv_entry ([.ref x1]) (n := 1) (Nat.le_of_ble_eq_true rfl)
  rw [lg_entry_eq]
  generalize (lg_sl ([.ref x1]) ++ List.replicate (1 - (lg_sl ([.ref x1])).length) Slot.unset).toArray = ls at hl ⊢
  have hl : lv_has ls 1 [(0, .ref x1)] := hl
  have hL8 := hok.1
  have hks9 := hK.size
  have hltx1 := hO_x1.lt
  have hL8s := hoks.1
  have hd9 := hK.dis
  have hx9 : ¬ kBase D ≤ D.2.2.2 2 := hK.tE.out
  obtain ⟨⟨hO_st, mc, hO_la⟩, hLs9, hLn9, hF9, hDs9, hb1, hb2, hb3⟩ := id hP_kState_st
  have hlthi : hi < s.heap.size ∧ es < s.heap.size := by obtain ⟨_, _, _, z1, z2, _⟩ := hP_kDq_hi; exact ⟨z1.lt, z2.lt⟩
  have hnst := hnx st (Or.inl rfl)
  have hnla := hnx la (Or.inr (Or.inl rfl))
  obtain ⟨h, tl, gd, hDo, hDa, hh17, htl, hL5, hgd⟩ := id hP_kDq_hi
  have htl17 : tl < 17 := by omega
  have hd9 := hK.dis
  have ne_hi_es : hi ≠ es := kOA_ne hd9 hDo hDa (by decide) (by decide)
  have ne_x1_hi : x1 ≠ hi := kO_ne hd9 hO_x1 hDo (by decide) (by decide) (by decide)
  have ne_x1_es : x1 ≠ es := kOA_ne hd9 hO_x1 hDa (by decide) (by decide)
  refine lv_aload_n hx hb dX1_restoreSnapshot_0 rfl (lv_at hl 0 rfl) ?_
  refine kx_get (v := .ref sp) (C := RX1) (T := TX1) (N := 4) hx hb hts in_X1 hown hK hO_x1 rfl 1 (by decide) q230 (fun _ h9 => h9) rfl dX1_restoreSnapshot_1 ?_
  refine lv_ifnull hx hb dX1_restoreSnapshot_4 ?_
  refine kx_iconst hx hb dX1_restoreSnapshot_7 ?_
  refine lv_goto (tgt := 12) hx hb dX1_restoreSnapshot_8 (by decide) ?_
  refine kx_cv0 (va_runS (As := [.int (kI (1))]) (rest := []) ⟨hx, hb, hml, hown, hts⟩ (m_X1_checkState l D s.heap   ) (va_cwS 1 hts (lw_S q1844 q1845 q79 q1846) rfl rfl rfl (by decide +kernel) ⟨Nat.le_of_ble_eq_true rfl, Nat.le_of_ble_eq_true rfl⟩) (kx_ps hK hS hB) rfl rfl hl.1 rfl (lv_room (Nat.le_of_ble_eq_true rfl)) dX1_restoreSnapshot_12 ⟨by first | exact Nat.le_of_ble_eq_true rfl | omega | (show _ ≤ _; omega) | (dsimp only [headSpec]; omega), by first | exact Nat.le_of_ble_eq_true rfl | omega | (show _ ≤ _; omega) | (dsimp only [headSpec]; omega)⟩) hS (fun locs_1 hz_3 hS_2 => ?_)
  refine lv_aload_n hx hb dX1_restoreSnapshot_15 rfl (lv_at hl 0 rfl) ?_
  have htyh : kTy D s.heap hi := Or.inl ⟨10, _, by decide, by decide, by decide, hDo⟩
  have htye : kTy D s.heap es := Or.inr ⟨4, _, by decide, hDa⟩
  refine kx_cv (va_runV (As := []) (rest := []) ⟨hx, hb, hml, hown, hts⟩ (m_X1_save l D s.heap x1 ((some sp)) hi bu es L st la ea F S gap hO_x1 hP_kState_st hP_kDq_hi (by first | assumption | omega) hnx bs_hi bs_es ne_x1) (cwV 0 hts (lw_V q247 q249 qs0 q79 q250) rfl rfl rfl (by decide +kernel) ⟨Nat.le_of_ble_eq_true rfl, Nat.le_of_ble_eq_true rfl⟩) (kx_pv hK hS_2 hB (kx_rc hK hO_x1 (C := RX1) (T := TX1) (N := 4) rfl)) rfl rfl hl.1 rfl (lv_room (Nat.le_of_ble_eq_true rfl)) dX1_restoreSnapshot_16 ⟨by first | exact Nat.le_of_ble_eq_true rfl | omega | (show _ ≤ _; omega) | (dsimp only [headSpec]; omega), by first | exact Nat.le_of_ble_eq_true rfl | omega | (show _ ≤ _; omega) | (dsimp only [headSpec]; omega)⟩) hS_2 (fun q _ h => by rcases h with h | h | h; exact Or.inr (Or.inl h); exact Or.inr (Or.inr (Or.inl h)); exact Or.inr (Or.inr (Or.inr (by omega)))) (fun q h => by rcases h with h | h | h; exact Or.inr (Or.inl h); exact Or.inr (Or.inr (Or.inl h)); exact Or.inr (Or.inr (Or.inr (by omega)))) (fun H_8 locs_5 hz_7 hF_9 hS_6 => ?_)
  have hzf_11 := hF_9.1
  refine W.widen (k := 42) (n := 1101) (Nat.le_of_ble_eq_true rfl) (Nat.le_of_ble_eq_true rfl) ?_
  obtain ⟨cr9, la9, ea9, F9, ho_16, ho_17, ho_18, ho_19, hcn9⟩ := hz_7
  refine lv_aload_n hx hb dX1_restoreSnapshot_19 rfl (lv_at hl 0 rfl) ?_
  refine lv_aload_n hx hb dX1_restoreSnapshot_20 rfl (lv_at hl 0 rfl) ?_
  refine kx_get (v := va_rf ((((some sp))))) (C := RX1) (T := TX1) (N := 4) hx hb hts in_X1 hown hK ho_16 rfl 1 (by decide) q230 (fun _ h9 => h9) rfl dX1_restoreSnapshot_21 ?_
  refine kx_eqq hx hb (b := sp) (rfl) ?_
  have h_20 := hP_kState_sp.fr hd9 hF_9 (fun x hx => by rcases hx with z | z | z; (rw [show x = hi from z]; exact Or.inr ⟨htyh, fun w => (hnsp _ w).1 rfl⟩); (rw [show x = es from z]; exact Or.inr ⟨htye, fun w => (hnsp _ w).2.1 rfl⟩); exact Or.inl z)
  have hOsp9 := h_20.1.1
  have hcl9 : ∀ q, kOwn D cr9 la9 ea9 F9 S.length q → q < H_8.size := fun q hq => ho_18.ownlt hx9 hq
  refine kx_cr (va_runV (As := []) (rest := [.ref x1]) ⟨hx, hb, hml, hown, hts⟩ (m_X2_copy l D H_8 sp las eas Fs Ss gaps h_20 hoks) (cwV 0 hts (lw_V q272 q273 q274 q80 q275) rfl rfl rfl (by decide +kernel) ⟨Nat.le_of_ble_eq_true rfl, Nat.le_of_ble_eq_true rfl⟩) (kx_pv hK hS_6 hB (kx_rc hK hOsp9 (C := RX2) (T := TX2) (N := 2) rfl)) rfl rfl hl.1 rfl (lv_room (Nat.le_of_ble_eq_true rfl)) dX1_restoreSnapshot_24 ⟨by first | exact Nat.le_of_ble_eq_true rfl | omega | (show _ ≤ _; omega) | (dsimp only [headSpec]; omega), by first | exact Nat.le_of_ble_eq_true rfl | omega | (show _ ≤ _; omega) | (dsimp only [headSpec]; omega)⟩) hS_6 (fun q _ h => Or.inr (Or.inr (Or.inr (by (try simp only [kNW] at h); omega)))) (fun q h => Or.inr (Or.inr (Or.inr (by (try simp only [kNW] at h); omega)))) (fun cs9 H_24 locs_21 hz_23 hF_25 hS_22 => ?_)
  have hzf_26 := hF_25.1
  have hF_25 := hF_25.nw
  refine W.widen (k := 84) (n := 2202) (Nat.le_of_ble_eq_true rfl) (Nat.le_of_ble_eq_true rfl) ?_
  obtain ⟨lat9, eat9, Ft9, ho_30, hcs9⟩ := hz_23
  have h_31 := ho_16.ex hF_25
  refine kx_put (v := .ref cs9) (C := RX1) (T := TX1) (N := 4) hx hb hts in_X1 hown hK h_31 rfl 0 (by decide) tyX1 tyX1_ok nmX1 hS_22 (by first | rfl | exact Or.inl rfl | exact Or.inr rfl | exact Or.inr (Or.inl rfl) | exact Or.inr (Or.inr rfl) | exact Or.inr (Or.inr (Or.inl rfl)) | exact Or.inr (Or.inr (Or.inr rfl)) | ((try dsimp only); (try simp only [kNW]); omega)) q229 (fun _ h9 => h9) rfl rfl rfl rfl (Nat.le_of_ble_eq_true rfl) dX1_restoreSnapshot_27 (fun H_34 locs_35 hO_33 hU_32 hS_36 => ?_)
  have hO_33 : kO D H_34 x1 0 [.ref cs9, va_rf ((((some sp)))), .ref hi, .ref bu] := hO_33
  have hzu_37 := hU_32.1
  have h_38 := ho_18.ex hF_25
  have hSk_39 : kState D H_34 cr9 la9 ea9 gap S F9 := h_38.fr hd9 (kUp.fr hU_32) (fun x hx => by rw [show x = x1 from hx]; exact Or.inr ⟨Or.inl ⟨0, _, by decide, by decide, by decide, h_31⟩, fun w => by have h9 := hcn9 _ w; omega⟩)
  have hSk_40 : kState D H_34 cs9 lat9 eat9 gaps Ss Ft9 := ho_30.fr hd9 (kUp.fr hU_32) (fun x hx => by rw [show x = x1 from hx]; exact Or.inr ⟨Or.inl ⟨0, _, by decide, by decide, by decide, h_31⟩, fun w => by have h9 := hcs9 _ w; omega⟩)
  have h_41 := h_20.ex hF_25
  have hSk_42 : kState D H_34 sp las eas gaps Ss Fs := h_41.fr hd9 (kUp.fr hU_32) (fun x hx => by rw [show x = x1 from hx]; exact Or.inr ⟨Or.inl ⟨0, _, by decide, by decide, by decide, h_31⟩, fun w => by exact (hnsp _ w).2.2 rfl⟩)
  have h_43 := ho_19.ex hF_25
  have hDk_44 := h_43.fr (kUp.fr hU_32) ⟨fun hx => ne_x1_hi (by exact hx.symm), fun hx => ne_x1_es (by exact hx.symm)⟩
  have hd9z := hK.dis
  have hx9z : ¬ kBase D ≤ D.2.2.2 2 := hK.tE.out
  obtain ⟨⟨hO_stz, mcz, hO_laz⟩, hLs9z, hLn9z, hF9z, hDs9z, hb1z, hb2z, hb3z⟩ := id hSk_40
  refine lv_aload_n hx hb dX1_restoreSnapshot_30 rfl (lv_at hl 0 rfl) ?_
  refine kx_get (v := .ref cs9) (C := RX1) (T := TX1) (N := 4) hx hb hts in_X1 hown hK hO_33 rfl 0 (by decide) q229 (fun _ h9 => h9) rfl dX1_restoreSnapshot_31 ?_
  refine kx_get (v := .ref lat9) (C := RX2) (T := TX2) (N := 2) hx hb hts in_X2 hown hK hO_stz rfl 0 (by decide) q168 (fun _ h9 => h9) rfl dX1_restoreSnapshot_34 ?_
  refine kx_cFi0 (va_runF (C := RJ2) (As := []) (rest := []) (hK.at (ci := 9) rfl) ⟨hx, hb, hml, hown, hts⟩ (m_J2_size l D H_34 lat9 mcz eat9 Ss.length hO_laz ) (va_cwF (x := ({ cls := "java/util/List", name := "size", desc := "()I" } : Jvm.MethodName)) 0 hts (lw_F q1267 q283 q285 q83 q287) rfl rfl rfl (hK.fw (by decide)) (by decide +kernel) ⟨Nat.le_of_ble_eq_true rfl, Nat.le_of_ble_eq_true rfl⟩) (kx_pv hK hS_36 hB (kx_rc hK hO_laz (C := RJ2) (T := TJ2) (N := 3) rfl)) rfl rfl hl.1 rfl (lv_room (Nat.le_of_ble_eq_true rfl)) dX1_restoreSnapshot_37 ⟨by first | exact Nat.le_of_ble_eq_true rfl | omega | (show _ ≤ _; omega) | (dsimp only [headSpec]; omega), by first | exact Nat.le_of_ble_eq_true rfl | omega | (show _ ≤ _; omega) | (dsimp only [headSpec]; omega)⟩) hS_36 (fun z_48 locs_45 hz_47 hS_46 => ?_)
  subst z_48
  exact kx_iret (z := ((Ss.length : Nat) : Int)) hx hb hr hlk (⟨cr9, la9, ea9, F9, cs9, lat9, eat9, Ft9, by rfl, hO_33, hSk_39, hSk_40, hSk_42, hDk_44, by exact fun q hq => by have h9 := hcn9 q hq; omega, by exact fun q hq => by have h9 := hcs9 q hq; omega, by exact fun q hq hw => by have h1 := hcs9 q hw; have h2 := hcl9 q hq; omega⟩) hS_46 dX1_restoreSnapshot_42

set_option maxHeartbeats 4000000 in
set_option maxRecDepth 100000 in
theorem m_X1_init (l : Launch) (D : kG) (H : Heap) (x1 : Nat) (hO_x1 : kO D H x1 0 [.null, .null, .null, .null]) (bs_x1 : kBase D ≤ x1) : Met l yX1_init (ws_ yX1_init cX1_init 1 none) ({ frames := 5, cells := 6, slots := 45, locals := 100 } : Room) (kPre D H [.ref x1]) (kQv (fun H' => ∃ (st : Nat) (la : Nat) (hi : Nat) (es : Nat) (bu : Nat) (vb : Nat), (kO D H' x1 0 [.ref st, .null, .ref hi, .ref bu]) ∧ (kState D H' st la ((D.2.2.2 2)) 2 (([] : Ls)) ([])) ∧ (kDq D H' hi es (([] : List Nat))) ∧ (kTx D H' bu vb (([] : List Int))) ∧ (H.size ≤ st ∧ H.size ≤ la ∧ H.size ≤ hi ∧ H.size ≤ es ∧ H.size ≤ bu ∧ H.size ≤ vb) ∧ ((st ≠ hi ∧ st ≠ es ∧ st ≠ bu ∧ st ≠ vb) ∧ (la ≠ hi ∧ la ≠ es ∧ la ≠ bu ∧ la ≠ vb) ∧ (hi ≠ es ∧ hi ≠ bu ∧ hi ≠ vb) ∧ (es ≠ bu ∧ es ≠ vb) ∧ bu ≠ vb)) (fun q : Nat => q = x1 ∨ H.size ≤ q)) (6) (45) ((fun q : Nat => q = x1 ∨ H.size ≤ q)) := by
  refine Met.ofW (cc := cX1_init) (maxL := 1) (ret := none) (by decide) rfl ?_
  intro p e s m args below meth c s₁ B hml hv
  obtain ⟨rfl, hH, hK⟩ := hv
  subst hH
  have hx := B.exec
  have hb := B.bytes
  have hr := B.returns
  have hts := atoms_spec (ws := ws_ yX1_init cX1_init 1 none) B.pre
  have hts : ∀ w ∈ lw_all, w.before _ s = true := fun w h => hts w (List.mem_cons_of_mem _ h)
  have hown : s.vm.findClass RX1 = some m.cls := findClass_of_methodNamed B.named
  have hlk := B.notSynchronized
  have hin : meth.name = "<init>" := (name_of_methodNamed B.named B.method).1
  have hS : va_S (fun q : Nat => q = x1 ∨ s.heap.size ≤ q) s.heap s.heap [] := va_S.rf
  have hB : ∀ q, (fun q : Nat => q = x1 ∨ s.heap.size ≤ q) q → kBase D ≤ q := fun q h => by (try dsimp only at h); (try simp only [kNW] at h); have hks := hK.size; omega
  have hl := lv_entry ([.ref x1]) (n := 1) (Nat.le_of_ble_eq_true rfl)
  rw [lg_entry_eq]
  generalize (lg_sl ([.ref x1]) ++ List.replicate (1 - (lg_sl ([.ref x1])).length) Slot.unset).toArray = ls at hl ⊢
  have hl : lv_has ls 1 [(0, .ref x1)] := hl
  have hltx1 := hO_x1.lt
  have hks9 := hK.size
  refine lv_aload_n hx hb dX1_init_0 rfl (lv_at hl 0 rfl) ?_
  refine W.objInit hx hb hown (hts _ q132) (hts _ q133) (hts _ q134) rfl (by rw [hml]; exact hl.1) rfl dX1_init_1 (Nat.le_of_ble_eq_true rfl) (Nat.le_of_ble_eq_true rfl) ?_
  refine W.eq (g2 := F0 m 4 ls []) rfl ?_
  refine lv_aload_n hx hb dX1_init_4 rfl (lv_at hl 0 rfl) ?_
  refine kx_new (ci := 1) (fs := [.null, .int (kI (0))]) (C := RX2) (T := TX2) (N := 2) hx hb hts in_X2 hown hK tyX2 tyX2_ok q135 q136 q80 hS rfl (fun j hj => by rcases (show j = 0 ∨ j = 1 by omega) with rfl | rfl <;> rfl) (by first | exact Nat.le_of_ble_eq_true rfl | omega | (show _ ≤ _; omega) | (dsimp only [headSpec]; omega)) (by first | exact Nat.le_of_ble_eq_true rfl | omega | (show _ ≤ _; omega) | (dsimp only [headSpec]; omega)) dX1_init_5 (fun st9 H_1 hq_2 hz_3 hO_4 hE_5 hS_6 => ?_)
  have hge_st9 : s.heap.size ≤ st9 := by rw [hq_2]; exact hS.1
  refine W.widen (k := 1) (n := 2) (Nat.le_of_ble_eq_true rfl) (Nat.le_of_ble_eq_true rfl) ?_
  refine lv_dup hx hb dX1_init_8 rfl ?_
  refine kx_cv (va_runIN (As := []) (rest := [.ref st9, .ref x1]) ⟨hx, hb, hml, hown, hts⟩ (m_X2_init l D H_1 st9 hO_4 (by first | assumption | omega)) ⟨va_cnB 0 hts (lw_meth q139) rfl rfl rfl (hK.w q137 rfl) (hts _ q80) (by decide +kernel) ⟨Nat.le_of_ble_eq_true rfl, Nat.le_of_ble_eq_true rfl⟩, rfl, hts _ q138⟩ (kx_ps hK hS_6 hB) rfl rfl hl.1 rfl (lv_room (Nat.le_of_ble_eq_true rfl)) dX1_init_9 ⟨by first | exact Nat.le_of_ble_eq_true rfl | omega | (show _ ≤ _; omega) | (dsimp only [headSpec]; omega), by first | exact Nat.le_of_ble_eq_true rfl | omega | (show _ ≤ _; omega) | (dsimp only [headSpec]; omega)⟩) hS_6 (fun q _ h => by have h9 := hS_6.1; (try dsimp only at h); (try dsimp only); (try simp only [kNW] at h); (try simp only [kNW]); omega) (fun q h => by have h9 := hS_6.1; (try dsimp only at h); (try dsimp only); (try simp only [kNW] at h); (try simp only [kNW]); omega) (fun H_10 locs_7 hz_9 hF_11 hS_8 => ?_)
  have hzf_13 := hF_11.1
  refine W.widen (k := 2) (n := 5) (Nat.le_of_ble_eq_true rfl) (Nat.le_of_ble_eq_true rfl) ?_
  obtain ⟨la9, ho_15, ho_16, hnl9⟩ := hz_9
  have h_17 := hO_x1.ex hE_5
  have h_18 := h_17.fr hF_11 (fun h => by have h9 := h_17.lt; (try dsimp only at h); (try simp only [kNW] at h); omega)
  refine kx_put (v := .ref st9) (C := RX1) (T := TX1) (N := 4) hx hb hts in_X1 hown hK h_18 rfl 0 (by decide) tyX1 tyX1_ok nmX1 hS_8 (by first | rfl | exact Or.inl rfl | exact Or.inr rfl | exact Or.inr (Or.inl rfl) | exact Or.inr (Or.inr rfl) | exact Or.inr (Or.inr (Or.inl rfl)) | exact Or.inr (Or.inr (Or.inr rfl)) | ((try dsimp only); (try simp only [kNW]); omega)) q229 (fun _ h9 => h9) rfl rfl rfl rfl (Nat.le_of_ble_eq_true rfl) dX1_init_12 (fun H_21 locs_22 hO_20 hU_19 hS_23 => ?_)
  have hO_20 : kO D H_21 x1 0 [.ref st9, .null, .null, .null] := hO_20
  have hzu_24 := hU_19.1
  refine lv_aload_n hx hb dX1_init_15 rfl (lv_at hl 0 rfl) ?_
  have h_26 := ho_15.up hU_19 (by first | assumption | exact Ne.symm (by assumption)  | omega | (have h9 := ho_15.lt; omega))
  have hltq_25 := h_26.lt
  have h_28 := ho_16.up hU_19 (by first | assumption | exact Ne.symm (by assumption)  | omega | (have h9 := ho_16.lt; omega))
  have hltq_27 := h_28.lt
  refine kx_new (ci := 10) (fs := [.null, .int (kI (0)), .int (kI (0))]) (C := RJ3) (T := TJ3) (N := 3) hx hb hts in_J3 hown hK tyJ3 tyJ3_ok q178 q179 q84 hS_23 rfl (fun j hj => by rcases (show j = 0 ∨ j = 1 ∨ j = 2 by omega) with rfl | rfl | rfl <;> rfl) (by first | exact Nat.le_of_ble_eq_true rfl | omega | (show _ ≤ _; omega) | (dsimp only [headSpec]; omega)) (by first | exact Nat.le_of_ble_eq_true rfl | omega | (show _ ≤ _; omega) | (dsimp only [headSpec]; omega)) dX1_init_16 (fun hi9 H_29 hq_30 hz_31 hO_32 hE_33 hS_34 => ?_)
  have hge_hi9 : s.heap.size ≤ hi9 := by rw [hq_30]; exact hS_23.1
  refine W.widen (k := 3) (n := 8) (Nat.le_of_ble_eq_true rfl) (Nat.le_of_ble_eq_true rfl) ?_
  refine lv_dup hx hb dX1_init_19 rfl ?_
  refine kx_cv (va_runI (As := []) (rest := [.ref hi9, .ref x1]) ⟨hx, hb, hml, hown, hts⟩ (m_J3_init l D H_29 hi9 hO_32 (by first | assumption | omega)) (cwI 0 hts (lw_meth q182) rfl rfl rfl (hts _ q84) (hts _ q180) (hts _ q181) rfl (by decide +kernel) ⟨Nat.le_of_ble_eq_true rfl, Nat.le_of_ble_eq_true rfl⟩) (kx_ps hK hS_34 hB) rfl rfl hl.1 rfl (lv_room (Nat.le_of_ble_eq_true rfl)) dX1_init_20 ⟨by first | exact Nat.le_of_ble_eq_true rfl | omega | (show _ ≤ _; omega) | (dsimp only [headSpec]; omega), by first | exact Nat.le_of_ble_eq_true rfl | omega | (show _ ≤ _; omega) | (dsimp only [headSpec]; omega)⟩) hS_34 (fun q _ h => by have h9 := hS_34.1; (try dsimp only at h); (try dsimp only); (try simp only [kNW] at h); (try simp only [kNW]); omega) (fun q h => by have h9 := hS_34.1; (try dsimp only at h); (try dsimp only); (try simp only [kNW] at h); (try simp only [kNW]); omega) (fun H_38 locs_35 hz_37 hF_39 hS_36 => ?_)
  have hzf_41 := hF_39.1
  refine W.widen (k := 4) (n := 25) (Nat.le_of_ble_eq_true rfl) (Nat.le_of_ble_eq_true rfl) ?_
  obtain ⟨es9, ho_43, ho_44, hne9⟩ := hz_37
  have h_45 := hO_20.ex hE_33
  have h_46 := h_45.fr hF_39 (fun h => by have h9 := h_45.lt; (try dsimp only at h); (try simp only [kNW] at h); omega)
  refine kx_putF (v := .ref hi9) (C := RX1) (T := TX1) (N := 4) hx hb hts in_X1 hown hK h_46 rfl 2 (by decide) tyX1 tyX1_ok nmX1 hS_36 (by first | rfl | exact Or.inl rfl | exact Or.inr rfl | exact Or.inr (Or.inl rfl) | exact Or.inr (Or.inr rfl) | exact Or.inr (Or.inr (Or.inl rfl)) | exact Or.inr (Or.inr (Or.inr rfl)) | ((try dsimp only); (try simp only [kNW]); omega)) q231 (fun _ h9 => h9) rfl hin rfl rfl rfl rfl (Nat.le_of_ble_eq_true rfl) dX1_init_23 (fun H_49 locs_50 hO_48 hU_47 hS_51 => ?_)
  have hO_48 : kO D H_49 x1 0 [.ref st9, .null, .ref hi9, .null] := hO_48
  have hzu_52 := hU_47.1
  refine lv_aload_n hx hb dX1_init_26 rfl (lv_at hl 0 rfl) ?_
  have h_54 := h_26.ex hE_33
  have h_55 := h_54.fr hF_39 (fun h => by have h9 := h_54.lt; (try dsimp only at h); (try simp only [kNW] at h); omega)
  have h_56 := h_55.up hU_47 (by first | assumption | exact Ne.symm (by assumption)  | omega | (have h9 := h_55.lt; omega))
  have hltq_53 := h_56.lt
  have h_58 := h_28.ex hE_33
  have h_59 := h_58.fr hF_39 (fun h => by have h9 := h_58.lt; (try dsimp only at h); (try simp only [kNW] at h); omega)
  have h_60 := h_59.up hU_47 (by first | assumption | exact Ne.symm (by assumption)  | omega | (have h9 := h_59.lt; omega))
  have hltq_57 := h_60.lt
  have h_62 := ho_43.up hU_47 (by first | assumption | exact Ne.symm (by assumption)  | omega | (have h9 := ho_43.lt; omega))
  have hltq_61 := h_62.lt
  have h_64 := ho_44.up hU_47 (by first | assumption | exact Ne.symm (by assumption)  | omega | (have h9 := ho_44.lt; omega))
  have hltq_63 := h_64.lt
  refine kx_new (ci := 11) (fs := [.null, .int (kI (0)), .int (kI (kb (false))), .int (kI (0))]) (C := RJ5) (T := TJ5) (N := 4) hx hb hts in_J5 hown hK tyJ5 tyJ5_ok q196 q197 q86 hS_51 rfl (fun j hj => by rcases (show j = 0 ∨ j = 1 ∨ j = 2 ∨ j = 3 by omega) with rfl | rfl | rfl | rfl <;> rfl) (by first | exact Nat.le_of_ble_eq_true rfl | omega | (show _ ≤ _; omega) | (dsimp only [headSpec]; omega)) (by first | exact Nat.le_of_ble_eq_true rfl | omega | (show _ ≤ _; omega) | (dsimp only [headSpec]; omega)) dX1_init_27 (fun bu9 H_65 hq_66 hz_67 hO_68 hE_69 hS_70 => ?_)
  have hge_bu9 : s.heap.size ≤ bu9 := by rw [hq_66]; exact hS_51.1
  refine W.widen (k := 5) (n := 29) (Nat.le_of_ble_eq_true rfl) (Nat.le_of_ble_eq_true rfl) ?_
  refine lv_dup hx hb dX1_init_30 rfl ?_
  refine kx_cv (va_runI (As := []) (rest := [.ref bu9, .ref x1]) ⟨hx, hb, hml, hown, hts⟩ (m_J5_init l D H_65 bu9 hO_68 (by first | assumption | omega)) (cwI 0 hts (lw_meth q200) rfl rfl rfl (hts _ q86) (hts _ q198) (hts _ q199) rfl (by decide +kernel) ⟨Nat.le_of_ble_eq_true rfl, Nat.le_of_ble_eq_true rfl⟩) (kx_ps hK hS_70 hB) rfl rfl hl.1 rfl (lv_room (Nat.le_of_ble_eq_true rfl)) dX1_init_31 ⟨by first | exact Nat.le_of_ble_eq_true rfl | omega | (show _ ≤ _; omega) | (dsimp only [headSpec]; omega), by first | exact Nat.le_of_ble_eq_true rfl | omega | (show _ ≤ _; omega) | (dsimp only [headSpec]; omega)⟩) hS_70 (fun q _ h => by have h9 := hS_70.1; (try dsimp only at h); (try dsimp only); (try simp only [kNW] at h); (try simp only [kNW]); omega) (fun q h => by have h9 := hS_70.1; (try dsimp only at h); (try dsimp only); (try simp only [kNW] at h); (try simp only [kNW]); omega) (fun H_74 locs_71 hz_73 hF_75 hS_72 => ?_)
  have hzf_77 := hF_75.1
  refine W.widen (k := 6) (n := 45) (Nat.le_of_ble_eq_true rfl) (Nat.le_of_ble_eq_true rfl) ?_
  obtain ⟨vb9, ho_79, ho_80, hnv9⟩ := hz_73
  have h_81 := hO_48.ex hE_69
  have h_82 := h_81.fr hF_75 (fun h => by have h9 := h_81.lt; (try dsimp only at h); (try simp only [kNW] at h); omega)
  refine kx_putF (v := .ref bu9) (C := RX1) (T := TX1) (N := 4) hx hb hts in_X1 hown hK h_82 rfl 3 (by decide) tyX1 tyX1_ok nmX1 hS_72 (by first | rfl | exact Or.inl rfl | exact Or.inr rfl | exact Or.inr (Or.inl rfl) | exact Or.inr (Or.inr rfl) | exact Or.inr (Or.inr (Or.inl rfl)) | exact Or.inr (Or.inr (Or.inr rfl)) | ((try dsimp only); (try simp only [kNW]); omega)) q233 (fun _ h9 => h9) rfl hin rfl rfl rfl rfl (Nat.le_of_ble_eq_true rfl) dX1_init_34 (fun H_85 locs_86 hO_84 hU_83 hS_87 => ?_)
  have hO_84 : kO D H_85 x1 0 [.ref st9, .null, .ref hi9, .ref bu9] := hO_84
  have hzu_88 := hU_83.1
  have h_89 := h_56.ex hE_69
  have h_90 := h_89.fr hF_75 (fun h => by have h9 := h_89.lt; (try dsimp only at h); (try simp only [kNW] at h); omega)
  have h_91 := h_90.up hU_83 (by first | assumption | exact Ne.symm (by assumption)  | omega | (have h9 := h_90.lt; omega))
  have h_92 := h_60.ex hE_69
  have h_93 := h_92.fr hF_75 (fun h => by have h9 := h_92.lt; (try dsimp only at h); (try simp only [kNW] at h); omega)
  have h_94 := h_93.up hU_83 (by first | assumption | exact Ne.symm (by assumption)  | omega | (have h9 := h_93.lt; omega))
  have hIs : kState D H_85 st9 la9 (D.2.2.2 2) 2 ([] : Ls) [] := kState.new h_91 h_94 (by omega) (by omega)
  have h_95 := h_62.ex hE_69
  have h_96 := h_95.fr hF_75 (fun h => by have h9 := h_95.lt; (try dsimp only at h); (try simp only [kNW] at h); omega)
  have h_97 := h_96.up hU_83 (by first | assumption | exact Ne.symm (by assumption)  | omega | (have h9 := h_96.lt; omega))
  have h_98 := h_64.ex hE_69
  have h_99 := h_98.fr hF_75 (fun h => by have h9 := h_98.lt; (try dsimp only at h); (try simp only [kNW] at h); omega)
  have h_100 := h_99.up hU_83 (by first | assumption | exact Ne.symm (by assumption)  | omega | (have h9 := h_99.lt; omega))
  have hId : kDq D H_85 hi9 es9 ([] : List Nat) := ⟨0, 0, _, h_97, h_100, by decide, rfl, by decide, fun i hi => absurd hi (Nat.not_lt_zero i)⟩
  have h_101 := ho_79.up hU_83 (by first | assumption | exact Ne.symm (by assumption)  | omega | (have h9 := ho_79.lt; omega))
  have h_102 := ho_80.up hU_83 (by first | assumption | exact Ne.symm (by assumption)  | omega | (have h9 := ho_80.lt; omega))
  have hIt : kTx D H_85 bu9 vb9 ([] : List Int) := ⟨false, 16, _, h_101, h_102, fun i hi => absurd hi (Nat.not_lt_zero i), Nat.zero_le _, Or.inl rfl, Nat.zero_le _⟩
  exact kx_vret hx hb hr hlk (⟨st9, la9, hi9, es9, bu9, vb9, hO_84, hIs, hId, hIt, by first | assumption | rfl | omega | grind, by first | assumption | rfl | omega | grind⟩) hS_87 dX1_init_37

set_option maxHeartbeats 4000000 in
set_option maxRecDepth 100000 in
theorem m_X1_lineByLevel (l : Launch) (D : kG) (H : Heap) (x1 : Nat) (snp : Option Nat) (hi : Nat) (bu : Nat) (st : Nat) (la : Nat) (mc : Int) (ea : Nat) (F : Fts) (S : Ls) (gap : Int) (ln : Nat) (hO_x1 : kO D H x1 0 [.ref st, va_rf (snp), .ref hi, .ref bu]) (hO_st : kO D H st 1 [.ref la, .int (kI (gap))]) (hO_la : kO D H la 9 [.int (kI (mc)), .ref ea, .int (kI ((S.length : Nat) : Int))]) (hP_kLs_ea : kLs D H ea S.length F) (hP_kLn_F : kLn D H F S) (hok : LsOK S gap) (hln : ln < S.length) : Met l yX1_lineByLevel (ws_ yX1_lineByLevel cX1_lineByLevel 2 (some .int)) ({ frames := 9, cells := 19, slots := 70, locals := 204 } : Room) (kPre D H [.ref x1, .int (kI ((ln : Nat) : Int))]) (kQi (fun (r : Int) H' => (r = st_byLv S ((ln : Nat) : Int)) ∧ (True)) (kNW H)) (19) (70) ((kNW H)) := by
  refine Met.ofW (cc := cX1_lineByLevel) (maxL := 2) (ret := (some .int)) (by decide) rfl ?_
  intro p e s m args below meth c s₁ B hml hv
  obtain ⟨rfl, hH, hK⟩ := hv
  subst hH
  have hx := B.exec
  have hb := B.bytes
  have hr := B.returns
  have hts := atoms_spec (ws := ws_ yX1_lineByLevel cX1_lineByLevel 2 (some .int)) B.pre
  have hts : ∀ w ∈ lw_all, w.before _ s = true := fun w h => hts w (List.mem_cons_of_mem _ h)
  have hown : s.vm.findClass RX1 = some m.cls := findClass_of_methodNamed B.named
  have hlk := B.notSynchronized
  have hS : va_S (kNW s.heap) s.heap s.heap [] := va_S.rf
  have hB : ∀ q, (kNW s.heap) q → kBase D ≤ q := fun q h => Nat.le_trans hK.size h
  have hl := lv_entry ([.ref x1, .int (kI ((ln : Nat) : Int))]) (n := 2) (Nat.le_of_ble_eq_true rfl)
  rw [lg_entry_eq]
  generalize (lg_sl ([.ref x1, .int (kI ((ln : Nat) : Int))]) ++ List.replicate (2 - (lg_sl ([.ref x1, .int (kI ((ln : Nat) : Int))])).length) Slot.unset).toArray = ls at hl ⊢
  have hl : lv_has ls 2 [(0, .ref x1), (1, .int (kI ((ln : Nat) : Int)))] := hl
  have hL8 := hok.1
  refine lv_iload_n hx hb dX1_lineByLevel_0 rfl (lv_at hl 1 rfl) ?_
  refine lv_aload_n hx hb dX1_lineByLevel_1 rfl (lv_at hl 0 rfl) ?_
  refine kx_get (v := .ref st) (C := RX1) (T := TX1) (N := 4) hx hb hts in_X1 hown hK hO_x1 rfl 0 (by decide) q229 (fun _ h9 => h9) rfl dX1_lineByLevel_2 ?_
  refine kx_get (v := .ref la) (C := RX2) (T := TX2) (N := 2) hx hb hts in_X2 hown hK hO_st rfl 0 (by decide) q168 (fun _ h9 => h9) rfl dX1_lineByLevel_5 ?_
  refine kx_cFi0 (va_runF (C := RJ2) (As := []) (rest := [.int (kI ((ln : Nat) : Int))]) (hK.at (ci := 9) rfl) ⟨hx, hb, hml, hown, hts⟩ (m_J2_size l D s.heap la mc ea S.length hO_la ) (va_cwF (x := ({ cls := "java/util/List", name := "size", desc := "()I" } : Jvm.MethodName)) 0 hts (lw_F q1267 q283 q285 q83 q287) rfl rfl rfl (hK.fw (by decide)) (by decide +kernel) ⟨Nat.le_of_ble_eq_true rfl, Nat.le_of_ble_eq_true rfl⟩) (kx_pv hK hS hB (kx_rc hK hO_la (C := RJ2) (T := TJ2) (N := 3) rfl)) rfl rfl hl.1 rfl (lv_room (Nat.le_of_ble_eq_true rfl)) dX1_lineByLevel_8 ⟨by first | exact Nat.le_of_ble_eq_true rfl | omega | (show _ ≤ _; omega) | (dsimp only [headSpec]; omega), by first | exact Nat.le_of_ble_eq_true rfl | omega | (show _ ≤ _; omega) | (dsimp only [headSpec]; omega)⟩) hS (fun z_4 locs_1 hz_3 hS_2 => ?_)
  subst z_4
  refine kx_cv0 (va_runS (As := [.int (kI ((ln : Nat) : Int)), .int (kI ((S.length : Nat) : Int))]) (rest := []) ⟨hx, hb, hml, hown, hts⟩ (m_X1_checkNumber l D s.heap (((ln : Nat) : Int)) (((S.length : Nat) : Int))  (by first | assumption | omega) (by first | assumption | omega) (by first | assumption | omega)) (va_cwS 2 hts (lw_S q1820 q1821 q79 q1822) rfl rfl rfl (by decide +kernel) ⟨Nat.le_of_ble_eq_true rfl, Nat.le_of_ble_eq_true rfl⟩) (kx_ps hK hS_2 hB) rfl rfl hl.1 rfl (lv_room (Nat.le_of_ble_eq_true rfl)) dX1_lineByLevel_13 ⟨by first | exact Nat.le_of_ble_eq_true rfl | omega | (show _ ≤ _; omega) | (dsimp only [headSpec]; omega), by first | exact Nat.le_of_ble_eq_true rfl | omega | (show _ ≤ _; omega) | (dsimp only [headSpec]; omega)⟩) hS_2 (fun locs_5 hz_7 hS_6 => ?_)
  refine lv_aload_n hx hb dX1_lineByLevel_16 rfl (lv_at hl 0 rfl) ?_
  refine kx_get (v := .ref st) (C := RX1) (T := TX1) (N := 4) hx hb hts in_X1 hown hK hO_x1 rfl 0 (by decide) q229 (fun _ h9 => h9) rfl dX1_lineByLevel_17 ?_
  refine lv_iload_n hx hb dX1_lineByLevel_20 rfl (lv_at hl 1 rfl) ?_
  refine kx_ci (va_runV (As := [.int (kI ((ln : Nat) : Int))]) (rest := []) ⟨hx, hb, hml, hown, hts⟩ (m_X2_lineByLevel l D s.heap st la mc ea F S gap (((ln : Nat) : Int)) hO_st hO_la hP_kLs_ea hP_kLn_F (by first | assumption | omega) (by first | assumption | omega)) (cwV 1 hts (lw_V q2160 q2161 q2162 q80 q2163) rfl rfl rfl (by decide +kernel) ⟨Nat.le_of_ble_eq_true rfl, Nat.le_of_ble_eq_true rfl⟩) (kx_pv hK hS_6 hB (kx_rc hK hO_st (C := RX2) (T := TX2) (N := 2) rfl)) rfl rfl hl.1 rfl (lv_room (Nat.le_of_ble_eq_true rfl)) dX1_lineByLevel_21 ⟨by first | exact Nat.le_of_ble_eq_true rfl | omega | (show _ ≤ _; omega) | (dsimp only [headSpec]; omega), by first | exact Nat.le_of_ble_eq_true rfl | omega | (show _ ≤ _; omega) | (dsimp only [headSpec]; omega)⟩) hS_6 (fun q _ h => Nat.le_trans hS_6.1 h) (fun q h => Nat.le_trans hS_6.1 h) (fun z_14 H_12 locs_9 hz_11 hF_13 hS_10 => ?_)
  have hzf_15 := hF_13.1
  have hF_13 := hF_13.nw
  refine W.widen (k := 19) (n := 70) (Nat.le_of_ble_eq_true rfl) (Nat.le_of_ble_eq_true rfl) ?_
  obtain ⟨hv_16, hnw_17⟩ := hz_11
  subst z_14
  exact kx_iret (z := st_byLv S ((((ln : Nat) : Int)))) hx hb hr hlk (⟨by rfl, by first | assumption | rfl | omega | grind⟩) hS_10 dX1_lineByLevel_24

