set_option maxHeartbeats 4000000 in
set_option maxRecDepth 100000 in
theorem m_X1_runText (l : Launch) (D : kG) (H : Heap) (x1 : Nat) (snp : Option Nat) (hi : Nat) (bu : Nat) (es : Nat) (L : List Nat) (st : Nat) (la : Nat) (ea : Nat) (F : Fts) (S : Ls) (gap : Int) (vb : Nat) (t : List Int) (hO_x1 : kO D H x1 0 [.ref st, va_rf (snp), .ref hi, .ref bu]) (hP_kState_st : kState D H st la ea gap S F) (hP_kDq_hi : kDq D H hi es L) (hP_kTx_bu : kTx D H bu vb t) (hok : LsOK S gap) (hnx : ∀ q, kOwn D st la ea F S.length q → q ≠ hi ∧ q ≠ es ∧ q ≠ x1) (bs_hi : kBase D ≤ hi) (bs_es : kBase D ≤ es) (ne_x1 : x1 ≠ hi ∧ x1 ≠ es) (hG : StG S) (hyes : (tx_all t).1 = true) (ht24 : t.length ≤ 24) : Met l yX1_runText (ws_ yX1_runText cX1_runText 2 (some .int)) ({ frames := 14, cells := 36240, slots := 103798, locals := 3255 } : Room) (kPre D H [.ref x1]) (kQi (fun (r : Int) H' => ∃ (cr : Nat) (la2 : Nat) (ea2 : Nat) (F2 : Fts) (ea3 : Nat) (F3 : Fts), (r = (((tx_go t S gap).1 : Nat) : Int)) ∧ (kO D H' x1 0 [.ref st, va_rf (snp), .ref hi, .ref bu]) ∧ (kState D H' st la ea3 ((tx_go t S gap).2.2) ((tx_go t S gap).2.1) F3) ∧ (kState D H' cr la2 ea2 gap S F2) ∧ (kDq D H' hi es ((pushL L cr))) ∧ (∀ q, kOwn D cr la2 ea2 F2 S.length q → H.size ≤ q) ∧ (∀ q, kOwn D st la ea3 F3 ((tx_go t S gap).2.1).length q → kOwn D st la ea F S.length q ∨ H.size ≤ q) ∧ (∀ q, kOwn D cr la2 ea2 F2 S.length q → ¬ kOwn D st la ea3 F3 ((tx_go t S gap).2.1).length q)) (fun q : Nat => kOwn D st la ea F S.length q ∨ q = hi ∨ q = es ∨ H.size ≤ q)) (36240) (103798) ((fun q : Nat => kOwn D st la ea F S.length q ∨ q = hi ∨ q = es ∨ H.size ≤ q)) := by
  refine Met.ofW (cc := cX1_runText) (maxL := 2) (ret := (some .int)) (by decide) rfl ?_
  intro p e s m args below meth c s₁ B hml hv
  obtain ⟨rfl, hH, hK⟩ := hv
  subst hH
  have hx := B.exec
  have hb := B.bytes
  have hr := B.returns
  have hts := atoms_spec (ws := ws_ yX1_runText cX1_runText 2 (some .int)) B.pre
  have hts : ∀ w ∈ lw_all, w.before _ s = true := fun w h => hts w (List.mem_cons_of_mem _ h)
  have hown : s.vm.findClass RX1 = some m.cls := findClass_of_methodNamed B.named
  have hlk := B.notSynchronized
  have hS : va_S (fun q : Nat => kOwn D st la ea F S.length q ∨ q = hi ∨ q = es ∨ s.heap.size ≤ q) s.heap s.heap [] := va_S.rf
  have hB : ∀ q, (fun q : Nat => kOwn D st la ea F S.length q ∨ q = hi ∨ q = es ∨ s.heap.size ≤ q) q → kBase D ≤ q := fun q h => by (have h2 := hK.size; rcases h with h | h | h | h; exact hP_kState_st.ownge h; (rw [h]; exact bs_hi); (rw [h]; exact bs_es); exact Nat.le_trans h2 h)
  have hl := lv_entry ([.ref x1]) (n := 2) (Nat.le_of_ble_eq_true rfl)
  rw [lg_entry_eq]
  generalize (lg_sl ([.ref x1]) ++ List.replicate (2 - (lg_sl ([.ref x1])).length) Slot.unset).toArray = ls at hl ⊢
  have hl : lv_has ls 2 [(0, .ref x1)] := hl
  have hL8 := hok.1
  have hks9 := hK.size
  have hd9 := hK.dis
  have hx9 : ¬ kBase D ≤ D.2.2.2 2 := hK.tE.out
  obtain ⟨⟨hO_st, mc, hO_la⟩, hLs9, hLn9, hF9, hDs9, hb1, hb2, hb3⟩ := id hP_kState_st
  have hltx1 := hO_x1.lt
  have hlthi : hi < s.heap.size ∧ es < s.heap.size := by obtain ⟨_, _, _, z1, z2, _⟩ := hP_kDq_hi; exact ⟨z1.lt, z2.lt⟩
  have hnst := hnx st (Or.inl rfl)
  have hnla := hnx la (Or.inr (Or.inl rfl))
  obtain ⟨ml, cap, gt, hBo, hBa, hT, hcap, hc3, ht60⟩ := id hP_kTx_bu
  have hd9 := hK.dis
  have hltbu := hBo.lt
  have hltvb := hBa.lt
  have hltx1 := hO_x1.lt
  have ne_bu_vb : bu ≠ vb := kOA_ne hd9 hBo hBa (by decide) (by decide)
  have ne_x1_bu : x1 ≠ bu := kO_ne hd9 hO_x1 hBo (by decide) (by decide) (by decide)
  have ne_x1_vb : x1 ≠ vb := kOA_ne hd9 hO_x1 hBa (by decide) (by decide)
  have hol9 : ∀ q, kOwn D st la ea F S.length q → q < s.heap.size := fun q hq => hP_kState_st.ownlt hx9 hq
  refine kx_new (ci := 8) (fs := [.int (kI (0)), .int (kI (kb (false))), .null, .int (kI (0)), .null]) (C := RX9) (T := TX9) (N := 5) hx hb hts in_X9 hown hK tyX9 tyX9_ok q1533 q1534 q125 hS rfl (fun j hj => by rcases (show j = 0 ∨ j = 1 ∨ j = 2 ∨ j = 3 ∨ j = 4 by omega) with rfl | rfl | rfl | rfl | rfl <;> rfl) (by first | exact Nat.le_of_ble_eq_true rfl | omega | (show _ ≤ _; omega) | (dsimp only [headSpec]; omega)) (by first | exact Nat.le_of_ble_eq_true rfl | omega | (show _ ≤ _; omega) | (dsimp only [headSpec]; omega)) dX1_runText_0 (fun rd9 H_1 hq_2 hz_3 hO_4 hE_5 hS_6 => ?_)
  have hge_rd9 : s.heap.size ≤ rd9 := by rw [hq_2]; exact hS.1
  refine W.widen (k := 1) (n := 5) (Nat.le_of_ble_eq_true rfl) (Nat.le_of_ble_eq_true rfl) ?_
  refine lv_dup hx hb dX1_runText_3 rfl ?_
  refine lv_aload_n hx hb dX1_runText_4 rfl (lv_at hl 0 rfl) ?_
  refine kx_cv (va_runIN (As := [.ref x1]) (rest := [.ref rd9]) ⟨hx, hb, hml, hown, hts⟩ (m_X9_init l D H_1 rd9 x1 hO_4 (by first | assumption | omega)) ⟨va_cnB 1 hts (lw_meth q1537) rfl rfl rfl (hK.w q1535 rfl) (hts _ q125) (by decide +kernel) ⟨Nat.le_of_ble_eq_true rfl, Nat.le_of_ble_eq_true rfl⟩, rfl, hts _ q1536⟩ (kx_ps hK hS_6 hB) rfl rfl hl.1 rfl (lv_room (Nat.le_of_ble_eq_true rfl)) dX1_runText_5 ⟨by first | exact Nat.le_of_ble_eq_true rfl | omega | (show _ ≤ _; omega) | (dsimp only [headSpec]; omega), by first | exact Nat.le_of_ble_eq_true rfl | omega | (show _ ≤ _; omega) | (dsimp only [headSpec]; omega)⟩) hS_6 (fun q _ h => Or.inr (Or.inr (Or.inr (by rcases h with h | h <;> omega)))) (fun q h => Or.inr (Or.inr (Or.inr (by rcases h with h | h <;> omega)))) (fun H_10 locs_7 hz_9 hF_11 hS_8 => ?_)
  have hzf_13 := hF_11.1
  refine W.widen (k := 2) (n := 65) (Nat.le_of_ble_eq_true rfl) (Nat.le_of_ble_eq_true rfl) ?_
  obtain ⟨oa9, ho_15, ho_16, hno9⟩ := hz_9
  refine lv_astore_n (lv' := [(1, .ref rd9), (0, .ref x1)]) hx hb dX1_runText_8 rfl hl (by decide) rfl (fun ls hl => ?_)
  refine lv_aload_n hx hb dX1_runText_9 rfl (lv_at hl 0 rfl) ?_
  obtain ⟨b0, hb0e⟩ : ∃ z, z = H_10.size := ⟨_, rfl⟩
  have hltr9 := ho_15.lt
  have hlto9 := ho_16.lt
  have h_17 := hO_x1.ex hE_5
  have h_18 := h_17.fr hF_11 (fun h => by have h9 := h_17.lt; (try dsimp only at h); (try simp only [kNW] at h); omega)
  have h_19 := hBo.ex hE_5
  have h_20 := h_19.fr hF_11 (fun h => by have h9 := h_19.lt; (try dsimp only at h); (try simp only [kNW] at h); omega)
  have h_21 := hBa.ex hE_5
  have h_22 := h_21.fr hF_11 (fun h => by have h9 := h_21.lt; (try dsimp only at h); (try simp only [kNW] at h); omega)
  refine kx_cb (va_runV (As := []) (rest := []) ⟨hx, hb, hml, hown, hts⟩ (m_X9_readAll l D H_10 rd9 oa9 x1 st snp hi bu vb ml cap gt t ((fun _ => none)) b0 ho_15 h_18 h_20 h_22 ho_16 hT ht60 hcap ((by omega)) ((by omega)) ((by omega)) ((by omega)) ((by omega)) ((by omega))) (cwV 0 hts (lw_V q1558 q1559 q1560 q125 q1561) rfl rfl rfl (by decide +kernel) ⟨Nat.le_of_ble_eq_true rfl, Nat.le_of_ble_eq_true rfl⟩) (kx_pv hK hS_8 hB (kx_rc hK ho_15 (C := RX9) (T := TX9) (N := 5) rfl)) rfl rfl hl.1 rfl (lv_room (Nat.le_of_ble_eq_true rfl)) dX1_runText_10 ⟨by first | exact Nat.le_of_ble_eq_true rfl | omega | (show _ ≤ _; omega) | (dsimp only [headSpec]; omega), by first | exact Nat.le_of_ble_eq_true rfl | omega | (show _ ≤ _; omega) | (dsimp only [headSpec]; omega)⟩) hS_8 (fun q _ h => Or.inr (Or.inr (Or.inr (by rcases h with h | h | h <;> omega)))) (fun q h => Or.inr (Or.inr (Or.inr (by rcases h with h | h | h <;> omega)))) (fun z_28 H_26 locs_23 hz_25 hF_27 hS_24 => ?_)
  have hzf_29 := hF_27.1
  refine W.widen (k := 66) (n := 769) (Nat.le_of_ble_eq_true rfl) (Nat.le_of_ble_eq_true rfl) ?_
  obtain ⟨mn9, go9, b9, hv_33, ho_34, ho_35, ho_36, hbr9, hmn9, hvl9, hop9⟩ := hz_25
  subst z_28
  have hEc0 := hE_5.fr2 hF_11 (fun x hx => by (try dsimp only at hx); omega)
  have hEc1 := hEc0.fr2 hF_27 (fun x hx => by (try dsimp only at hx); omega)
  have hStE := hP_kState_st.ex hEc1
  have hDqE := hP_kDq_hi.ex hEc1
  have hOxE := hO_x1.ex hEc1
  have hO_stE := hStE.1.1
  refine kx_ifnz (tgt := 24) hx hb dX1_runText_13 (by decide) (fun c_13_37 => ?_) (fun c_13_37 => ?_)
  · -- taken at 13
    refine lv_aload_n hx hb dX1_runText_24 rfl (lv_at hl 1 rfl) ?_
    refine kx_cv (va_runV (As := []) (rest := []) ⟨hx, hb, hml, hown, hts⟩ (m_X1_save l D H_26 x1 snp hi bu es L st la ea F S gap hOxE hStE hDqE (by first | assumption | omega) hnx bs_hi bs_es ne_x1) (cwV 0 hts (lw_V q247 q249 qs0 q79 q250) rfl rfl rfl (by decide +kernel) ⟨Nat.le_of_ble_eq_true rfl, Nat.le_of_ble_eq_true rfl⟩) (kx_pv hK hS_24 hB (kx_rc hK hOxE (C := RX1) (T := TX1) (N := 4) rfl)) rfl rfl hl.1 rfl (lv_room (Nat.le_of_ble_eq_true rfl)) dX1_runText_25 ⟨by first | exact Nat.le_of_ble_eq_true rfl | omega | (show _ ≤ _; omega) | (dsimp only [headSpec]; omega), by first | exact Nat.le_of_ble_eq_true rfl | omega | (show _ ≤ _; omega) | (dsimp only [headSpec]; omega)⟩) hS_24 (fun q _ h => by rcases h with h | h | h; exact Or.inr (Or.inl h); exact Or.inr (Or.inr (Or.inl h)); exact Or.inr (Or.inr (Or.inr (by omega)))) (fun q h => by rcases h with h | h | h; exact Or.inr (Or.inl h); exact Or.inr (Or.inr (Or.inl h)); exact Or.inr (Or.inr (Or.inr (by omega)))) (fun H_41 locs_38 hz_40 hF_42 hS_39 => ?_)
    have hzf_44 := hF_42.1
    refine W.widen (k := 108) (n := 1870) (Nat.le_of_ble_eq_true rfl) (Nat.le_of_ble_eq_true rfl) ?_
    obtain ⟨cr9, la9, ea9, F9, ho_49, ho_50, ho_51, ho_52, hcn9⟩ := hz_40
    refine lv_aload_n hx hb dX1_runText_28 rfl (lv_at hl 0 rfl) ?_
    refine lv_aload_n hx hb dX1_runText_29 rfl (lv_at hl 1 rfl) ?_
    refine kx_get (v := .ref st) (C := RX1) (T := TX1) (N := 4) hx hb hts in_X1 hown hK ho_49 rfl 0 (by decide) q229 (fun _ h9 => h9) rfl dX1_runText_30 ?_
    obtain ⟨HS9, hHS9⟩ : ∃ z, z = H_41.size := ⟨_, rfl⟩
    have hSc9 := ho_50
    have hcl9 : ∀ q, kOwn D cr9 la9 ea9 F9 S.length q → q < HS9 := fun q hq => by rw [hHS9]; exact ho_51.ownlt hx9 hq
    have hol9 : ∀ q, kOwn D st la ea F S.length q → q < s.heap.size := fun q hq => hP_kState_st.ownlt hx9 hq
    have h_53 := ho_34.fr hF_42 (fun h => by have h9 := ho_34.lt; (try dsimp only at h); (try simp only [kNW] at h); omega)
    have h_54 := ho_35.fr hF_42 (fun h => by have h9 := ho_35.lt; (try dsimp only at h); (try simp only [kNW] at h); omega)
    have h_55 := ho_36.fr hF_42 (fun h => by (try dsimp only at h); (try simp only [kNW] at h); omega)
    refine kx_ci (va_runV (As := [.ref st]) (rest := []) ⟨hx, hb, hml, hown, hts⟩ (m_X9_carryOut l D H_41 rd9 ((tx_all t).2) (!(tx_all t).1) oa9 mn9 x1 st la ea F S gap go9 b0 b9 t gt h_53 h_54 h_55 ho_50 (by first | assumption | omega) hG hT ((by omega)) ((by omega)) hvl9 ((hop9 (by assumption))) ((by omega)) ((fun q hq => by have h9 := hol9 q hq; omega))) (cwV 1 hts (lw_V q2195 q2196 q2197 q125 q2198) rfl rfl rfl (by decide +kernel) ⟨Nat.le_of_ble_eq_true rfl, Nat.le_of_ble_eq_true rfl⟩) (kx_pv hK hS_39 hB (kx_rc hK h_53 (C := RX9) (T := TX9) (N := 5) rfl)) rfl rfl hl.1 rfl (lv_room (Nat.le_of_ble_eq_true rfl)) dX1_runText_33 ⟨by first | exact Nat.le_of_ble_eq_true rfl | omega | (show _ ≤ _; omega) | (dsimp only [headSpec]; omega), by first | exact Nat.le_of_ble_eq_true rfl | omega | (show _ ≤ _; omega) | (dsimp only [headSpec]; omega)⟩) hS_39 (fun q _ h => by rcases (by rcases h with h | h; exact Or.inl h; exact Or.inr (by omega) : kOwn D st la ea F S.length q ∨ HS9 ≤ q) with z | z; exact Or.inl z; exact Or.inr (Or.inr (Or.inr (by omega)))) (fun q h => by rcases (by rcases h with h | h; exact Or.inl h; exact Or.inr (by omega) : kOwn D st la ea F S.length q ∨ HS9 ≤ q) with z | z; exact Or.inl z; exact Or.inr (Or.inr (Or.inr (by omega)))) (fun z_61 H_59 locs_56 hz_58 hF_60 hS_57 => ?_)
    have hzf_62 := hF_60.1
    refine W.widen (k := 36240) (n := 103798) (Nat.le_of_ble_eq_true rfl) (Nat.le_of_ble_eq_true rfl) ?_
    obtain ⟨ea2_63, F2_64, hv_65, ho_66, hown0⟩ := hz_58
    subst z_61
    have hown9 : ∀ q, kOwn D st la ea2_63 F2_64 ((tx_go t S gap).2.1).length q → kOwn D st la ea F S.length q ∨ HS9 ≤ q := fun q hq => by rcases hown0 q hq with z | z; exact Or.inl z; exact Or.inr (by omega)
    have h_67 := ho_49.fr hF_60 (fun hx => by rcases (by have h := hx; rcases h with h | h; exact Or.inl h; exact Or.inr (by omega) : kOwn D st la ea F S.length x1 ∨ HS9 ≤ x1) with z | z; exact (hnx _ z).2.2 rfl; omega)
    have h_68 := ho_51.fr hd9 hF_60 (fun x hx => by rcases (by have h := hx; rcases h with h | h; exact Or.inl h; exact Or.inr (by omega) : kOwn D st la ea F S.length x ∨ HS9 ≤ x) with z | z; exact Or.inr ⟨hSc9.ownty hx9 z, fun w => by have h1 := hcn9 x w; have h2 := hol9 x z; omega⟩; exact Or.inl (by omega))
    have h_69 := ho_52.fr hF_60 ⟨fun hx => by rcases (by have h := hx; rcases h with h | h; exact Or.inl h; exact Or.inr (by omega) : kOwn D st la ea F S.length hi ∨ HS9 ≤ hi) with z | z; exact (hnx _ z).1 rfl; omega, fun hx => by rcases (by have h := hx; rcases h with h | h; exact Or.inl h; exact Or.inr (by omega) : kOwn D st la ea F S.length es ∨ HS9 ≤ es) with z | z; exact (hnx _ z).2.1 rfl; omega⟩
    exact kx_iret (z := (((tx_go t S gap).1 : Nat) : Int)) hx hb hr hlk (⟨cr9, la9, ea9, F9, ea2_63, F2_64, by rfl, h_67, ho_66, h_68, h_69, by exact fun q hq => by have h9 := hcn9 q hq; omega, by exact fun q hq => by rcases hown9 q hq with z | z; exact Or.inl z; exact Or.inr (by omega), by exact fun q hq hw => by have h1 := hcn9 q hq; have h2 := hcl9 q hq; rcases hown9 q hw with z | z; (have h3 := hol9 q z; omega); omega⟩) hS_57 dX1_runText_36
  · -- not taken at 13
    exfalso; exact Bool.noConfusion (hyes.symm.trans (by assumption))

set_option maxHeartbeats 4000000 in
set_option maxRecDepth 100000 in
theorem x_runText (l : Launch) (hl9 : l.stackTraces = false) (D : kG) (H : Heap) (x1 : Nat) (st : Nat) (snp : Option Nat) (hi : Nat) (bu : Nat) (vb : Nat) (t : List Int) (hO_x1 : kO D H x1 0 [.ref st, va_rf (snp), .ref hi, .ref bu]) (hP_kTx_bu : kTx D H bu vb t) (hno : (tx_all t).1 = false) : vx_Met l yX1_runText (ws_ yX1_runText cX1_runText 2 (Option.some Jvm.ClassFile.FieldType.int)) ({ frames := 10, cells := 67, slots := 775, locals := 3166 } : Room) (kPre D H [.ref x1]) kFl (kXC "java/lang/IllegalArgumentException" (kNW H)) (67) (775) (kNW H) := by
  refine vx_ofW (cc := cX1_runText) (maxL := 2) (ret := (Option.some Jvm.ClassFile.FieldType.int)) (by decide) rfl ?_
  intro p e s m args below meth c s₁ B hml hxt hv
  obtain ⟨rfl, hH, hK⟩ := hv
  subst hH
  have hx := B.exec
  have hb := B.bytes
  have hr := B.returns
  have hts := atoms_spec (ws := ws_ yX1_runText cX1_runText 2 (Option.some Jvm.ClassFile.FieldType.int)) B.pre
  have hts : ∀ w ∈ lw_all, w.before _ s = true := fun w h => hts w (List.mem_cons_of_mem _ h)
  have hown : s.vm.findClass RX1 = some m.cls := findClass_of_methodNamed B.named
  have hlk := B.notSynchronized
  have hS : va_S (kNW s.heap) s.heap s.heap [] := va_S.rf
  have hB : ∀ q, (kNW s.heap) q → kBase D ≤ q := fun q h => Nat.le_trans hK.size h
  have hl := lv_entry ([.ref x1]) (n := 2) (Nat.le_of_ble_eq_true rfl)
  rw [lg_entry_eq]
  generalize (lg_sl ([.ref x1]) ++ List.replicate (2 - (lg_sl ([.ref x1])).length) Slot.unset).toArray = ls at hl ⊢
  have hl : lv_has ls 2 [(0, .ref x1)] := hl
  have hks9 := hK.size
  obtain ⟨ml, cap, gt, hBo, hBa, hT, hcap, hc3, ht60⟩ := id hP_kTx_bu
  have hd9 := hK.dis
  have hltbu := hBo.lt
  have hltvb := hBa.lt
  have hltx1 := hO_x1.lt
  have ne_bu_vb : bu ≠ vb := kOA_ne hd9 hBo hBa (by decide) (by decide)
  have ne_x1_bu : x1 ≠ bu := kO_ne hd9 hO_x1 hBo (by decide) (by decide) (by decide)
  have ne_x1_vb : x1 ≠ vb := kOA_ne hd9 hO_x1 hBa (by decide) (by decide)
  refine kx_new (ci := 8) (fs := [.int (kI (0)), .int (kI (kb (false))), .null, .int (kI (0)), .null]) (C := RX9) (T := TX9) (N := 5) hx hb hts in_X9 hown hK tyX9 tyX9_ok q1533 q1534 q125 hS rfl (fun j hj => by rcases (show j = 0 ∨ j = 1 ∨ j = 2 ∨ j = 3 ∨ j = 4 by omega) with rfl | rfl | rfl | rfl | rfl <;> rfl) (by first | exact Nat.le_of_ble_eq_true rfl | omega | (show _ ≤ _; omega) | (dsimp only [headSpec]; omega)) (by first | exact Nat.le_of_ble_eq_true rfl | omega | (show _ ≤ _; omega) | (dsimp only [headSpec]; omega)) dX1_runText_0 (fun rd9 H_1 hq_2 hz_3 hO_4 hE_5 hS_6 => ?_)
  have hge_rd9 : s.heap.size ≤ rd9 := by rw [hq_2]; exact hS.1
  refine W.widen (k := 1) (n := 5) (Nat.le_of_ble_eq_true rfl) (Nat.le_of_ble_eq_true rfl) ?_
  refine lv_dup hx hb dX1_runText_3 rfl ?_
  refine lv_aload_n hx hb dX1_runText_4 rfl (lv_at hl 0 rfl) ?_
  refine kx_cv (va_runIN (As := [.ref x1]) (rest := [.ref rd9]) ⟨hx, hb, hml, hown, hts⟩ (m_X9_init l D H_1 rd9 x1 hO_4 (by first | assumption | omega)) ⟨va_cnB 1 hts (lw_meth q1537) rfl rfl rfl (hK.w q1535 rfl) (hts _ q125) (by decide +kernel) ⟨Nat.le_of_ble_eq_true rfl, Nat.le_of_ble_eq_true rfl⟩, rfl, hts _ q1536⟩ (kx_ps hK hS_6 hB) rfl rfl hl.1 rfl (lv_room (Nat.le_of_ble_eq_true rfl)) dX1_runText_5 ⟨by first | exact Nat.le_of_ble_eq_true rfl | omega | (show _ ≤ _; omega) | (dsimp only [headSpec]; omega), by first | exact Nat.le_of_ble_eq_true rfl | omega | (show _ ≤ _; omega) | (dsimp only [headSpec]; omega)⟩) hS_6 (fun q _ h => by have h9 := hS_6.1; (try dsimp only at h); (try dsimp only); (try simp only [kNW] at h); (try simp only [kNW]); omega) (fun q h => by have h9 := hS_6.1; (try dsimp only at h); (try dsimp only); (try simp only [kNW] at h); (try simp only [kNW]); omega) (fun H_10 locs_7 hz_9 hF_11 hS_8 => ?_)
  have hzf_13 := hF_11.1
  refine W.widen (k := 2) (n := 65) (Nat.le_of_ble_eq_true rfl) (Nat.le_of_ble_eq_true rfl) ?_
  obtain ⟨oa9, ho_15, ho_16, hno9⟩ := hz_9
  refine lv_astore_n (lv' := [(1, .ref rd9), (0, .ref x1)]) hx hb dX1_runText_8 rfl hl (by decide) rfl (fun ls hl => ?_)
  refine lv_aload_n hx hb dX1_runText_9 rfl (lv_at hl 0 rfl) ?_
  obtain ⟨b0, hb0e⟩ : ∃ z, z = H_10.size := ⟨_, rfl⟩
  have hltr9 := ho_15.lt
  have hlto9 := ho_16.lt
  have h_17 := hO_x1.ex hE_5
  have h_18 := h_17.fr hF_11 (fun h => by have h9 := h_17.lt; (try dsimp only at h); (try simp only [kNW] at h); omega)
  have h_19 := hBo.ex hE_5
  have h_20 := h_19.fr hF_11 (fun h => by have h9 := h_19.lt; (try dsimp only at h); (try simp only [kNW] at h); omega)
  have h_21 := hBa.ex hE_5
  have h_22 := h_21.fr hF_11 (fun h => by have h9 := h_21.lt; (try dsimp only at h); (try simp only [kNW] at h); omega)
  refine kx_cb (va_runV (As := []) (rest := []) ⟨hx, hb, hml, hown, hts⟩ (m_X9_readAll l D H_10 rd9 oa9 x1 st snp hi bu vb ml cap gt t ((fun _ => none)) b0 ho_15 h_18 h_20 h_22 ho_16 hT ht60 hcap ((by omega)) ((by omega)) ((by omega)) ((by omega)) ((by omega)) ((by omega))) (cwV 0 hts (lw_V q1558 q1559 q1560 q125 q1561) rfl rfl rfl (by decide +kernel) ⟨Nat.le_of_ble_eq_true rfl, Nat.le_of_ble_eq_true rfl⟩) (kx_pv hK hS_8 hB (kx_rc hK ho_15 (C := RX9) (T := TX9) (N := 5) rfl)) rfl rfl hl.1 rfl (lv_room (Nat.le_of_ble_eq_true rfl)) dX1_runText_10 ⟨by first | exact Nat.le_of_ble_eq_true rfl | omega | (show _ ≤ _; omega) | (dsimp only [headSpec]; omega), by first | exact Nat.le_of_ble_eq_true rfl | omega | (show _ ≤ _; omega) | (dsimp only [headSpec]; omega)⟩) hS_8 (fun q _ h => by have h9 := hS_8.1; (try dsimp only at h); (try dsimp only); (try simp only [kNW] at h); (try simp only [kNW]); omega) (fun q h => by have h9 := hS_8.1; (try dsimp only at h); (try dsimp only); (try simp only [kNW] at h); (try simp only [kNW]); omega) (fun z_28 H_26 locs_23 hz_25 hF_27 hS_24 => ?_)
  have hzf_29 := hF_27.1
  refine W.widen (k := 66) (n := 769) (Nat.le_of_ble_eq_true rfl) (Nat.le_of_ble_eq_true rfl) ?_
  obtain ⟨mn9, go9, b9, hv_33, ho_34, ho_35, ho_36, hbr9, hmn9, hvl9, hop9⟩ := hz_25
  subst z_28
  refine kx_ifnz (tgt := 24) hx hb dX1_runText_13 (by decide) (fun c_13_37 => ?_) (fun c_13_37 => ?_)
  · -- taken at 13
    exfalso; exact Bool.noConfusion (hno.symm.trans (by assumption))
  · -- not taken at 13
    exact kx_throw hx hb hl9 hml hl.1 hts hown hK (by decide +kernel) (by decide +kernel) q1841 q95 ex_ia_ps ex_ia_p ex_ia_g ex_ia_o hS_24 hB dX1_runText_16 dX1_runText_19 dX1_runText_20 dX1_runText_23 hxt hlk (by first | exact Nat.le_of_ble_eq_true rfl | omega | (show _ ≤ _; omega) | (dsimp only [headSpec]; omega)) (by first | exact Nat.le_of_ble_eq_true rfl | omega | (show _ ≤ _; omega) | (dsimp only [headSpec]; omega)) (by first | exact Nat.le_of_ble_eq_true rfl | omega | (show _ ≤ _; omega) | (dsimp only [headSpec]; omega)) (by first | exact Nat.le_of_ble_eq_true rfl | omega | (show _ ≤ _; omega) | (dsimp only [headSpec]; omega)) (by first | exact Nat.le_of_ble_eq_true rfl | omega | (show _ ≤ _; omega) | (dsimp only [headSpec]; omega)) (by first | exact Nat.le_of_ble_eq_true rfl | omega | (show _ ≤ _; omega) | (dsimp only [headSpec]; omega))

set_option maxHeartbeats 4000000 in
set_option maxRecDepth 100000 in
theorem x_append_1 (l : Launch) (hl9 : l.stackTraces = false) (D : kG) (H : Heap) (x1 : Nat) (st : Nat) (snp : Option Nat) (hi : Nat) (bu : Nat) (x : Int) (hO_x1 : kO D H x1 0 [.ref st, va_rf (snp), .ref hi, .ref bu]) (hr_x : -2147483648 ≤ x ∧ x ≤ 2147483647) (hxa : x < 32 ∨ 126 < x) : vx_Met l yX1_append (ws_ yX1_append cX1_append 2 (Option.some Jvm.ClassFile.FieldType.int)) ({ frames := 7, cells := 1, slots := 6, locals := 142 } : Room) (kPre D H [.ref x1, .int (kI (x))]) kFl (kXC "java/lang/IllegalArgumentException" (kNW H)) (1) (6) (kNW H) := by
  refine vx_ofW (cc := cX1_append) (maxL := 2) (ret := (Option.some Jvm.ClassFile.FieldType.int)) (by decide) rfl ?_
  intro p e s m args below meth c s₁ B hml hxt hv
  obtain ⟨rfl, hH, hK⟩ := hv
  subst hH
  have hx := B.exec
  have hb := B.bytes
  have hr := B.returns
  have hts := atoms_spec (ws := ws_ yX1_append cX1_append 2 (Option.some Jvm.ClassFile.FieldType.int)) B.pre
  have hts : ∀ w ∈ lw_all, w.before _ s = true := fun w h => hts w (List.mem_cons_of_mem _ h)
  have hown : s.vm.findClass RX1 = some m.cls := findClass_of_methodNamed B.named
  have hlk := B.notSynchronized
  have hS : va_S (kNW s.heap) s.heap s.heap [] := va_S.rf
  have hB : ∀ q, (kNW s.heap) q → kBase D ≤ q := fun q h => Nat.le_trans hK.size h
  have hl := lv_entry ([.ref x1, .int (kI (x))]) (n := 2) (Nat.le_of_ble_eq_true rfl)
  rw [lg_entry_eq]
  generalize (lg_sl ([.ref x1, .int (kI (x))]) ++ List.replicate (2 - (lg_sl ([.ref x1, .int (kI (x))])).length) Slot.unset).toArray = ls at hl ⊢
  have hl : lv_has ls 2 [(0, .ref x1), (1, .int (kI (x)))] := hl
  refine lv_iload_n hx hb dX1_append_0 rfl (lv_at hl 1 rfl) ?_
  refine kx_bipush hx hb (by decide) dX1_append_1 ?_
  refine kx_bipush hx hb (by decide) dX1_append_3 ?_
  exact kx_thr (vx_runS (As := [.int (kI (x)), .int (kI (32)), .int (kI (126))]) (rest := []) ⟨hx, hb, hml, hown, hts⟩ (x_checkRange l hl9 D s.heap x 32 126  (by first | assumption | omega) (by first | assumption | omega) (by first | assumption | omega) (by first | assumption | omega)) (va_cwS 3 hts (lw_S q1838 q1839 q79 q1840) rfl rfl rfl (by decide +kernel) ⟨Nat.le_of_ble_eq_true rfl, Nat.le_of_ble_eq_true rfl⟩) (kx_ps hK hS hB) rfl rfl hl.1 rfl (lv_room (Nat.le_of_ble_eq_true rfl)) dX1_append_5 ⟨by first | exact Nat.le_of_ble_eq_true rfl | omega | (show _ ≤ _; omega) | (dsimp only [headSpec]; omega), by first | exact Nat.le_of_ble_eq_true rfl | omega | (show _ ≤ _; omega) | (dsimp only [headSpec]; omega)⟩) hS (fun q _ h => by have h9 := hS.1; (try dsimp only at h); (try dsimp only); (try simp only [kNW] at h); (try simp only [kNW]); omega) (fun q h => by have h9 := hS.1; (try dsimp only at h); (try dsimp only); (try simp only [kNW] at h); (try simp only [kNW]); omega) hxt hlk (by first | exact Nat.le_of_ble_eq_true rfl | omega | (show _ ≤ _; omega) | (dsimp only [headSpec]; omega)) (by first | exact Nat.le_of_ble_eq_true rfl | omega | (show _ ≤ _; omega) | (dsimp only [headSpec]; omega))

set_option maxHeartbeats 4000000 in
set_option maxRecDepth 100000 in
theorem x_append_2 (l : Launch) (hl9 : l.stackTraces = false) (D : kG) (H : Heap) (x1 : Nat) (st : Nat) (snp : Option Nat) (hi : Nat) (bu : Nat) (vb : Nat) (t : List Int) (x : Int) (hO_x1 : kO D H x1 0 [.ref st, va_rf (snp), .ref hi, .ref bu]) (hP_kTx_bu : kTx D H bu vb t) (hxa : 32 ≤ x ∧ x ≤ 126) (ht9 : t.length = 60) : vx_Met l yX1_append (ws_ yX1_append cX1_append 2 (Option.some Jvm.ClassFile.FieldType.int)) ({ frames := 7, cells := 1, slots := 6, locals := 140 } : Room) (kPre D H [.ref x1, .int (kI (x))]) kFl (kXC "java/lang/IllegalStateException" (kNW H)) (1) (6) (kNW H) := by
  refine vx_ofW (cc := cX1_append) (maxL := 2) (ret := (Option.some Jvm.ClassFile.FieldType.int)) (by decide) rfl ?_
  intro p e s m args below meth c s₁ B hml hxt hv
  obtain ⟨rfl, hH, hK⟩ := hv
  subst hH
  have hx := B.exec
  have hb := B.bytes
  have hr := B.returns
  have hts := atoms_spec (ws := ws_ yX1_append cX1_append 2 (Option.some Jvm.ClassFile.FieldType.int)) B.pre
  have hts : ∀ w ∈ lw_all, w.before _ s = true := fun w h => hts w (List.mem_cons_of_mem _ h)
  have hown : s.vm.findClass RX1 = some m.cls := findClass_of_methodNamed B.named
  have hlk := B.notSynchronized
  have hS : va_S (kNW s.heap) s.heap s.heap [] := va_S.rf
  have hB : ∀ q, (kNW s.heap) q → kBase D ≤ q := fun q h => Nat.le_trans hK.size h
  have hl := lv_entry ([.ref x1, .int (kI (x))]) (n := 2) (Nat.le_of_ble_eq_true rfl)
  rw [lg_entry_eq]
  generalize (lg_sl ([.ref x1, .int (kI (x))]) ++ List.replicate (2 - (lg_sl ([.ref x1, .int (kI (x))])).length) Slot.unset).toArray = ls at hl ⊢
  have hl : lv_has ls 2 [(0, .ref x1), (1, .int (kI (x)))] := hl
  obtain ⟨ml, cap, gt, hBo, hBa, hT, hcap, hc3, ht60⟩ := id hP_kTx_bu
  have hd9 := hK.dis
  have hltbu := hBo.lt
  have hltvb := hBa.lt
  have hltx1 := hO_x1.lt
  have ne_bu_vb : bu ≠ vb := kOA_ne hd9 hBo hBa (by decide) (by decide)
  have ne_x1_bu : x1 ≠ bu := kO_ne hd9 hO_x1 hBo (by decide) (by decide) (by decide)
  have ne_x1_vb : x1 ≠ vb := kOA_ne hd9 hO_x1 hBa (by decide) (by decide)
  refine lv_iload_n hx hb dX1_append_0 rfl (lv_at hl 1 rfl) ?_
  refine kx_bipush hx hb (by decide) dX1_append_1 ?_
  refine kx_bipush hx hb (by decide) dX1_append_3 ?_
  refine kx_cv0 (va_runS (As := [.int (kI (x)), .int (kI (32)), .int (kI (126))]) (rest := []) ⟨hx, hb, hml, hown, hts⟩ (m_X1_checkRange l D s.heap x 32 126  (by first | assumption | omega) (by first | assumption | omega) (by first | assumption | omega) (by first | assumption | omega)) (va_cwS 3 hts (lw_S q1838 q1839 q79 q1840) rfl rfl rfl (by decide +kernel) ⟨Nat.le_of_ble_eq_true rfl, Nat.le_of_ble_eq_true rfl⟩) (kx_ps hK hS hB) rfl rfl hl.1 rfl (lv_room (Nat.le_of_ble_eq_true rfl)) dX1_append_5 ⟨by first | exact Nat.le_of_ble_eq_true rfl | omega | (show _ ≤ _; omega) | (dsimp only [headSpec]; omega), by first | exact Nat.le_of_ble_eq_true rfl | omega | (show _ ≤ _; omega) | (dsimp only [headSpec]; omega)⟩) hS (fun locs_1 hz_3 hS_2 => ?_)
  refine lv_aload_n hx hb dX1_append_8 rfl (lv_at hl 0 rfl) ?_
  refine kx_get (v := .ref bu) (C := RX1) (T := TX1) (N := 4) hx hb hts in_X1 hown hK hO_x1 rfl 3 (by decide) q233 (fun _ h9 => h9) rfl dX1_append_9 ?_
  refine kx_ci0 (va_runV (As := []) (rest := []) ⟨hx, hb, hml, hown, hts⟩ (m_J5_length l D s.heap bu vb ml t.length hBo ) (cwV 0 hts (lw_V q1292 q1293 q1294 q86 q1295) rfl rfl rfl (by decide +kernel) ⟨Nat.le_of_ble_eq_true rfl, Nat.le_of_ble_eq_true rfl⟩) (kx_pv hK hS_2 hB (kx_rc hK hBo (C := RJ5) (T := TJ5) (N := 4) rfl)) rfl rfl hl.1 rfl (lv_room (Nat.le_of_ble_eq_true rfl)) dX1_append_12 ⟨by first | exact Nat.le_of_ble_eq_true rfl | omega | (show _ ≤ _; omega) | (dsimp only [headSpec]; omega), by first | exact Nat.le_of_ble_eq_true rfl | omega | (show _ ≤ _; omega) | (dsimp only [headSpec]; omega)⟩) hS_2 (fun z_8 locs_5 hz_7 hS_6 => ?_)
  subst z_8
  refine kx_bipush hx hb (by decide) dX1_append_15 ?_
  refine kx_icmp_ge (x := ((t.length : Nat) : Int)) (y := 60) (tgt := 24) hx hb dX1_append_17 (by decide) (by omega) (by omega) (by omega) (by omega) (fun c_17_9 => ?_) (fun c_17_9 => ?_)
  · -- taken at 17
    refine kx_iconst hx hb dX1_append_24 ?_
    exact kx_thr (vx_runS (As := [.int (kI (0))]) (rest := []) ⟨hx, hb, hml, hown, hts⟩ (x_checkState l hl9 D s.heap   ) (va_cwS 1 hts (lw_S q1844 q1845 q79 q1846) rfl rfl rfl (by decide +kernel) ⟨Nat.le_of_ble_eq_true rfl, Nat.le_of_ble_eq_true rfl⟩) (kx_ps hK hS_6 hB) rfl rfl hl.1 rfl (lv_room (Nat.le_of_ble_eq_true rfl)) dX1_append_25 ⟨by first | exact Nat.le_of_ble_eq_true rfl | omega | (show _ ≤ _; omega) | (dsimp only [headSpec]; omega), by first | exact Nat.le_of_ble_eq_true rfl | omega | (show _ ≤ _; omega) | (dsimp only [headSpec]; omega)⟩) hS_6 (fun q _ h => by have h9 := hS_6.1; (try dsimp only at h); (try dsimp only); (try simp only [kNW] at h); (try simp only [kNW]); omega) (fun q h => by have h9 := hS_6.1; (try dsimp only at h); (try dsimp only); (try simp only [kNW] at h); (try simp only [kNW]); omega) hxt hlk (by first | exact Nat.le_of_ble_eq_true rfl | omega | (show _ ≤ _; omega) | (dsimp only [headSpec]; omega)) (by first | exact Nat.le_of_ble_eq_true rfl | omega | (show _ ≤ _; omega) | (dsimp only [headSpec]; omega))
  · -- not taken at 17
    exfalso; omega

set_option maxHeartbeats 4000000 in
set_option maxRecDepth 100000 in
theorem m_X1_savedStates (l : Launch) (D : kG) (H : Heap) (x1 : Nat) (st : Nat) (snp : Option Nat) (hi : Nat) (bu : Nat) (es : Nat) (L : List Nat) (hO_x1 : kO D H x1 0 [.ref st, va_rf (snp), .ref hi, .ref bu]) (hP_kDq_hi : kDq D H hi es L) : Met l yX1_savedStates (ws_ yX1_savedStates cX1_savedStates 1 (some .int)) ({ frames := 2, cells := 0, slots := 0, locals := 42 } : Room) (kPre D H [.ref x1]) (kQi (fun (r : Int) H' => H' = H ∧ r = ((L.length : Nat) : Int)) kNO) (0) (0) (kNO) := by
  refine Met.ofW (cc := cX1_savedStates) (maxL := 1) (ret := (some .int)) (by decide) rfl ?_
  intro p e s m args below meth c s₁ B hml hv
  obtain ⟨rfl, hH, hK⟩ := hv
  subst hH
  have hx := B.exec
  have hb := B.bytes
  have hr := B.returns
  have hts := atoms_spec (ws := ws_ yX1_savedStates cX1_savedStates 1 (some .int)) B.pre
  have hts : ∀ w ∈ lw_all, w.before _ s = true := fun w h => hts w (List.mem_cons_of_mem _ h)
  have hown : s.vm.findClass RX1 = some m.cls := findClass_of_methodNamed B.named
  have hlk := B.notSynchronized
  have hS : va_S kNO s.heap s.heap [] := va_S.rf
  have hB : ∀ q, kNO q → kBase D ≤ q := fun _ h => h.elim
  have hl := lv_entry ([.ref x1]) (n := 1) (Nat.le_of_ble_eq_true rfl)
  rw [lg_entry_eq]
  generalize (lg_sl ([.ref x1]) ++ List.replicate (1 - (lg_sl ([.ref x1])).length) Slot.unset).toArray = ls at hl ⊢
  have hl : lv_has ls 1 [(0, .ref x1)] := hl
  obtain ⟨h, tl, gd, hDo, hDa, hh17, htl, hL5, hgd⟩ := id hP_kDq_hi
  have htl17 : tl < 17 := by omega
  have hd9 := hK.dis
  have ne_hi_es : hi ≠ es := kOA_ne hd9 hDo hDa (by decide) (by decide)
  have ne_x1_hi : x1 ≠ hi := kO_ne hd9 hO_x1 hDo (by decide) (by decide) (by decide)
  have ne_x1_es : x1 ≠ es := kOA_ne hd9 hO_x1 hDa (by decide) (by decide)
  refine lv_aload_n hx hb dX1_savedStates_0 rfl (lv_at hl 0 rfl) ?_
  refine kx_get (v := .ref hi) (C := RX1) (T := TX1) (N := 4) hx hb hts in_X1 hown hK hO_x1 rfl 2 (by decide) q231 (fun _ h9 => h9) rfl dX1_savedStates_1 ?_
  refine kx_ci0 (va_runV (As := []) (rest := []) ⟨hx, hb, hml, hown, hts⟩ (m_J3_size l D s.heap hi es h tl gd hDo hDa hh17 htl17) (cwV 0 hts (lw_V q251 q252 q253 q84 q254) rfl rfl rfl (by decide +kernel) ⟨Nat.le_of_ble_eq_true rfl, Nat.le_of_ble_eq_true rfl⟩) (kx_pv hK hS hB (kx_rc hK hDo (C := RJ3) (T := TJ3) (N := 3) rfl)) rfl rfl hl.1 rfl (lv_room (Nat.le_of_ble_eq_true rfl)) dX1_savedStates_4 ⟨by first | exact Nat.le_of_ble_eq_true rfl | omega | (show _ ≤ _; omega) | (dsimp only [headSpec]; omega), by first | exact Nat.le_of_ble_eq_true rfl | omega | (show _ ≤ _; omega) | (dsimp only [headSpec]; omega)⟩) hS (fun z_4 locs_1 hz_3 hS_2 => ?_)
  subst z_4
  refine kx_eqi (((L.length : Nat) : Int)) (by omega) ?_
  exact kx_iret (z := ((L.length : Nat) : Int)) hx hb hr hlk (⟨rfl, by rfl⟩) hS_2 dX1_savedStates_7

set_option maxHeartbeats 4000000 in
set_option maxRecDepth 100000 in
theorem x_undo (l : Launch) (hl9 : l.stackTraces = false) (D : kG) (H : Heap) (x1 : Nat) (st : Nat) (snp : Option Nat) (hi : Nat) (bu : Nat) (es : Nat) (L : List Nat) (hO_x1 : kO D H x1 0 [.ref st, va_rf (snp), .ref hi, .ref bu]) (hP_kDq_hi : kDq D H hi es L) (hL0 : L.length = 0) : vx_Met l yX1_undo (ws_ yX1_undo cX1_undo 1 (Option.some Jvm.ClassFile.FieldType.int)) ({ frames := 7, cells := 1, slots := 6, locals := 140 } : Room) (kPre D H [.ref x1]) kFl (kXC "java/lang/IllegalStateException" (kNW H)) (1) (6) (kNW H) := by
  refine vx_ofW (cc := cX1_undo) (maxL := 1) (ret := (Option.some Jvm.ClassFile.FieldType.int)) (by decide) rfl ?_
  intro p e s m args below meth c s₁ B hml hxt hv
  obtain ⟨rfl, hH, hK⟩ := hv
  subst hH
  have hx := B.exec
  have hb := B.bytes
  have hr := B.returns
  have hts := atoms_spec (ws := ws_ yX1_undo cX1_undo 1 (Option.some Jvm.ClassFile.FieldType.int)) B.pre
  have hts : ∀ w ∈ lw_all, w.before _ s = true := fun w h => hts w (List.mem_cons_of_mem _ h)
  have hown : s.vm.findClass RX1 = some m.cls := findClass_of_methodNamed B.named
  have hlk := B.notSynchronized
  have hS : va_S (kNW s.heap) s.heap s.heap [] := va_S.rf
  have hB : ∀ q, (kNW s.heap) q → kBase D ≤ q := fun q h => Nat.le_trans hK.size h
  have hl := lv_entry ([.ref x1]) (n := 1) (Nat.le_of_ble_eq_true rfl)
  rw [lg_entry_eq]
  generalize (lg_sl ([.ref x1]) ++ List.replicate (1 - (lg_sl ([.ref x1])).length) Slot.unset).toArray = ls at hl ⊢
  have hl : lv_has ls 1 [(0, .ref x1)] := hl
  obtain ⟨h, tl, gd, hDo, hDa, hh17, htl, hL5, hgd⟩ := id hP_kDq_hi
  have htl17 : tl < 17 := by omega
  have hd9 := hK.dis
  have ne_hi_es : hi ≠ es := kOA_ne hd9 hDo hDa (by decide) (by decide)
  have ne_x1_hi : x1 ≠ hi := kO_ne hd9 hO_x1 hDo (by decide) (by decide) (by decide)
  have ne_x1_es : x1 ≠ es := kOA_ne hd9 hO_x1 hDa (by decide) (by decide)
  refine lv_aload_n hx hb dX1_undo_0 rfl (lv_at hl 0 rfl) ?_
  refine kx_get (v := .ref hi) (C := RX1) (T := TX1) (N := 4) hx hb hts in_X1 hown hK hO_x1 rfl 2 (by decide) q231 (fun _ h9 => h9) rfl dX1_undo_1 ?_
  refine kx_cb0 (va_runV (As := []) (rest := []) ⟨hx, hb, hml, hown, hts⟩ (m_J3_isEmpty l D s.heap hi es h tl hDo hh17 htl17) (cwV 0 hts (lw_V q2210 q2211 q2212 q84 q2213) rfl rfl rfl (by decide +kernel) ⟨Nat.le_of_ble_eq_true rfl, Nat.le_of_ble_eq_true rfl⟩) (kx_pv hK hS hB (kx_rc hK hDo (C := RJ3) (T := TJ3) (N := 3) rfl)) rfl rfl hl.1 rfl (lv_room (Nat.le_of_ble_eq_true rfl)) dX1_undo_4 ⟨by first | exact Nat.le_of_ble_eq_true rfl | omega | (show _ ≤ _; omega) | (dsimp only [headSpec]; omega), by first | exact Nat.le_of_ble_eq_true rfl | omega | (show _ ≤ _; omega) | (dsimp only [headSpec]; omega)⟩) hS (fun z_4 locs_1 hz_3 hS_2 => ?_)
  subst z_4
  refine kx_ifnz (tgt := 14) hx hb dX1_undo_7 (by decide) (fun c_7_5 => ?_) (fun c_7_5 => ?_)
  · -- taken at 7
    have c_7_5 := of_decide_eq_true c_7_5
    refine kx_iconst hx hb dX1_undo_14 ?_
    exact kx_thr (vx_runS (As := [.int (kI (0))]) (rest := []) ⟨hx, hb, hml, hown, hts⟩ (x_checkState l hl9 D s.heap   ) (va_cwS 1 hts (lw_S q1844 q1845 q79 q1846) rfl rfl rfl (by decide +kernel) ⟨Nat.le_of_ble_eq_true rfl, Nat.le_of_ble_eq_true rfl⟩) (kx_ps hK hS_2 hB) rfl rfl hl.1 rfl (lv_room (Nat.le_of_ble_eq_true rfl)) dX1_undo_15 ⟨by first | exact Nat.le_of_ble_eq_true rfl | omega | (show _ ≤ _; omega) | (dsimp only [headSpec]; omega), by first | exact Nat.le_of_ble_eq_true rfl | omega | (show _ ≤ _; omega) | (dsimp only [headSpec]; omega)⟩) hS_2 (fun q _ h => by have h9 := hS_2.1; (try dsimp only at h); (try dsimp only); (try simp only [kNW] at h); (try simp only [kNW]); omega) (fun q h => by have h9 := hS_2.1; (try dsimp only at h); (try dsimp only); (try simp only [kNW] at h); (try simp only [kNW]); omega) hxt hlk (by first | exact Nat.le_of_ble_eq_true rfl | omega | (show _ ≤ _; omega) | (dsimp only [headSpec]; omega)) (by first | exact Nat.le_of_ble_eq_true rfl | omega | (show _ ≤ _; omega) | (dsimp only [headSpec]; omega))
  · -- not taken at 7
    have c_7_5 := of_decide_eq_false c_7_5
    exfalso; omega

set_option maxHeartbeats 4000000 in
set_option maxRecDepth 100000 in
theorem m_X1_undo (l : Launch) (D : kG) (H : Heap) (x1 : Nat) (st : Nat) (snp : Option Nat) (hi : Nat) (bu : Nat) (es : Nat) (L : List Nat) (cs : Nat) (la2 : Nat) (gap2 : Int) (hO_x1 : kO D H x1 0 [.ref st, va_rf (snp), .ref hi, .ref bu]) (hP_kDq_hi : kDq D H hi es L) (hO_cs : kO D H cs 1 [.ref la2, .int (kI (gap2))]) (hL0 : L ≠ []) (hcs : L.getD (L.length - 1) 0 = cs) (bs_x1 : kBase D ≤ x1) (bs_hi : kBase D ≤ hi) (bs_es : kBase D ≤ es) : Met l yX1_undo (ws_ yX1_undo cX1_undo 1 (some .int)) ({ frames := 3, cells := 0, slots := 0, locals := 65 } : Room) (kPre D H [.ref x1]) (kQi (fun (r : Int) H' => (r = ((L.length - 1 : Nat) : Int)) ∧ (kO D H' x1 0 [.ref cs, va_rf (snp), .ref hi, .ref bu]) ∧ (kDq D H' hi es L.dropLast)) (fun q : Nat => q = x1 ∨ q = hi ∨ q = es)) (0) (0) ((fun q : Nat => q = x1 ∨ q = hi ∨ q = es)) := by
  refine Met.ofW (cc := cX1_undo) (maxL := 1) (ret := (some .int)) (by decide) rfl ?_
  intro p e s m args below meth c s₁ B hml hv
  obtain ⟨rfl, hH, hK⟩ := hv
  subst hH
  have hx := B.exec
  have hb := B.bytes
  have hr := B.returns
  have hts := atoms_spec (ws := ws_ yX1_undo cX1_undo 1 (some .int)) B.pre
  have hts : ∀ w ∈ lw_all, w.before _ s = true := fun w h => hts w (List.mem_cons_of_mem _ h)
  have hown : s.vm.findClass RX1 = some m.cls := findClass_of_methodNamed B.named
  have hlk := B.notSynchronized
  have hS : va_S (fun q : Nat => q = x1 ∨ q = hi ∨ q = es) s.heap s.heap [] := va_S.rf
  have hB : ∀ q, (fun q : Nat => q = x1 ∨ q = hi ∨ q = es) q → kBase D ≤ q := fun q h => by (rcases h with h | h | h; (rw [h]; exact bs_x1); (rw [h]; exact bs_hi); (rw [h]; exact bs_es))
  have hl := lv_entry ([.ref x1]) (n := 1) (Nat.le_of_ble_eq_true rfl)
  rw [lg_entry_eq]
  generalize (lg_sl ([.ref x1]) ++ List.replicate (1 - (lg_sl ([.ref x1])).length) Slot.unset).toArray = ls at hl ⊢
  have hl : lv_has ls 1 [(0, .ref x1)] := hl
  have hLp : 0 < L.length := List.length_pos_iff.mpr hL0
  obtain ⟨h, tl, gd, hDo, hDa, hh17, htl, hL5, hgd⟩ := id hP_kDq_hi
  have htl17 : tl < 17 := by omega
  have hd9 := hK.dis
  have ne_hi_es : hi ≠ es := kOA_ne hd9 hDo hDa (by decide) (by decide)
  have ne_x1_hi : x1 ≠ hi := kO_ne hd9 hO_x1 hDo (by decide) (by decide) (by decide)
  have ne_x1_es : x1 ≠ es := kOA_ne hd9 hO_x1 hDa (by decide) (by decide)
  have hcsx : cs ≠ x1 := kO_ne hd9 hO_cs hO_x1 (by decide) (by decide) (by decide)
  have hcsh : cs ≠ hi := kO_ne hd9 hO_cs hDo (by decide) (by decide) (by decide)
  have hcse : cs ≠ es := kOA_ne hd9 hO_cs hDa (by decide) (by decide)
  refine lv_aload_n hx hb dX1_undo_0 rfl (lv_at hl 0 rfl) ?_
  refine kx_get (v := .ref hi) (C := RX1) (T := TX1) (N := 4) hx hb hts in_X1 hown hK hO_x1 rfl 2 (by decide) q231 (fun _ h9 => h9) rfl dX1_undo_1 ?_
  refine kx_cb0 (va_runV (As := []) (rest := []) ⟨hx, hb, hml, hown, hts⟩ (m_J3_isEmpty l D s.heap hi es h tl hDo hh17 htl17) (cwV 0 hts (lw_V q2210 q2211 q2212 q84 q2213) rfl rfl rfl (by decide +kernel) ⟨Nat.le_of_ble_eq_true rfl, Nat.le_of_ble_eq_true rfl⟩) (kx_pv hK hS hB (kx_rc hK hDo (C := RJ3) (T := TJ3) (N := 3) rfl)) rfl rfl hl.1 rfl (lv_room (Nat.le_of_ble_eq_true rfl)) dX1_undo_4 ⟨by first | exact Nat.le_of_ble_eq_true rfl | omega | (show _ ≤ _; omega) | (dsimp only [headSpec]; omega), by first | exact Nat.le_of_ble_eq_true rfl | omega | (show _ ≤ _; omega) | (dsimp only [headSpec]; omega)⟩) hS (fun z_4 locs_1 hz_3 hS_2 => ?_)
  subst z_4
  refine kx_ifnz (tgt := 14) hx hb dX1_undo_7 (by decide) (fun c_7_5 => ?_) (fun c_7_5 => ?_)
  · -- taken at 7
    have c_7_5 := of_decide_eq_true c_7_5
    exfalso; omega
  · -- not taken at 7
    have c_7_5 := of_decide_eq_false c_7_5
    refine kx_iconst hx hb dX1_undo_10 ?_
    refine lv_goto (tgt := 15) hx hb dX1_undo_11 (by decide) ?_
    refine kx_cv0 (va_runS (As := [.int (kI (1))]) (rest := []) ⟨hx, hb, hml, hown, hts⟩ (m_X1_checkState l D s.heap   ) (va_cwS 1 hts (lw_S q1844 q1845 q79 q1846) rfl rfl rfl (by decide +kernel) ⟨Nat.le_of_ble_eq_true rfl, Nat.le_of_ble_eq_true rfl⟩) (kx_ps hK hS_2 hB) rfl rfl hl.1 rfl (lv_room (Nat.le_of_ble_eq_true rfl)) dX1_undo_15 ⟨by first | exact Nat.le_of_ble_eq_true rfl | omega | (show _ ≤ _; omega) | (dsimp only [headSpec]; omega), by first | exact Nat.le_of_ble_eq_true rfl | omega | (show _ ≤ _; omega) | (dsimp only [headSpec]; omega)⟩) hS_2 (fun locs_6 hz_8 hS_7 => ?_)
    refine lv_aload_n hx hb dX1_undo_18 rfl (lv_at hl 0 rfl) ?_
    refine lv_aload_n hx hb dX1_undo_19 rfl (lv_at hl 0 rfl) ?_
    refine kx_get (v := .ref hi) (C := RX1) (T := TX1) (N := 4) hx hb hts in_X1 hown hK hO_x1 rfl 2 (by decide) q231 (fun _ h9 => h9) rfl dX1_undo_20 ?_
    refine kx_cr (va_runV (As := []) (rest := [.ref x1]) ⟨hx, hb, hml, hown, hts⟩ (m_J3_removeLast l D s.heap hi es h tl gd cs hDo hDa hh17 htl17 (by first | assumption | omega) (by first | assumption | omega) (by first | assumption | omega) ((by rw [← hcs, ← hgd (L.length - 1) (by omega)]; congr 1; omega))) (cwV 0 hts (lw_V q2214 q2215 q2216 q84 q2217) rfl rfl rfl (by decide +kernel) ⟨Nat.le_of_ble_eq_true rfl, Nat.le_of_ble_eq_true rfl⟩) (kx_pv hK hS_7 hB (kx_rc hK hDo (C := RJ3) (T := TJ3) (N := 3) rfl)) rfl rfl hl.1 rfl (lv_room (Nat.le_of_ble_eq_true rfl)) dX1_undo_23 ⟨by first | exact Nat.le_of_ble_eq_true rfl | omega | (show _ ≤ _; omega) | (dsimp only [headSpec]; omega), by first | exact Nat.le_of_ble_eq_true rfl | omega | (show _ ≤ _; omega) | (dsimp only [headSpec]; omega)⟩) hS_7 (fun q _ h => Or.inr h) (fun q h => Or.inr h) (fun z_15 H_13 locs_10 hz_12 hF_14 hS_11 => ?_)
    have hzf_16 := hF_14.1
    refine W.widen (k := 0) (n := 0) (Nat.le_of_ble_eq_true rfl) (Nat.le_of_ble_eq_true rfl) ?_
    obtain ⟨hv_17, ho_18, ho_19⟩ := hz_12
    subst z_15
    have h_20 := hO_cs.fr hF_14 (fun h => by (try dsimp only at h); (try simp only [kNW] at h); omega)
    refine kx_castS hx hb hts hown q135 hK h_20 rfl dX1_undo_26 ?_
    have h_21 := hO_x1.fr hF_14 (fun h => by (try dsimp only at h); (try simp only [kNW] at h); omega)
    refine kx_put (v := .ref cs) (C := RX1) (T := TX1) (N := 4) hx hb hts in_X1 hown hK h_21 rfl 0 (by decide) tyX1 tyX1_ok nmX1 hS_11 (by first | rfl | exact Or.inl rfl | exact Or.inr rfl | exact Or.inr (Or.inl rfl) | exact Or.inr (Or.inr rfl) | exact Or.inr (Or.inr (Or.inl rfl)) | exact Or.inr (Or.inr (Or.inr rfl)) | ((try dsimp only); (try simp only [kNW]); omega)) q229 (fun _ h9 => h9) rfl rfl rfl rfl (Nat.le_of_ble_eq_true rfl) dX1_undo_29 (fun H_24 locs_25 hO_23 hU_22 hS_26 => ?_)
    have hO_23 : kO D H_24 x1 0 [.ref cs, va_rf (snp), .ref hi, .ref bu] := hO_23
    have hzu_27 := hU_22.1
    have h_28 := ho_18.up hU_22 (by first | assumption | exact Ne.symm (by assumption)  | omega | (have h9 := ho_18.lt; omega))
    have h_29 := ho_19.up hU_22 (by first | assumption | exact Ne.symm (by assumption)  | omega | (have h9 := ho_19.lt; omega))
    have hdq9 : kDq D H_24 hi es L.dropLast := kDq.pop h_28 h_29 hh17 htl hL0 hL5 hgd
    refine lv_aload_n hx hb dX1_undo_32 rfl (lv_at hl 0 rfl) ?_
    refine kx_get (v := .ref hi) (C := RX1) (T := TX1) (N := 4) hx hb hts in_X1 hown hK hO_23 rfl 2 (by decide) q231 (fun _ h9 => h9) rfl dX1_undo_33 ?_
    refine kx_ci0 (va_runV (As := []) (rest := []) ⟨hx, hb, hml, hown, hts⟩ (m_J3_size l D H_24 hi es h ((tl + 16) % 17) (kupq gd ((tl + 16) % 17) none) h_28 h_29 hh17 ((by omega))) (cwV 0 hts (lw_V q251 q252 q253 q84 q254) rfl rfl rfl (by decide +kernel) ⟨Nat.le_of_ble_eq_true rfl, Nat.le_of_ble_eq_true rfl⟩) (kx_pv hK hS_26 hB (kx_rc hK h_28 (C := RJ3) (T := TJ3) (N := 3) rfl)) rfl rfl hl.1 rfl (lv_room (Nat.le_of_ble_eq_true rfl)) dX1_undo_36 ⟨by first | exact Nat.le_of_ble_eq_true rfl | omega | (show _ ≤ _; omega) | (dsimp only [headSpec]; omega), by first | exact Nat.le_of_ble_eq_true rfl | omega | (show _ ≤ _; omega) | (dsimp only [headSpec]; omega)⟩) hS_26 (fun z_33 locs_30 hz_32 hS_31 => ?_)
    subst z_33
    refine kx_eqi (((L.length - 1 : Nat) : Int)) (by omega) ?_
    exact kx_iret (z := ((L.length - 1 : Nat) : Int)) hx hb hr hlk (⟨by rfl, hO_23, hdq9⟩) hS_31 dX1_undo_39

set_option maxHeartbeats 4000000 in
set_option maxRecDepth 100000 in
theorem m_X1_takeSnapshot (l : Launch) (D : kG) (H : Heap) (x1 : Nat) (snp : Option Nat) (hi : Nat) (bu : Nat) (st : Nat) (la : Nat) (ea : Nat) (F : Fts) (S : Ls) (gap : Int) (hO_x1 : kO D H x1 0 [.ref st, va_rf (snp), .ref hi, .ref bu]) (hP_kState_st : kState D H st la ea gap S F) (hok : LsOK S gap) (hnx : ∀ q, kOwn D st la ea F S.length q → q ≠ x1) (bs_x1 : kBase D ≤ x1) : Met l yX1_takeSnapshot (ws_ yX1_takeSnapshot cX1_takeSnapshot 1 (some .int)) ({ frames := 6, cells := 42, slots := 1101, locals := 139 } : Room) (kPre D H [.ref x1]) (kQi (fun (r : Int) H' => ∃ (cr : Nat) (la2 : Nat) (ea2 : Nat) (F2 : Fts), (r = ((S.length : Nat) : Int)) ∧ (kO D H' x1 0 [.ref st, .ref cr, .ref hi, .ref bu]) ∧ (kState D H' st la ea gap S F) ∧ (kState D H' cr la2 ea2 gap S F2) ∧ (∀ q, kOwn D cr la2 ea2 F2 S.length q → H.size ≤ q)) (fun q : Nat => q = x1 ∨ H.size ≤ q)) (42) (1101) ((fun q : Nat => q = x1 ∨ H.size ≤ q)) := by
  refine Met.ofW (cc := cX1_takeSnapshot) (maxL := 1) (ret := (some .int)) (by decide) rfl ?_
  intro p e s m args below meth c s₁ B hml hv
  obtain ⟨rfl, hH, hK⟩ := hv
  subst hH
  have hx := B.exec
  have hb := B.bytes
  have hr := B.returns
  have hts := atoms_spec (ws := ws_ yX1_takeSnapshot cX1_takeSnapshot 1 (some .int)) B.pre
  have hts : ∀ w ∈ lw_all, w.before _ s = true := fun w h => hts w (List.mem_cons_of_mem _ h)
  have hown : s.vm.findClass RX1 = some m.cls := findClass_of_methodNamed B.named
  have hlk := B.notSynchronized
  have hS : va_S (fun q : Nat => q = x1 ∨ s.heap.size ≤ q) s.heap s.heap [] := va_S.rf
  have hB : ∀ q, (fun q : Nat => q = x1 ∨ s.heap.size ≤ q) q → kBase D ≤ q := fun q h => by (have h2 := hK.size; rcases h with h | h; (rw [h]; exact bs_x1); omega)
  have hl := lv_entry ([.ref x1]) (n := 1) (Nat.le_of_ble_eq_true rfl)
  rw [lg_entry_eq]
  generalize (lg_sl ([.ref x1]) ++ List.replicate (1 - (lg_sl ([.ref x1])).length) Slot.unset).toArray = ls at hl ⊢
  have hl : lv_has ls 1 [(0, .ref x1)] := hl
  have hL8 := hok.1
  have hks9 := hK.size
  have hltx1 := hO_x1.lt
  have hd9 := hK.dis
  have hx9 : ¬ kBase D ≤ D.2.2.2 2 := hK.tE.out
  obtain ⟨⟨hO_st, mc, hO_la⟩, hLs9, hLn9, hF9, hDs9, hb1, hb2, hb3⟩ := id hP_kState_st
  have hnst := hnx st (Or.inl rfl)
  have hnla := hnx la (Or.inr (Or.inl rfl))
  refine lv_aload_n hx hb dX1_takeSnapshot_0 rfl (lv_at hl 0 rfl) ?_
  refine lv_aload_n hx hb dX1_takeSnapshot_1 rfl (lv_at hl 0 rfl) ?_
  refine kx_get (v := .ref st) (C := RX1) (T := TX1) (N := 4) hx hb hts in_X1 hown hK hO_x1 rfl 0 (by decide) q229 (fun _ h9 => h9) rfl dX1_takeSnapshot_2 ?_
  refine kx_cr (va_runV (As := []) (rest := [.ref x1]) ⟨hx, hb, hml, hown, hts⟩ (m_X2_copy l D s.heap st la ea F S gap hP_kState_st (by first | assumption | omega)) (cwV 0 hts (lw_V q272 q273 q274 q80 q275) rfl rfl rfl (by decide +kernel) ⟨Nat.le_of_ble_eq_true rfl, Nat.le_of_ble_eq_true rfl⟩) (kx_pv hK hS hB (kx_rc hK hO_st (C := RX2) (T := TX2) (N := 2) rfl)) rfl rfl hl.1 rfl (lv_room (Nat.le_of_ble_eq_true rfl)) dX1_takeSnapshot_5 ⟨by first | exact Nat.le_of_ble_eq_true rfl | omega | (show _ ≤ _; omega) | (dsimp only [headSpec]; omega), by first | exact Nat.le_of_ble_eq_true rfl | omega | (show _ ≤ _; omega) | (dsimp only [headSpec]; omega)⟩) hS (fun q _ h => by have h9 := hS.1; (try dsimp only at h); (try dsimp only); (try simp only [kNW] at h); (try simp only [kNW]); omega) (fun q h => by have h9 := hS.1; (try dsimp only at h); (try dsimp only); (try simp only [kNW] at h); (try simp only [kNW]); omega) (fun cr9 H_4 locs_1 hz_3 hF_5 hS_2 => ?_)
  have hzf_6 := hF_5.1
  have hF_5 := hF_5.nw
  refine W.widen (k := 42) (n := 1101) (Nat.le_of_ble_eq_true rfl) (Nat.le_of_ble_eq_true rfl) ?_
  obtain ⟨la9, ea9, F9, ho_10, hcn9⟩ := hz_3
  have h_11 := hO_x1.ex hF_5
  refine kx_put (v := .ref cr9) (C := RX1) (T := TX1) (N := 4) hx hb hts in_X1 hown hK h_11 rfl 1 (by decide) tyX1 tyX1_ok nmX1 hS_2 (by first | rfl | exact Or.inl rfl | exact Or.inr rfl | exact Or.inr (Or.inl rfl) | exact Or.inr (Or.inr rfl) | exact Or.inr (Or.inr (Or.inl rfl)) | exact Or.inr (Or.inr (Or.inr rfl)) | ((try dsimp only); (try simp only [kNW]); omega)) q230 (fun _ h9 => h9) rfl rfl rfl rfl (Nat.le_of_ble_eq_true rfl) dX1_takeSnapshot_8 (fun H_14 locs_15 hO_13 hU_12 hS_16 => ?_)
  have hO_13 : kO D H_14 x1 0 [.ref st, .ref cr9, .ref hi, .ref bu] := hO_13
  have hzu_17 := hU_12.1
  have hSx : kState D H_14 st la ea gap S F := (hP_kState_st.ex hF_5).fr hd9 (kUp.fr hU_12) (fun x hx => by rw [show x = x1 from hx]; exact Or.inr ⟨Or.inl ⟨0, _, by decide, by decide, by decide, hO_x1.ex hF_5⟩, fun w => hnx _ w rfl⟩)
  have hCx : kState D H_14 cr9 la9 ea9 gap S F9 := ho_10.fr hd9 (kUp.fr hU_12) (fun x hx => by rw [show x = x1 from hx]; exact Or.inr ⟨Or.inl ⟨0, _, by decide, by decide, by decide, hO_x1.ex hF_5⟩, fun w => by have h9 := hcn9 _ w; omega⟩)
  have hd9z := hK.dis
  have hx9z : ¬ kBase D ≤ D.2.2.2 2 := hK.tE.out
  obtain ⟨⟨hO_stz, mcz, hO_laz⟩, hLs9z, hLn9z, hF9z, hDs9z, hb1z, hb2z, hb3z⟩ := id hSx
  refine lv_aload_n hx hb dX1_takeSnapshot_11 rfl (lv_at hl 0 rfl) ?_
  refine kx_get (v := .ref st) (C := RX1) (T := TX1) (N := 4) hx hb hts in_X1 hown hK hO_13 rfl 0 (by decide) q229 (fun _ h9 => h9) rfl dX1_takeSnapshot_12 ?_
  refine kx_get (v := .ref la) (C := RX2) (T := TX2) (N := 2) hx hb hts in_X2 hown hK hO_stz rfl 0 (by decide) q168 (fun _ h9 => h9) rfl dX1_takeSnapshot_15 ?_
  refine kx_cFi0 (va_runF (C := RJ2) (As := []) (rest := []) (hK.at (ci := 9) rfl) ⟨hx, hb, hml, hown, hts⟩ (m_J2_size l D H_14 la mcz ea S.length hO_laz ) (va_cwF (x := ({ cls := "java/util/List", name := "size", desc := "()I" } : Jvm.MethodName)) 0 hts (lw_F q1267 q283 q285 q83 q287) rfl rfl rfl (hK.fw (by decide)) (by decide +kernel) ⟨Nat.le_of_ble_eq_true rfl, Nat.le_of_ble_eq_true rfl⟩) (kx_pv hK hS_16 hB (kx_rc hK hO_laz (C := RJ2) (T := TJ2) (N := 3) rfl)) rfl rfl hl.1 rfl (lv_room (Nat.le_of_ble_eq_true rfl)) dX1_takeSnapshot_18 ⟨by first | exact Nat.le_of_ble_eq_true rfl | omega | (show _ ≤ _; omega) | (dsimp only [headSpec]; omega), by first | exact Nat.le_of_ble_eq_true rfl | omega | (show _ ≤ _; omega) | (dsimp only [headSpec]; omega)⟩) hS_16 (fun z_21 locs_18 hz_20 hS_19 => ?_)
  subst z_21
  exact kx_iret (z := ((S.length : Nat) : Int)) hx hb hr hlk (⟨cr9, la9, ea9, F9, by rfl, hO_13, hSx, hCx, by exact hcn9⟩) hS_19 dX1_takeSnapshot_23

