/-! MATH 60: the saved states, as addresses -/
def kDq (D : kG) (H : Heap) (hi es : Nat) (L : List Nat) : Prop := ∃ (h tl : Nat) (g : Nat → Option Nat), kO D H hi 10 [.ref es, .int (kI ((h : Nat) : Int)), .int (kI ((tl : Nat) : Int))] ∧ kAq D H es 4 17 g ∧ h < 17 ∧ tl = (h + L.length) % 17 ∧ L.length ≤ 5 ∧ ∀ i, i < L.length → g ((h + i) % 17) = some (L.getD i 0)
theorem kDq.fr {D : kG} {H H1 : Heap} {hi es : Nat} {L : List Nat} {A : Nat → Prop} (q : kDq D H hi es L) (f : kFr A H H1) (n : ¬ A hi ∧ ¬ A es) : kDq D H1 hi es L := by
  obtain ⟨h, tl, g, h1, h2, h3⟩ := q
  exact ⟨h, tl, g, h1.fr f n.1, h2.fr f n.2, h3⟩
theorem kDq.ex {D : kG} {H H1 : Heap} {hi es : Nat} {L : List Nat} (q : kDq D H hi es L) (f : kEx H H1) : kDq D H1 hi es L := by
  obtain ⟨h, tl, g, h1, h2, h3⟩ := q
  exact ⟨h, tl, g, h1.ex f, h2.ex f, h3⟩
def pushL (L : List Nat) (a : Nat) : List Nat := (if L.length = 5 then L.drop 1 else L) ++ [a]
theorem getD_app_l (L : List Nat) (a : Nat) {i : Nat} (h : i < L.length) : (L ++ [a]).getD i 0 = L.getD i 0 := by
  rw [List.getD_eq_getElem?_getD, List.getD_eq_getElem?_getD, List.getElem?_append_left h]
theorem getD_app_e (L : List Nat) (a : Nat) : (L ++ [a]).getD L.length 0 = a := by
  rw [List.getD_eq_getElem?_getD, List.getElem?_append_right (Nat.le_refl _), Nat.sub_self]
  rfl
theorem getD_drop1 (L : List Nat) (i : Nat) : (L.drop 1).getD i 0 = L.getD (i + 1) 0 := by
  rw [List.getD_eq_getElem?_getD, List.getD_eq_getElem?_getD, List.getElem?_drop, Nat.add_comm]
theorem kDq.push {D : kG} {H : Heap} {hi es h tl a : Nat} {g : Nat → Option Nat} {L : List Nat} (h1 : kO D H hi 10 [.ref es, .int (kI ((h : Nat) : Int)), .int (kI (((tl + 1) % 17 : Nat) : Int))]) (h2 : kAq D H es 4 17 (kupq g tl (some a))) (hh : h < 17) (ht : tl = (h + L.length) % 17) (h4 : L.length ≤ 4) (hg : ∀ i, i < L.length → g ((h + i) % 17) = some (L.getD i 0)) : kDq D H hi es (L ++ [a]) := by
  refine ⟨h, (tl + 1) % 17, _, h1, h2, hh, by simp; omega, by simp; omega, fun i hi' => ?_⟩
  have hl : i < L.length + 1 := by simpa using hi'
  by_cases e : i = L.length
  · subst e
    rw [getD_app_e, ← ht, kupq_self]
  · rw [getD_app_l L a (by omega), kupq_ne (by omega)]
    exact hg i (by omega)
theorem dq_drop {h : Nat} {g : Nat → Option Nat} {L : List Nat} (hh : h < 17) (h5 : L.length = 5) (hg : ∀ i, i < L.length → g ((h + i) % 17) = some (L.getD i 0)) : ∀ i, i < (L.drop 1).length → kupq g h none (((h + 1) % 17 + i) % 17) = some ((L.drop 1).getD i 0) := by
  intro i hi
  have hl : i < 4 := by rw [List.length_drop] at hi; omega
  rw [getD_drop1, kupq_ne (by omega), show ((h + 1) % 17 + i) % 17 = (h + (i + 1)) % 17 by omega]
  exact hg (i + 1) (by omega)
theorem kDq.pop {D : kG} {H : Heap} {hi es h tl : Nat} {g : Nat → Option Nat} {L : List Nat} (h1 : kO D H hi 10 [.ref es, .int (kI ((h : Nat) : Int)), .int (kI (((tl + 16) % 17 : Nat) : Int))]) (h2 : kAq D H es 4 17 (kupq g ((tl + 16) % 17) none)) (hh : h < 17) (ht : tl = (h + L.length) % 17) (h0 : L ≠ []) (h5 : L.length ≤ 5) (hg : ∀ i, i < L.length → g ((h + i) % 17) = some (L.getD i 0)) : kDq D H hi es L.dropLast := by
  have hp : 0 < L.length := List.length_pos_iff.mpr h0
  refine ⟨h, (tl + 16) % 17, _, h1, h2, hh, by rw [List.length_dropLast]; omega, by rw [List.length_dropLast]; omega, fun i hi' => ?_⟩
  rw [List.length_dropLast] at hi'
  rw [kupq_ne (by omega), hg i (by omega)]
  rw [List.getD_eq_getElem?_getD, List.getD_eq_getElem?_getD, List.getElem?_dropLast, if_pos (by omega)]
set_option maxHeartbeats 4000000 in
set_option maxRecDepth 100000 in
theorem m_X1_save (l : Launch) (D : kG) (H : Heap) (x1 : Nat) (snp : Option Nat) (hi : Nat) (bu : Nat) (es : Nat) (L : List Nat) (st : Nat) (la : Nat) (ea : Nat) (F : Fts) (S : Ls) (gap : Int) (hO_x1 : kO D H x1 0 [.ref st, va_rf (snp), .ref hi, .ref bu]) (hP_kState_st : kState D H st la ea gap S F) (hP_kDq_hi : kDq D H hi es L) (hok : LsOK S gap) (hnx : ∀ q, kOwn D st la ea F S.length q → q ≠ hi ∧ q ≠ es ∧ q ≠ x1) (bs_hi : kBase D ≤ hi) (bs_es : kBase D ≤ es) (ne_x1 : x1 ≠ hi ∧ x1 ≠ es) : Met l yX1_save (ws_ yX1_save cX1_save 1 none) ({ frames := 6, cells := 42, slots := 1101, locals := 139 } : Room) (kPre D H [.ref x1]) (kQv (fun H' => ∃ (cr : Nat) (la2 : Nat) (ea2 : Nat) (F2 : Fts), (kO D H' x1 0 [.ref st, va_rf (snp), .ref hi, .ref bu]) ∧ (kState D H' st la ea gap S F) ∧ (kState D H' cr la2 ea2 gap S F2) ∧ (kDq D H' hi es ((pushL L cr))) ∧ (∀ q, kOwn D cr la2 ea2 F2 S.length q → H.size ≤ q)) (fun q : Nat => q = hi ∨ q = es ∨ H.size ≤ q)) (42) (1101) ((fun q : Nat => q = hi ∨ q = es ∨ H.size ≤ q)) := by
  refine Met.ofW (cc := cX1_save) (maxL := 1) (ret := none) (by decide) rfl ?_
  intro p e s m args below meth c s₁ B hml hv
  obtain ⟨rfl, hH, hK⟩ := hv
  subst hH
  have hx := B.exec
  have hb := B.bytes
  have hr := B.returns
  have hts := atoms_spec (ws := ws_ yX1_save cX1_save 1 none) B.pre
  have hts : ∀ w ∈ lw_all, w.before _ s = true := fun w h => hts w (List.mem_cons_of_mem _ h)
  have hown : s.vm.findClass RX1 = some m.cls := findClass_of_methodNamed B.named
  have hlk := B.notSynchronized
  have hS : va_S (fun q : Nat => q = hi ∨ q = es ∨ s.heap.size ≤ q) s.heap s.heap [] := va_S.rf
  have hB : ∀ q, (fun q : Nat => q = hi ∨ q = es ∨ s.heap.size ≤ q) q → kBase D ≤ q := fun q h => by (have h2 := hK.size; rcases h with h | h | h; (rw [h]; exact bs_hi); (rw [h]; exact bs_es); omega)
  have hl := lv_entry ([.ref x1]) (n := 1) (Nat.le_of_ble_eq_true rfl)
  rw [lg_entry_eq]
  generalize (lg_sl ([.ref x1]) ++ List.replicate (1 - (lg_sl ([.ref x1])).length) Slot.unset).toArray = ls at hl ⊢
  have hl : lv_has ls 1 [(0, .ref x1)] := hl
  have hL8 := hok.1
  have hd9 := hK.dis
  have hx9 : ¬ kBase D ≤ D.2.2.2 2 := hK.tE.out
  obtain ⟨⟨hO_st, mc, hO_la⟩, hLs9, hLn9, hF9, hDs9, hb1, hb2, hb3⟩ := id hP_kState_st
  obtain ⟨h, tl, gd, hDo, hDa, hh17, htl, hL5, hgd⟩ := id hP_kDq_hi
  have htl17 : tl < 17 := by omega
  have ne_hi_es : hi ≠ es := kOA_ne hd9 hDo hDa (by decide) (by decide)
  have hlthi := hDo.lt
  have hltes := hDa.lt
  have hltx1 := hO_x1.lt
  have hnst := hnx st (Or.inl rfl)
  refine lv_aload_n hx hb dX1_save_0 rfl (lv_at hl 0 rfl) ?_
  refine kx_get (v := .ref hi) (C := RX1) (T := TX1) (N := 4) hx hb hts in_X1 hown hK hO_x1 rfl 2 (by decide) q231 (fun _ h9 => h9) rfl dX1_save_1 ?_
  refine kx_ci0 (va_runV (As := []) (rest := []) ⟨hx, hb, hml, hown, hts⟩ (m_J3_size l D s.heap hi es h tl gd hDo hDa hh17 htl17) (cwV 0 hts (lw_V q251 q252 q253 q84 q254) rfl rfl rfl (by decide +kernel) ⟨Nat.le_of_ble_eq_true rfl, Nat.le_of_ble_eq_true rfl⟩) (kx_pv hK hS hB (kx_rc hK hDo (C := RJ3) (T := TJ3) (N := 3) rfl)) rfl rfl hl.1 rfl (lv_room (Nat.le_of_ble_eq_true rfl)) dX1_save_4 ⟨by first | exact Nat.le_of_ble_eq_true rfl | omega | (show _ ≤ _; omega) | (dsimp only [headSpec]; omega), by first | exact Nat.le_of_ble_eq_true rfl | omega | (show _ ≤ _; omega) | (dsimp only [headSpec]; omega)⟩) hS (fun z_4 locs_1 hz_3 hS_2 => ?_)
  subst z_4
  refine kx_eqi (((L.length : Nat) : Int)) (by omega) ?_
  refine kx_iconst hx hb dX1_save_7 ?_
  refine kx_icmp_ne (x := ((L.length : Nat) : Int)) (y := 5) (tgt := 19) hx hb dX1_save_8 (by decide) (by omega) (by omega) (by omega) (by omega) (fun c_8_5 => ?_) (fun c_8_5 => ?_)
  · -- taken at 8
    refine lv_aload_n hx hb dX1_save_19 rfl (lv_at hl 0 rfl) ?_
    refine kx_get (v := .ref hi) (C := RX1) (T := TX1) (N := 4) hx hb hts in_X1 hown hK hO_x1 rfl 2 (by decide) q231 (fun _ h9 => h9) rfl dX1_save_20 ?_
    refine lv_aload_n hx hb dX1_save_23 rfl (lv_at hl 0 rfl) ?_
    refine kx_get (v := .ref st) (C := RX1) (T := TX1) (N := 4) hx hb hts in_X1 hown hK hO_x1 rfl 0 (by decide) q229 (fun _ h9 => h9) rfl dX1_save_24 ?_
    refine kx_cr (va_runV (As := []) (rest := [.ref hi]) ⟨hx, hb, hml, hown, hts⟩ (m_X2_copy l D s.heap st la ea F S gap hP_kState_st (by first | assumption | omega)) (cwV 0 hts (lw_V q272 q273 q274 q80 q275) rfl rfl rfl (by decide +kernel) ⟨Nat.le_of_ble_eq_true rfl, Nat.le_of_ble_eq_true rfl⟩) (kx_pv hK hS_2 hB (kx_rc hK hO_st (C := RX2) (T := TX2) (N := 2) rfl)) rfl rfl hl.1 rfl (lv_room (Nat.le_of_ble_eq_true rfl)) dX1_save_27 ⟨by first | exact Nat.le_of_ble_eq_true rfl | omega | (show _ ≤ _; omega) | (dsimp only [headSpec]; omega), by first | exact Nat.le_of_ble_eq_true rfl | omega | (show _ ≤ _; omega) | (dsimp only [headSpec]; omega)⟩) hS_2 (fun q _ h => by have h9 := hS_2.1; (try dsimp only at h); (try dsimp only); (try simp only [kNW] at h); (try simp only [kNW]); omega) (fun q h => by have h9 := hS_2.1; (try dsimp only at h); (try dsimp only); (try simp only [kNW] at h); (try simp only [kNW]); omega) (fun cr9 H_9 locs_6 hz_8 hF_10 hS_7 => ?_)
    have hzf_11 := hF_10.1
    have hF_10 := hF_10.nw
    refine W.widen (k := 42) (n := 1101) (Nat.le_of_ble_eq_true rfl) (Nat.le_of_ble_eq_true rfl) ?_
    obtain ⟨la9, ea9, F9, ho_15, hcn0⟩ := hz_8
    have hcn9 : ∀ q, kOwn D cr9 la9 ea9 F9 S.length q → s.heap.size ≤ q := fun q hq => by have h9 := hcn0 q hq; omega
    have hncr9 : ∀ q, kOwn D cr9 la9 ea9 F9 S.length q → q ≠ hi ∧ q ≠ es := fun q hq => by have h9 := hcn9 q hq; omega
    have hOcr9 := (ho_15).1.1
    have h_16 := hDo.ex hF_10
    have htyh : kTy D H_9 hi := Or.inl ⟨10, _, by decide, by decide, by decide, h_16⟩
    have h_17 := hDa.ex hF_10
    have htye : kTy D H_9 es := Or.inr ⟨4, _, by decide, h_17⟩
    refine kx_cv (va_runV (As := [.ref cr9]) (rest := []) ⟨hx, hb, hml, hown, hts⟩ (m_J3_addLast l D H_9 hi es h tl gd cr9 ([.ref la9, .int (kI (gap))]) h_16 h_17 hOcr9 ((by omega)) htl17 (by first | assumption | omega) (by first | assumption | omega) (by first | assumption | omega) ((by omega))) (cwV 1 hts (lw_V q440 q441 q442 q84 q443) rfl rfl rfl (by decide +kernel) ⟨Nat.le_of_ble_eq_true rfl, Nat.le_of_ble_eq_true rfl⟩) (kx_pv hK hS_7 hB (kx_rc hK h_16 (C := RJ3) (T := TJ3) (N := 3) rfl)) rfl rfl hl.1 rfl (lv_room (Nat.le_of_ble_eq_true rfl)) dX1_save_30 ⟨by first | exact Nat.le_of_ble_eq_true rfl | omega | (show _ ≤ _; omega) | (dsimp only [headSpec]; omega), by first | exact Nat.le_of_ble_eq_true rfl | omega | (show _ ≤ _; omega) | (dsimp only [headSpec]; omega)⟩) hS_7 (fun q _ h => by have h9 := hS_7.1; (try dsimp only at h); (try dsimp only); (try simp only [kNW] at h); (try simp only [kNW]); omega) (fun q h => by have h9 := hS_7.1; (try dsimp only at h); (try dsimp only); (try simp only [kNW] at h); (try simp only [kNW]); omega) (fun H_21 locs_18 hz_20 hF_22 hS_19 => ?_)
    have hzf_24 := hF_22.1
    refine W.widen (k := 42) (n := 1101) (Nat.le_of_ble_eq_true rfl) (Nat.le_of_ble_eq_true rfl) ?_
    obtain ⟨ho_25, ho_26⟩ := hz_20
    have hdq9 : kDq D H_21 hi es (pushL L cr9) := by unfold pushL; rw [if_neg (by omega)]; exact kDq.push ho_25 ho_26 hh17 htl (by omega) hgd
    have h_27 := hO_x1.ex hF_10
    have h_28 := h_27.fr hF_22 (fun h => by rcases h with h | h <;> omega)
    have h_29 := hP_kState_st.ex hF_10
    have h_30 := h_29.fr hd9 hF_22 (fun x hx => by rcases hx with z | z; (rw [show x = hi from z]; exact Or.inr ⟨htyh, fun w => (hnx _ w).1 rfl⟩); (rw [show x = es from z]; exact Or.inr ⟨htye, fun w => (hnx _ w).2.1 rfl⟩))
    have h_31 := ho_15.fr hd9 hF_22 (fun x hx => by rcases hx with z | z; (rw [show x = hi from z]; exact Or.inr ⟨htyh, fun w => (hncr9 _ w).1 rfl⟩); (rw [show x = es from z]; exact Or.inr ⟨htye, fun w => (hncr9 _ w).2 rfl⟩))
    exact kx_vret hx hb hr hlk (⟨cr9, la9, ea9, F9, h_28, h_30, h_31, hdq9, by exact hcn9⟩) hS_19 dX1_save_33
  · -- not taken at 8
    have h5s : L.length = 5 := by omega
    refine lv_aload_n hx hb dX1_save_11 rfl (lv_at hl 0 rfl) ?_
    refine kx_get (v := .ref hi) (C := RX1) (T := TX1) (N := 4) hx hb hts in_X1 hown hK hO_x1 rfl 2 (by decide) q231 (fun _ h9 => h9) rfl dX1_save_12 ?_
    have htyh : kTy D s.heap hi := Or.inl ⟨10, _, by decide, by decide, by decide, hDo⟩
    have htye : kTy D s.heap es := Or.inr ⟨4, _, by decide, hDa⟩
    refine kx_cr (va_runV (As := []) (rest := []) ⟨hx, hb, hml, hown, hts⟩ (m_J3_removeFirst l D s.heap hi es h tl gd ((L.getD 0 0)) hDo hDa hh17 htl17 (by first | assumption | omega) (by first | assumption | omega) (by first | assumption | omega) ((by have h9 := hgd 0 (by omega); rw [Nat.add_zero, Nat.mod_eq_of_lt hh17] at h9; exact h9))) (cwV 0 hts (lw_V q258 q259 q260 q84 q261) rfl rfl rfl (by decide +kernel) ⟨Nat.le_of_ble_eq_true rfl, Nat.le_of_ble_eq_true rfl⟩) (kx_pv hK hS_2 hB (kx_rc hK hDo (C := RJ3) (T := TJ3) (N := 3) rfl)) rfl rfl hl.1 rfl (lv_room (Nat.le_of_ble_eq_true rfl)) dX1_save_15 ⟨by first | exact Nat.le_of_ble_eq_true rfl | omega | (show _ ≤ _; omega) | (dsimp only [headSpec]; omega), by first | exact Nat.le_of_ble_eq_true rfl | omega | (show _ ≤ _; omega) | (dsimp only [headSpec]; omega)⟩) hS_2 (fun q _ h => by have h9 := hS_2.1; (try dsimp only at h); (try dsimp only); (try simp only [kNW] at h); (try simp only [kNW]); omega) (fun q h => by have h9 := hS_2.1; (try dsimp only at h); (try dsimp only); (try simp only [kNW] at h); (try simp only [kNW]); omega) (fun z_37 H_35 locs_32 hz_34 hF_36 hS_33 => ?_)
    have hzf_38 := hF_36.1
    refine W.widen (k := 0) (n := 0) (Nat.le_of_ble_eq_true rfl) (Nat.le_of_ble_eq_true rfl) ?_
    obtain ⟨hv_39, ho_40, ho_41⟩ := hz_34
    subst z_37
    refine lv_pop hx hb dX1_save_18 rfl ?_
    refine lv_aload_n hx hb dX1_save_19 rfl (lv_at hl 0 rfl) ?_
    have h_42 := hO_x1.fr hF_36 (fun h => by rcases h with h | h <;> omega)
    refine kx_get (v := .ref hi) (C := RX1) (T := TX1) (N := 4) hx hb hts in_X1 hown hK h_42 rfl 2 (by decide) q231 (fun _ h9 => h9) rfl dX1_save_20 ?_
    refine lv_aload_n hx hb dX1_save_23 rfl (lv_at hl 0 rfl) ?_
    refine kx_get (v := .ref st) (C := RX1) (T := TX1) (N := 4) hx hb hts in_X1 hown hK h_42 rfl 0 (by decide) q229 (fun _ h9 => h9) rfl dX1_save_24 ?_
    have h_43 := hP_kState_st.fr hd9 hF_36 (fun x hx => by rcases hx with z | z; (rw [show x = hi from z]; exact Or.inr ⟨htyh, fun w => (hnx _ w).1 rfl⟩); (rw [show x = es from z]; exact Or.inr ⟨htye, fun w => (hnx _ w).2.1 rfl⟩))
    have h_44 := hO_st.fr hF_36 (fun h => by rcases h with h | h <;> omega)
    refine kx_cr (va_runV (As := []) (rest := [.ref hi]) ⟨hx, hb, hml, hown, hts⟩ (m_X2_copy l D H_35 st la ea F S gap h_43 (by first | assumption | omega)) (cwV 0 hts (lw_V q272 q273 q274 q80 q275) rfl rfl rfl (by decide +kernel) ⟨Nat.le_of_ble_eq_true rfl, Nat.le_of_ble_eq_true rfl⟩) (kx_pv hK hS_33 hB (kx_rc hK h_44 (C := RX2) (T := TX2) (N := 2) rfl)) rfl rfl hl.1 rfl (lv_room (Nat.le_of_ble_eq_true rfl)) dX1_save_27 ⟨by first | exact Nat.le_of_ble_eq_true rfl | omega | (show _ ≤ _; omega) | (dsimp only [headSpec]; omega), by first | exact Nat.le_of_ble_eq_true rfl | omega | (show _ ≤ _; omega) | (dsimp only [headSpec]; omega)⟩) hS_33 (fun q _ h => by have h9 := hS_33.1; (try dsimp only at h); (try dsimp only); (try simp only [kNW] at h); (try simp only [kNW]); omega) (fun q h => by have h9 := hS_33.1; (try dsimp only at h); (try dsimp only); (try simp only [kNW] at h); (try simp only [kNW]); omega) (fun cr9 H_48 locs_45 hz_47 hF_49 hS_46 => ?_)
    have hzf_50 := hF_49.1
    have hF_49 := hF_49.nw
    refine W.widen (k := 42) (n := 1101) (Nat.le_of_ble_eq_true rfl) (Nat.le_of_ble_eq_true rfl) ?_
    obtain ⟨la9, ea9, F9, ho_54, hcn0⟩ := hz_47
    have hcn9 : ∀ q, kOwn D cr9 la9 ea9 F9 S.length q → s.heap.size ≤ q := fun q hq => by have h9 := hcn0 q hq; omega
    have hncr9 : ∀ q, kOwn D cr9 la9 ea9 F9 S.length q → q ≠ hi ∧ q ≠ es := fun q hq => by have h9 := hcn9 q hq; omega
    have hOcr9 := (ho_54).1.1
    have h_55 := ho_40.ex hF_49
    have htyh : kTy D H_48 hi := Or.inl ⟨10, _, by decide, by decide, by decide, h_55⟩
    have h_56 := ho_41.ex hF_49
    have htye : kTy D H_48 es := Or.inr ⟨4, _, by decide, h_56⟩
    refine kx_cv (va_runV (As := [.ref cr9]) (rest := []) ⟨hx, hb, hml, hown, hts⟩ (m_J3_addLast l D H_48 hi es ((h + 1) % 17) tl (kupq gd h none) cr9 ([.ref la9, .int (kI (gap))]) h_55 h_56 hOcr9 ((by omega)) htl17 (by first | assumption | omega) (by first | assumption | omega) (by first | assumption | omega) ((by omega))) (cwV 1 hts (lw_V q440 q441 q442 q84 q443) rfl rfl rfl (by decide +kernel) ⟨Nat.le_of_ble_eq_true rfl, Nat.le_of_ble_eq_true rfl⟩) (kx_pv hK hS_46 hB (kx_rc hK h_55 (C := RJ3) (T := TJ3) (N := 3) rfl)) rfl rfl hl.1 rfl (lv_room (Nat.le_of_ble_eq_true rfl)) dX1_save_30 ⟨by first | exact Nat.le_of_ble_eq_true rfl | omega | (show _ ≤ _; omega) | (dsimp only [headSpec]; omega), by first | exact Nat.le_of_ble_eq_true rfl | omega | (show _ ≤ _; omega) | (dsimp only [headSpec]; omega)⟩) hS_46 (fun q _ h => by have h9 := hS_46.1; (try dsimp only at h); (try dsimp only); (try simp only [kNW] at h); (try simp only [kNW]); omega) (fun q h => by have h9 := hS_46.1; (try dsimp only at h); (try dsimp only); (try simp only [kNW] at h); (try simp only [kNW]); omega) (fun H_60 locs_57 hz_59 hF_61 hS_58 => ?_)
    have hzf_63 := hF_61.1
    refine W.widen (k := 42) (n := 1101) (Nat.le_of_ble_eq_true rfl) (Nat.le_of_ble_eq_true rfl) ?_
    obtain ⟨ho_64, ho_65⟩ := hz_59
    have hdq9 : kDq D H_60 hi es (pushL L cr9) := by unfold pushL; rw [if_pos h5s]; exact kDq.push ho_64 ho_65 (Nat.mod_lt _ (by decide)) (by rw [List.length_drop, h5s]; omega) (by rw [List.length_drop]; omega) (dq_drop hh17 h5s hgd)
    have h_66 := h_42.ex hF_49
    have h_67 := h_66.fr hF_61 (fun h => by rcases h with h | h <;> omega)
    have h_68 := h_43.ex hF_49
    have h_69 := h_68.fr hd9 hF_61 (fun x hx => by rcases hx with z | z; (rw [show x = hi from z]; exact Or.inr ⟨htyh, fun w => (hnx _ w).1 rfl⟩); (rw [show x = es from z]; exact Or.inr ⟨htye, fun w => (hnx _ w).2.1 rfl⟩))
    have h_70 := ho_54.fr hd9 hF_61 (fun x hx => by rcases hx with z | z; (rw [show x = hi from z]; exact Or.inr ⟨htyh, fun w => (hncr9 _ w).1 rfl⟩); (rw [show x = es from z]; exact Or.inr ⟨htye, fun w => (hncr9 _ w).2 rfl⟩))
    exact kx_vret hx hb hr hlk (⟨cr9, la9, ea9, F9, h_67, h_69, h_70, hdq9, by exact hcn9⟩) hS_58 dX1_save_33

set_option maxHeartbeats 4000000 in
set_option maxRecDepth 100000 in
theorem m_X1_begin (l : Launch) (D : kG) (H : Heap) (x1 : Nat) (snp : Option Nat) (hi : Nat) (bu : Nat) (es : Nat) (L : List Nat) (st : Nat) (la : Nat) (ea : Nat) (F : Fts) (S : Ls) (gap : Int) (lv : Int) (x : Int) (hO_x1 : kO D H x1 0 [.ref st, va_rf (snp), .ref hi, .ref bu]) (hP_kState_st : kState D H st la ea gap S F) (hP_kDq_hi : kDq D H hi es L) (hok : LsOK S gap) (hnx : ∀ q, kOwn D st la ea F S.length q → q ≠ hi ∧ q ≠ es ∧ q ≠ x1) (bs_hi : kBase D ≤ hi) (bs_es : kBase D ≤ es) (ne_x1 : x1 ≠ hi ∧ x1 ≠ es) (hpt : 0 ≤ x ∧ x ≤ 383) (hlv : 0 ≤ lv ∧ lv ≤ 99) (hl8 : S.length < 8) (hno : st_owner S x = -1) : Met l yX1_begin (ws_ yX1_begin cX1_begin 3 (some .int)) ({ frames := 7, cells := 47, slots := 1240, locals := 159 } : Room) (kPre D H [.ref x1, .int (kI (lv)), .int (kI (x))]) (kQi (fun (r : Int) H' => ∃ (cr : Nat) (la2 : Nat) (ea2 : Nat) (F2 : Fts) (ea3 : Nat) (F3 : Fts), (r = ((S.length : Nat) : Int)) ∧ (kO D H' x1 0 [.ref st, va_rf (snp), .ref hi, .ref bu]) ∧ (kState D H' st la ea3 gap (S ++ [w_new lv x]) F3) ∧ (kState D H' cr la2 ea2 gap S F2) ∧ (kDq D H' hi es ((pushL L cr))) ∧ (∀ q, kOwn D cr la2 ea2 F2 S.length q → H.size ≤ q) ∧ (∀ q, kOwn D st la ea3 F3 (S ++ [w_new lv x]).length q → kOwn D st la ea F S.length q ∨ H.size ≤ q) ∧ (∀ q, kOwn D cr la2 ea2 F2 S.length q → ¬ kOwn D st la ea3 F3 (S ++ [w_new lv x]).length q)) (fun q : Nat => kOwn D st la ea F S.length q ∨ q = hi ∨ q = es ∨ H.size ≤ q)) (47) (1240) ((fun q : Nat => kOwn D st la ea F S.length q ∨ q = hi ∨ q = es ∨ H.size ≤ q)) := by
  refine Met.ofW (cc := cX1_begin) (maxL := 3) (ret := (some .int)) (by decide) rfl ?_
  intro p e s m args below meth c s₁ B hml hv
  obtain ⟨rfl, hH, hK⟩ := hv
  subst hH
  have hx := B.exec
  have hb := B.bytes
  have hr := B.returns
  have hts := atoms_spec (ws := ws_ yX1_begin cX1_begin 3 (some .int)) B.pre
  have hts : ∀ w ∈ lw_all, w.before _ s = true := fun w h => hts w (List.mem_cons_of_mem _ h)
  have hown : s.vm.findClass RX1 = some m.cls := findClass_of_methodNamed B.named
  have hlk := B.notSynchronized
  have hS : va_S (fun q : Nat => kOwn D st la ea F S.length q ∨ q = hi ∨ q = es ∨ s.heap.size ≤ q) s.heap s.heap [] := va_S.rf
  have hB : ∀ q, (fun q : Nat => kOwn D st la ea F S.length q ∨ q = hi ∨ q = es ∨ s.heap.size ≤ q) q → kBase D ≤ q := fun q h => by (have h2 := hK.size; rcases h with h | h | h | h; exact hP_kState_st.ownge h; (rw [h]; exact bs_hi); (rw [h]; exact bs_es); exact Nat.le_trans h2 h)
  have hl := lv_entry ([.ref x1, .int (kI (lv)), .int (kI (x))]) (n := 3) (Nat.le_of_ble_eq_true rfl)
  rw [lg_entry_eq]
  generalize (lg_sl ([.ref x1, .int (kI (lv)), .int (kI (x))]) ++ List.replicate (3 - (lg_sl ([.ref x1, .int (kI (lv)), .int (kI (x))])).length) Slot.unset).toArray = ls at hl ⊢
  have hl : lv_has ls 3 [(0, .ref x1), (1, .int (kI (lv))), (2, .int (kI (x)))] := hl
  have hL8 := hok.1
  have hd9 := hK.dis
  have hx9 : ¬ kBase D ≤ D.2.2.2 2 := hK.tE.out
  obtain ⟨⟨hO_st, mc, hO_la⟩, hLs9, hLn9, hF9, hDs9, hb1, hb2, hb3⟩ := id hP_kState_st
  have hltx1 := hO_x1.lt
  have hlthi : hi < s.heap.size ∧ es < s.heap.size := by obtain ⟨_, _, _, z1, z2, _⟩ := hP_kDq_hi; exact ⟨z1.lt, z2.lt⟩
  have hnst := hnx st (Or.inl rfl)
  have hnla := hnx la (Or.inr (Or.inl rfl))
  refine lv_iload_n hx hb dX1_begin_0 rfl (lv_at hl 2 rfl) ?_
  refine kx_cv0 (va_runS (As := [.int (kI (x))]) (rest := []) ⟨hx, hb, hml, hown, hts⟩ (m_X1_checkPoint l D s.heap x  (by first | assumption | omega)) (va_cwS 1 hts (lw_S q1817 q1818 q79 q1819) rfl rfl rfl (by decide +kernel) ⟨Nat.le_of_ble_eq_true rfl, Nat.le_of_ble_eq_true rfl⟩) (kx_ps hK hS hB) rfl rfl hl.1 rfl (lv_room (Nat.le_of_ble_eq_true rfl)) dX1_begin_1 ⟨by first | exact Nat.le_of_ble_eq_true rfl | omega | (show _ ≤ _; omega) | (dsimp only [headSpec]; omega), by first | exact Nat.le_of_ble_eq_true rfl | omega | (show _ ≤ _; omega) | (dsimp only [headSpec]; omega)⟩) hS (fun locs_1 hz_3 hS_2 => ?_)
  refine lv_iload_n hx hb dX1_begin_4 rfl (lv_at hl 1 rfl) ?_
  refine kx_iconst hx hb dX1_begin_5 ?_
  refine kx_bipush hx hb (by decide) dX1_begin_6 ?_
  refine kx_cv0 (va_runS (As := [.int (kI (lv)), .int (kI (0)), .int (kI (99))]) (rest := []) ⟨hx, hb, hml, hown, hts⟩ (m_X1_checkRange l D s.heap lv 0 99  (by first | assumption | omega) (by first | assumption | omega) (by first | assumption | omega) (by first | assumption | omega)) (va_cwS 3 hts (lw_S q1838 q1839 q79 q1840) rfl rfl rfl (by decide +kernel) ⟨Nat.le_of_ble_eq_true rfl, Nat.le_of_ble_eq_true rfl⟩) (kx_ps hK hS_2 hB) rfl rfl hl.1 rfl (lv_room (Nat.le_of_ble_eq_true rfl)) dX1_begin_8 ⟨by first | exact Nat.le_of_ble_eq_true rfl | omega | (show _ ≤ _; omega) | (dsimp only [headSpec]; omega), by first | exact Nat.le_of_ble_eq_true rfl | omega | (show _ ≤ _; omega) | (dsimp only [headSpec]; omega)⟩) hS_2 (fun locs_5 hz_7 hS_6 => ?_)
  refine lv_aload_n hx hb dX1_begin_11 rfl (lv_at hl 0 rfl) ?_
  refine kx_get (v := .ref st) (C := RX1) (T := TX1) (N := 4) hx hb hts in_X1 hown hK hO_x1 rfl 0 (by decide) q229 (fun _ h9 => h9) rfl dX1_begin_12 ?_
  refine kx_get (v := .ref la) (C := RX2) (T := TX2) (N := 2) hx hb hts in_X2 hown hK hO_st rfl 0 (by decide) q168 (fun _ h9 => h9) rfl dX1_begin_15 ?_
  refine kx_cFi0 (va_runF (C := RJ2) (As := []) (rest := []) (hK.at (ci := 9) rfl) ⟨hx, hb, hml, hown, hts⟩ (m_J2_size l D s.heap la mc ea S.length hO_la ) (va_cwF (x := ({ cls := "java/util/List", name := "size", desc := "()I" } : Jvm.MethodName)) 0 hts (lw_F q1267 q283 q285 q83 q287) rfl rfl rfl (hK.fw (by decide)) (by decide +kernel) ⟨Nat.le_of_ble_eq_true rfl, Nat.le_of_ble_eq_true rfl⟩) (kx_pv hK hS_6 hB (kx_rc hK hO_la (C := RJ2) (T := TJ2) (N := 3) rfl)) rfl rfl hl.1 rfl (lv_room (Nat.le_of_ble_eq_true rfl)) dX1_begin_18 ⟨by first | exact Nat.le_of_ble_eq_true rfl | omega | (show _ ≤ _; omega) | (dsimp only [headSpec]; omega), by first | exact Nat.le_of_ble_eq_true rfl | omega | (show _ ≤ _; omega) | (dsimp only [headSpec]; omega)⟩) hS_6 (fun z_12 locs_9 hz_11 hS_10 => ?_)
  subst z_12
  refine kx_bipush hx hb (by decide) dX1_begin_23 ?_
  refine kx_icmp_ge (x := ((S.length : Nat) : Int)) (y := 8) (tgt := 44) hx hb dX1_begin_25 (by decide) (by omega) (by omega) (by omega) (by omega) (fun c_25_13 => ?_) (fun c_25_13 => ?_)
  · -- taken at 25
    exfalso; omega
  · -- not taken at 25
    refine lv_aload_n hx hb dX1_begin_28 rfl (lv_at hl 0 rfl) ?_
    refine kx_get (v := .ref st) (C := RX1) (T := TX1) (N := 4) hx hb hts in_X1 hown hK hO_x1 rfl 0 (by decide) q229 (fun _ h9 => h9) rfl dX1_begin_29 ?_
    refine lv_iload_n hx hb dX1_begin_32 rfl (lv_at hl 2 rfl) ?_
    refine kx_ci0 (va_runV (As := [.int (kI (x))]) (rest := []) ⟨hx, hb, hml, hown, hts⟩ (m_X2_lineAt l D s.heap st la mc ea F S gap x hO_st hO_la hLs9 hLn9 (by first | assumption | omega) (by first | assumption | omega)) (cwV 1 hts (lw_V q1843 q1656 q1657 q80 q1658) rfl rfl rfl (by decide +kernel) ⟨Nat.le_of_ble_eq_true rfl, Nat.le_of_ble_eq_true rfl⟩) (kx_pv hK hS_10 hB (kx_rc hK hO_st (C := RX2) (T := TX2) (N := 2) rfl)) rfl rfl hl.1 rfl (lv_room (Nat.le_of_ble_eq_true rfl)) dX1_begin_33 ⟨by first | exact Nat.le_of_ble_eq_true rfl | omega | (show _ ≤ _; omega) | (dsimp only [headSpec]; omega), by first | exact Nat.le_of_ble_eq_true rfl | omega | (show _ ≤ _; omega) | (dsimp only [headSpec]; omega)⟩) hS_10 (fun z_17 locs_14 hz_16 hS_15 => ?_)
    subst z_17
    refine kx_iconst hx hb dX1_begin_36 ?_
    refine kx_icmp_ne (x := st_owner S x) (y := (-1)) (tgt := 44) hx hb dX1_begin_37 (by decide) (by omega) (by omega) (by omega) (by omega) (fun c_37_18 => ?_) (fun c_37_18 => ?_)
    · -- taken at 37
      exfalso; exact absurd hno (by assumption)
    · -- not taken at 37
      refine kx_iconst hx hb dX1_begin_40 ?_
      refine lv_goto (tgt := 45) hx hb dX1_begin_41 (by decide) ?_
      refine kx_cv0 (va_runS (As := [.int (kI (1))]) (rest := []) ⟨hx, hb, hml, hown, hts⟩ (m_X1_checkState l D s.heap   ) (va_cwS 1 hts (lw_S q1844 q1845 q79 q1846) rfl rfl rfl (by decide +kernel) ⟨Nat.le_of_ble_eq_true rfl, Nat.le_of_ble_eq_true rfl⟩) (kx_ps hK hS_15 hB) rfl rfl hl.1 rfl (lv_room (Nat.le_of_ble_eq_true rfl)) dX1_begin_45 ⟨by first | exact Nat.le_of_ble_eq_true rfl | omega | (show _ ≤ _; omega) | (dsimp only [headSpec]; omega), by first | exact Nat.le_of_ble_eq_true rfl | omega | (show _ ≤ _; omega) | (dsimp only [headSpec]; omega)⟩) hS_15 (fun locs_19 hz_21 hS_20 => ?_)
      refine lv_aload_n hx hb dX1_begin_48 rfl (lv_at hl 0 rfl) ?_
      refine kx_cv (va_runV (As := []) (rest := []) ⟨hx, hb, hml, hown, hts⟩ (m_X1_save l D s.heap x1 snp hi bu es L st la ea F S gap hO_x1 hP_kState_st hP_kDq_hi (by first | assumption | omega) hnx bs_hi bs_es ne_x1) (cwV 0 hts (lw_V q247 q249 qs0 q79 q250) rfl rfl rfl (by decide +kernel) ⟨Nat.le_of_ble_eq_true rfl, Nat.le_of_ble_eq_true rfl⟩) (kx_pv hK hS_20 hB (kx_rc hK hO_x1 (C := RX1) (T := TX1) (N := 4) rfl)) rfl rfl hl.1 rfl (lv_room (Nat.le_of_ble_eq_true rfl)) dX1_begin_49 ⟨by first | exact Nat.le_of_ble_eq_true rfl | omega | (show _ ≤ _; omega) | (dsimp only [headSpec]; omega), by first | exact Nat.le_of_ble_eq_true rfl | omega | (show _ ≤ _; omega) | (dsimp only [headSpec]; omega)⟩) hS_20 (fun q _ h => by rcases h with h | h | h; exact Or.inr (Or.inl h); exact Or.inr (Or.inr (Or.inl h)); exact Or.inr (Or.inr (Or.inr (by omega)))) (fun q h => by rcases h with h | h | h; exact Or.inr (Or.inl h); exact Or.inr (Or.inr (Or.inl h)); exact Or.inr (Or.inr (Or.inr (by omega)))) (fun H_26 locs_23 hz_25 hF_27 hS_24 => ?_)
      have hzf_29 := hF_27.1
      refine W.widen (k := 42) (n := 1101) (Nat.le_of_ble_eq_true rfl) (Nat.le_of_ble_eq_true rfl) ?_
      obtain ⟨cr9, la9, ea9, F9, ho_34, ho_35, ho_36, ho_37, hcn9⟩ := hz_25
      refine lv_aload_n hx hb dX1_begin_52 rfl (lv_at hl 0 rfl) ?_
      refine kx_get (v := .ref st) (C := RX1) (T := TX1) (N := 4) hx hb hts in_X1 hown hK ho_34 rfl 0 (by decide) q229 (fun _ h9 => h9) rfl dX1_begin_53 ?_
      refine lv_iload_n hx hb dX1_begin_56 rfl (lv_at hl 1 rfl) ?_
      refine lv_iload_n hx hb dX1_begin_57 rfl (lv_at hl 2 rfl) ?_
      obtain ⟨HS9, hHS9⟩ : ∃ z, z = H_26.size := ⟨_, rfl⟩
      have hSc9 := ho_35
      have hcl9 : ∀ q, kOwn D cr9 la9 ea9 F9 S.length q → q < HS9 := fun q hq => by rw [hHS9]; exact ho_36.ownlt hx9 hq
      have hol9 : ∀ q, kOwn D st la ea F S.length q → q < s.heap.size := fun q hq => hP_kState_st.ownlt hx9 hq
      have h_38 := hO_st.fr hF_27 (fun h => by have h9 := hO_st.lt; (try dsimp only at h); (try simp only [kNW] at h); omega)
      refine kx_cb (va_runV (As := [.int (kI (lv)), .int (kI (x))]) (rest := []) ⟨hx, hb, hml, hown, hts⟩ (m_X2_begin l D H_26 st la ea F S gap lv x ho_35 (by first | assumption | omega) hlv hpt hl8 hno) (cwV 2 hts (lw_V q1852 q1652 q1653 q80 q1654) rfl rfl rfl (by decide +kernel) ⟨Nat.le_of_ble_eq_true rfl, Nat.le_of_ble_eq_true rfl⟩) (kx_pv hK hS_24 hB (kx_rc hK h_38 (C := RX2) (T := TX2) (N := 2) rfl)) rfl rfl hl.1 rfl (lv_room (Nat.le_of_ble_eq_true rfl)) dX1_begin_58 ⟨by first | exact Nat.le_of_ble_eq_true rfl | omega | (show _ ≤ _; omega) | (dsimp only [headSpec]; omega), by first | exact Nat.le_of_ble_eq_true rfl | omega | (show _ ≤ _; omega) | (dsimp only [headSpec]; omega)⟩) hS_24 (fun q _ h => by rcases (by rcases h with h | h | h; exact Or.inl (Or.inr (Or.inl h)); exact Or.inl (Or.inr (Or.inr (Or.inl h))); exact Or.inr (by omega) : kOwn D st la ea F S.length q ∨ HS9 ≤ q) with z | z; exact Or.inl z; exact Or.inr (Or.inr (Or.inr (by omega)))) (fun q h => by rcases (by rcases h with h | h | h; exact Or.inl (Or.inr (Or.inl h)); exact Or.inl (Or.inr (Or.inr (Or.inl h))); exact Or.inr (by omega) : kOwn D st la ea F S.length q ∨ HS9 ≤ q) with z | z; exact Or.inl z; exact Or.inr (Or.inr (Or.inr (by omega)))) (fun z_44 H_42 locs_39 hz_41 hF_43 hS_40 => ?_)
      have hzf_45 := hF_43.1
      refine W.widen (k := 47) (n := 1238) (Nat.le_of_ble_eq_true rfl) (Nat.le_of_ble_eq_true rfl) ?_
      obtain ⟨ea2_46, a_47, pa_48, sa_49, hv_50, ho_51, hnb9⟩ := hz_41
      subst z_44
      have hown9 : ∀ q, kOwn D st la ea2_46 ((F ++ [(a_47, pa_48, sa_49)])) ((S ++ [w_new lv x])).length q → kOwn D st la ea F S.length q ∨ HS9 ≤ q := fun q hq => by rw [List.length_append] at hq; rcases kOwn_push hF9 hq with z | ⟨z1, z2⟩ | z | z | z; (exact Or.inl z); (rcases hnb9.2.2.2 with y | y; (exact Or.inl (Or.inr (Or.inr (Or.inl ⟨by rw [z1, y], by omega⟩)))); exact Or.inr (by omega)); (exact Or.inr (by omega)); (exact Or.inr (by omega)); exact Or.inr (by omega)
      refine lv_pop hx hb dX1_begin_61 rfl ?_
      have hd9z := hK.dis
      have hx9z : ¬ kBase D ≤ D.2.2.2 2 := hK.tE.out
      obtain ⟨⟨hO_stz, mcz, hO_laz⟩, hLs9z, hLn9z, hF9z, hDs9z, hb1z, hb2z, hb3z⟩ := id ho_51
      refine lv_aload_n hx hb dX1_begin_62 rfl (lv_at hl 0 rfl) ?_
      have h_52 := ho_34.fr hF_43 (fun hx => by rcases (by have h := hx; rcases h with h | h | h; exact Or.inl (Or.inr (Or.inl h)); exact Or.inl (Or.inr (Or.inr (Or.inl h))); exact Or.inr (by omega) : kOwn D st la ea F S.length x1 ∨ HS9 ≤ x1) with z | z; exact (hnx _ z).2.2 rfl; omega)
      refine kx_get (v := .ref st) (C := RX1) (T := TX1) (N := 4) hx hb hts in_X1 hown hK h_52 rfl 0 (by decide) q229 (fun _ h9 => h9) rfl dX1_begin_63 ?_
      refine kx_get (v := .ref la) (C := RX2) (T := TX2) (N := 2) hx hb hts in_X2 hown hK hO_stz rfl 0 (by decide) q168 (fun _ h9 => h9) rfl dX1_begin_66 ?_
      refine kx_cFi0 (va_runF (C := RJ2) (As := []) (rest := []) (hK.at (ci := 9) rfl) ⟨hx, hb, hml, hown, hts⟩ (m_J2_size l D H_42 la mcz ea2_46 (((S ++ [w_new lv x])).length) hO_laz ) (va_cwF (x := ({ cls := "java/util/List", name := "size", desc := "()I" } : Jvm.MethodName)) 0 hts (lw_F q1267 q283 q285 q83 q287) rfl rfl rfl (hK.fw (by decide)) (by decide +kernel) ⟨Nat.le_of_ble_eq_true rfl, Nat.le_of_ble_eq_true rfl⟩) (kx_pv hK hS_40 hB (kx_rc hK hO_laz (C := RJ2) (T := TJ2) (N := 3) rfl)) rfl rfl hl.1 rfl (lv_room (Nat.le_of_ble_eq_true rfl)) dX1_begin_69 ⟨by first | exact Nat.le_of_ble_eq_true rfl | omega | (show _ ≤ _; omega) | (dsimp only [headSpec]; omega), by first | exact Nat.le_of_ble_eq_true rfl | omega | (show _ ≤ _; omega) | (dsimp only [headSpec]; omega)⟩) hS_40 (fun z_56 locs_53 hz_55 hS_54 => ?_)
      subst z_56
      refine kx_iconst hx hb dX1_begin_74 ?_
      refine kx_isub hx hb dX1_begin_75 ?_
      refine kx_eqi (((S.length : Nat) : Int)) (by have h9 : (S ++ [w_new lv x]).length = S.length + 1 := (by simp); omega) ?_
      refine W.widen (k := 47) (n := 1240) (by omega) (by omega) ?_
      have h_57 := ho_36.fr hd9 hF_43 (fun x hx => by rcases (by have h := hx; rcases h with h | h | h; exact Or.inl (Or.inr (Or.inl h)); exact Or.inl (Or.inr (Or.inr (Or.inl h))); exact Or.inr (by omega) : kOwn D st la ea F S.length x ∨ HS9 ≤ x) with z | z; exact Or.inr ⟨hSc9.ownty hx9 z, fun w => by have h1 := hcn9 x w; have h2 := hol9 x z; omega⟩; exact Or.inl (by omega))
      have h_58 := ho_37.fr hF_43 ⟨fun hx => by rcases (by have h := hx; rcases h with h | h | h; exact Or.inl (Or.inr (Or.inl h)); exact Or.inl (Or.inr (Or.inr (Or.inl h))); exact Or.inr (by omega) : kOwn D st la ea F S.length hi ∨ HS9 ≤ hi) with z | z; exact (hnx _ z).1 rfl; omega, fun hx => by rcases (by have h := hx; rcases h with h | h | h; exact Or.inl (Or.inr (Or.inl h)); exact Or.inl (Or.inr (Or.inr (Or.inl h))); exact Or.inr (by omega) : kOwn D st la ea F S.length es ∨ HS9 ≤ es) with z | z; exact (hnx _ z).2.1 rfl; omega⟩
      exact kx_iret (z := ((S.length : Nat) : Int)) hx hb hr hlk (⟨cr9, la9, ea9, F9, ea2_46, ((F ++ [(a_47, pa_48, sa_49)])), by rfl, h_52, ho_51, h_57, h_58, by exact fun q hq => by have h9 := hcn9 q hq; omega, by exact fun q hq => by rcases hown9 q hq with z | z; exact Or.inl z; exact Or.inr (by omega), by exact fun q hq hw => by have h1 := hcn9 q hq; have h2 := hcl9 q hq; rcases hown9 q hw with z | z; (have h3 := hol9 q z; omega); omega⟩) hS_54 dX1_begin_76

set_option maxHeartbeats 4000000 in
set_option maxRecDepth 100000 in
theorem m_X1_step (l : Launch) (D : kG) (H : Heap) (x1 : Nat) (snp : Option Nat) (hi : Nat) (bu : Nat) (es : Nat) (L : List Nat) (st : Nat) (la : Nat) (ea : Nat) (F : Fts) (S : Ls) (gap : Int) (ln : Nat) (d : Int) (hO_x1 : kO D H x1 0 [.ref st, va_rf (snp), .ref hi, .ref bu]) (hP_kState_st : kState D H st la ea gap S F) (hP_kDq_hi : kDq D H hi es L) (hok : LsOK S gap) (hnx : ∀ q, kOwn D st la ea F S.length q → q ≠ hi ∧ q ≠ es ∧ q ≠ x1) (bs_hi : kBase D ≤ hi) (bs_es : kBase D ≤ es) (ne_x1 : x1 ≠ hi ∧ x1 ≠ es) (hln : ln < S.length) (hG : StG S) (hd : 0 ≤ d ∧ d ≤ 7) (hwn : st_whyNot S ln d = 0) : Met l yX1_step (ws_ yX1_step cX1_step 3 (some .boolean)) ({ frames := 9, cells := 60, slots := 1300, locals := 3148 } : Room) (kPre D H [.ref x1, .int (kI ((ln : Nat) : Int)), .int (kI (d))]) (kQb (fun (r : Bool) H' => ∃ (cr : Nat) (la2 : Nat) (ea2 : Nat) (F2 : Fts) (ea3 : Nat) (F3 : Fts), (r = ln_cl (w_step (st_ln S ln) d)) ∧ (kO D H' x1 0 [.ref st, va_rf (snp), .ref hi, .ref bu]) ∧ (kState D H' st la ea3 gap (S.set ln (w_step (st_ln S ln) d)) F3) ∧ (kState D H' cr la2 ea2 gap S F2) ∧ (kDq D H' hi es ((pushL L cr))) ∧ (∀ q, kOwn D cr la2 ea2 F2 S.length q → H.size ≤ q) ∧ (∀ q, kOwn D st la ea3 F3 (S.set ln (w_step (st_ln S ln) d)).length q → kOwn D st la ea F S.length q ∨ H.size ≤ q) ∧ (∀ q, kOwn D cr la2 ea2 F2 S.length q → ¬ kOwn D st la ea3 F3 (S.set ln (w_step (st_ln S ln) d)).length q)) (fun q : Nat => kOwn D st la ea F S.length q ∨ q = hi ∨ q = es ∨ H.size ≤ q)) (60) (1300) ((fun q : Nat => kOwn D st la ea F S.length q ∨ q = hi ∨ q = es ∨ H.size ≤ q)) := by
  refine Met.ofW (cc := cX1_step) (maxL := 3) (ret := (some .boolean)) (by decide) rfl ?_
  intro p e s m args below meth c s₁ B hml hv
  obtain ⟨rfl, hH, hK⟩ := hv
  subst hH
  have hx := B.exec
  have hb := B.bytes
  have hr := B.returns
  have hts := atoms_spec (ws := ws_ yX1_step cX1_step 3 (some .boolean)) B.pre
  have hts : ∀ w ∈ lw_all, w.before _ s = true := fun w h => hts w (List.mem_cons_of_mem _ h)
  have hown : s.vm.findClass RX1 = some m.cls := findClass_of_methodNamed B.named
  have hlk := B.notSynchronized
  have hS : va_S (fun q : Nat => kOwn D st la ea F S.length q ∨ q = hi ∨ q = es ∨ s.heap.size ≤ q) s.heap s.heap [] := va_S.rf
  have hB : ∀ q, (fun q : Nat => kOwn D st la ea F S.length q ∨ q = hi ∨ q = es ∨ s.heap.size ≤ q) q → kBase D ≤ q := fun q h => by (have h2 := hK.size; rcases h with h | h | h | h; exact hP_kState_st.ownge h; (rw [h]; exact bs_hi); (rw [h]; exact bs_es); exact Nat.le_trans h2 h)
  have hl := lv_entry ([.ref x1, .int (kI ((ln : Nat) : Int)), .int (kI (d))]) (n := 3) (Nat.le_of_ble_eq_true rfl)
  rw [lg_entry_eq]
  generalize (lg_sl ([.ref x1, .int (kI ((ln : Nat) : Int)), .int (kI (d))]) ++ List.replicate (3 - (lg_sl ([.ref x1, .int (kI ((ln : Nat) : Int)), .int (kI (d))])).length) Slot.unset).toArray = ls at hl ⊢
  have hl : lv_has ls 3 [(0, .ref x1), (1, .int (kI ((ln : Nat) : Int))), (2, .int (kI (d)))] := hl
  have hL8 := hok.1
  have hn60 := (hok.ln hln).n
  have hd9 := hK.dis
  have hx9 : ¬ kBase D ≤ D.2.2.2 2 := hK.tE.out
  obtain ⟨⟨hO_st, mc, hO_la⟩, hLs9, hLn9, hF9, hDs9, hb1, hb2, hb3⟩ := id hP_kState_st
  have hltx1 := hO_x1.lt
  have hlthi : hi < s.heap.size ∧ es < s.heap.size := by obtain ⟨_, _, _, z1, z2, _⟩ := hP_kDq_hi; exact ⟨z1.lt, z2.lt⟩
  have hnst := hnx st (Or.inl rfl)
  have hnla := hnx la (Or.inr (Or.inl rfl))
  refine lv_aload_n hx hb dX1_step_0 rfl (lv_at hl 0 rfl) ?_
  refine lv_iload_n hx hb dX1_step_1 rfl (lv_at hl 1 rfl) ?_
  refine lv_iload_n hx hb dX1_step_2 rfl (lv_at hl 2 rfl) ?_
  refine kx_ci (va_runV (As := [.int (kI ((ln : Nat) : Int)), .int (kI (d))]) (rest := []) ⟨hx, hb, hml, hown, hts⟩ (m_X1_whyNotStepped l D s.heap x1 snp hi bu st la mc ea F S gap ln d hO_x1 hO_st hO_la hLs9 hLn9 (by first | assumption | omega) (by first | assumption | omega) (by first | assumption | omega)) (cwV 2 hts (lw_V q1860 q1861 q1862 q79 q1863) rfl rfl rfl (by decide +kernel) ⟨Nat.le_of_ble_eq_true rfl, Nat.le_of_ble_eq_true rfl⟩) (kx_pv hK hS hB (kx_rc hK hO_x1 (C := RX1) (T := TX1) (N := 4) rfl)) rfl rfl hl.1 rfl (lv_room (Nat.le_of_ble_eq_true rfl)) dX1_step_3 ⟨by first | exact Nat.le_of_ble_eq_true rfl | omega | (show _ ≤ _; omega) | (dsimp only [headSpec]; omega), by first | exact Nat.le_of_ble_eq_true rfl | omega | (show _ ≤ _; omega) | (dsimp only [headSpec]; omega)⟩) hS (fun q _ h => Or.inr (Or.inr (Or.inr (by (try dsimp only at h); (try simp only [kNW] at h); omega)))) (fun q h => Or.inr (Or.inr (Or.inr (by (try dsimp only at h); (try simp only [kNW] at h); omega)))) (fun z_6 H_4 locs_1 hz_3 hF_5 hS_2 => ?_)
  have hzf_7 := hF_5.1
  have hF_5 := hF_5.nw
  refine W.widen (k := 6) (n := 14) (Nat.le_of_ble_eq_true rfl) (Nat.le_of_ble_eq_true rfl) ?_
  obtain ⟨hv_8, htr_9⟩ := hz_3
  subst z_6
  refine kx_if_ne (x := st_whyNot S ln d) (tgt := 13) hx hb dX1_step_6 (by decide) (by have := st_whyNot_rng S ln d; omega) (by have := st_whyNot_rng S ln d; omega) (fun c_6_10 => ?_) (fun c_6_10 => ?_)
  · -- taken at 6
    exfalso; omega
  · -- not taken at 6
    refine kx_iconst hx hb dX1_step_9 ?_
    refine lv_goto (tgt := 14) hx hb dX1_step_10 (by decide) ?_
    refine kx_cv0 (va_runS (As := [.int (kI (1))]) (rest := []) ⟨hx, hb, hml, hown, hts⟩ (m_X1_checkState l D H_4   ) (va_cwS 1 hts (lw_S q1844 q1845 q79 q1846) rfl rfl rfl (by decide +kernel) ⟨Nat.le_of_ble_eq_true rfl, Nat.le_of_ble_eq_true rfl⟩) (kx_ps hK hS_2 hB) rfl rfl hl.1 rfl (lv_room (Nat.le_of_ble_eq_true rfl)) dX1_step_14 ⟨by first | exact Nat.le_of_ble_eq_true rfl | omega | (show _ ≤ _; omega) | (dsimp only [headSpec]; omega), by first | exact Nat.le_of_ble_eq_true rfl | omega | (show _ ≤ _; omega) | (dsimp only [headSpec]; omega)⟩) hS_2 (fun locs_11 hz_13 hS_12 => ?_)
    refine lv_aload_n hx hb dX1_step_17 rfl (lv_at hl 0 rfl) ?_
    have h_15 := hO_x1.ex hF_5
    have h_16 := hP_kState_st.ex hF_5
    have h_17 := hP_kDq_hi.ex hF_5
    refine kx_cv (va_runV (As := []) (rest := []) ⟨hx, hb, hml, hown, hts⟩ (m_X1_save l D H_4 x1 snp hi bu es L st la ea F S gap h_15 h_16 h_17 (by first | assumption | omega) hnx bs_hi bs_es ne_x1) (cwV 0 hts (lw_V q247 q249 qs0 q79 q250) rfl rfl rfl (by decide +kernel) ⟨Nat.le_of_ble_eq_true rfl, Nat.le_of_ble_eq_true rfl⟩) (kx_pv hK hS_12 hB (kx_rc hK h_15 (C := RX1) (T := TX1) (N := 4) rfl)) rfl rfl hl.1 rfl (lv_room (Nat.le_of_ble_eq_true rfl)) dX1_step_18 ⟨by first | exact Nat.le_of_ble_eq_true rfl | omega | (show _ ≤ _; omega) | (dsimp only [headSpec]; omega), by first | exact Nat.le_of_ble_eq_true rfl | omega | (show _ ≤ _; omega) | (dsimp only [headSpec]; omega)⟩) hS_12 (fun q _ h => by rcases h with h | h | h; exact Or.inr (Or.inl h); exact Or.inr (Or.inr (Or.inl h)); exact Or.inr (Or.inr (Or.inr (by omega)))) (fun q h => by rcases h with h | h | h; exact Or.inr (Or.inl h); exact Or.inr (Or.inr (Or.inl h)); exact Or.inr (Or.inr (Or.inr (by omega)))) (fun H_21 locs_18 hz_20 hF_22 hS_19 => ?_)
    have hzf_24 := hF_22.1
    refine W.widen (k := 48) (n := 1115) (Nat.le_of_ble_eq_true rfl) (Nat.le_of_ble_eq_true rfl) ?_
    obtain ⟨cr9, la9, ea9, F9, ho_29, ho_30, ho_31, ho_32, hcn9⟩ := hz_20
    refine lv_aload_n hx hb dX1_step_21 rfl (lv_at hl 0 rfl) ?_
    refine kx_get (v := .ref st) (C := RX1) (T := TX1) (N := 4) hx hb hts in_X1 hown hK ho_29 rfl 0 (by decide) q229 (fun _ h9 => h9) rfl dX1_step_22 ?_
    refine lv_iload_n hx hb dX1_step_25 rfl (lv_at hl 1 rfl) ?_
    refine lv_iload_n hx hb dX1_step_26 rfl (lv_at hl 2 rfl) ?_
    obtain ⟨HS9, hHS9⟩ : ∃ z, z = H_21.size := ⟨_, rfl⟩
    have hSc9 := ho_30
    have hcl9 : ∀ q, kOwn D cr9 la9 ea9 F9 S.length q → q < HS9 := fun q hq => by rw [hHS9]; exact ho_31.ownlt hx9 hq
    have hol9 : ∀ q, kOwn D st la ea F S.length q → q < s.heap.size := fun q hq => hP_kState_st.ownlt hx9 hq
    have h_33 := hO_st.ex hF_5
    have h_34 := h_33.fr hF_22 (fun h => by have h9 := h_33.lt; (try dsimp only at h); (try simp only [kNW] at h); omega)
    refine kx_cb (va_runV (As := [.int (kI ((ln : Nat) : Int)), .int (kI (d))]) (rest := []) ⟨hx, hb, hml, hown, hts⟩ (m_X2_step l D H_21 st la ea F S gap ln d ho_30 (by first | assumption | omega) (by first | assumption | omega) hd hwn ((ln_cl_step hok hln hwn))) (cwV 2 hts (lw_V q1872 q1675 q1676 q80 q1677) rfl rfl rfl (by decide +kernel) ⟨Nat.le_of_ble_eq_true rfl, Nat.le_of_ble_eq_true rfl⟩) (kx_pv hK hS_19 hB (kx_rc hK h_34 (C := RX2) (T := TX2) (N := 2) rfl)) rfl rfl hl.1 rfl (lv_room (Nat.le_of_ble_eq_true rfl)) dX1_step_27 ⟨by first | exact Nat.le_of_ble_eq_true rfl | omega | (show _ ≤ _; omega) | (dsimp only [headSpec]; omega), by first | exact Nat.le_of_ble_eq_true rfl | omega | (show _ ≤ _; omega) | (dsimp only [headSpec]; omega)⟩) hS_19 (fun q _ h => by rcases (by rcases h with h | h | h | h; exact Or.inl (Or.inr (Or.inr (Or.inr ⟨ln, by omega, Or.inl h⟩))); exact Or.inl (Or.inr (Or.inr (Or.inr ⟨ln, by omega, Or.inr (Or.inl h)⟩))); exact Or.inl (Or.inr (Or.inr (Or.inr ⟨ln, by omega, Or.inr (Or.inr h)⟩))); exact Or.inr (by omega) : kOwn D st la ea F S.length q ∨ HS9 ≤ q) with z | z; exact Or.inl z; exact Or.inr (Or.inr (Or.inr (by omega)))) (fun q h => by rcases (by rcases h with h | h | h | h; exact Or.inl (Or.inr (Or.inr (Or.inr ⟨ln, by omega, Or.inl h⟩))); exact Or.inl (Or.inr (Or.inr (Or.inr ⟨ln, by omega, Or.inr (Or.inl h)⟩))); exact Or.inl (Or.inr (Or.inr (Or.inr ⟨ln, by omega, Or.inr (Or.inr h)⟩))); exact Or.inr (by omega) : kOwn D st la ea F S.length q ∨ HS9 ≤ q) with z | z; exact Or.inl z; exact Or.inr (Or.inr (Or.inr (by omega)))) (fun z_40 H_38 locs_35 hz_37 hF_39 hS_36 => ?_)
    have hzf_41 := hF_39.1
    refine W.widen (k := 55) (n := 1129) (Nat.le_of_ble_eq_true rfl) (Nat.le_of_ble_eq_true rfl) ?_
    obtain ⟨hv_42, ho_43⟩ := hz_37
    subst z_40
    have hown9 : ∀ q, kOwn D st la ea F ((S.set ln (w_step (st_ln S ln) d))).length q → kOwn D st la ea F S.length q ∨ HS9 ≤ q := fun q hq => by rw [List.length_set] at hq; exact Or.inl hq
    refine lv_pop hx hb dX1_step_30 rfl ?_
    have hl29 : ((S.set ln (w_step (st_ln S ln) d))).length = S.length := List.length_set
    have hd9z := hK.dis
    have hx9z : ¬ kBase D ≤ D.2.2.2 2 := hK.tE.out
    obtain ⟨⟨hO_stz, mcz, hO_laz⟩, hLs9z, hLn9z, hF9z, hDs9z, hb1z, hb2z, hb3z⟩ := id ho_43
    have hLz : (st_ln (S.set ln (w_step (st_ln S ln) d)) ln) = w_step (st_ln S ln) d := by rw [st_ln_set hln, if_pos rfl]
    have hokz : LsOK (S.set ln (w_step (st_ln S ln) d)) gap := by have h9 := hok.exSt (x := (ln : Int)) (y := d) (by unfold ref_s; rw [if_neg (by omega), if_neg (by omega), Int.toNat_natCast, if_neg (by omega)]); rw [Int.toNat_natCast] at h9; exact h9
    refine lv_aload_n hx hb dX1_step_31 rfl (lv_at hl 0 rfl) ?_
    refine lv_iload_n hx hb dX1_step_32 rfl (lv_at hl 1 rfl) ?_
    have h_44 := ho_29.fr hF_39 (fun hx => by rcases (by have h := hx; rcases h with h | h | h | h; exact Or.inl (Or.inr (Or.inr (Or.inr ⟨ln, by omega, Or.inl h⟩))); exact Or.inl (Or.inr (Or.inr (Or.inr ⟨ln, by omega, Or.inr (Or.inl h)⟩))); exact Or.inl (Or.inr (Or.inr (Or.inr ⟨ln, by omega, Or.inr (Or.inr h)⟩))); exact Or.inr (by omega) : kOwn D st la ea F S.length x1 ∨ HS9 ≤ x1) with z | z; exact (hnx _ z).2.2 rfl; omega)
    refine kx_cr0 (va_runV (As := [.int (kI ((ln : Nat) : Int))]) (rest := []) ⟨hx, hb, hml, hown, hts⟩ (m_X1_line l D H_38 x1 snp hi bu st la mcz ea F ((S.set ln (w_step (st_ln S ln) d))) gap ln h_44 hO_stz hO_laz hLs9z hLn9z hokz ((by omega))) (cwV 1 hts (lw_V q1864 q1866 qs35 q79 q1867) rfl rfl rfl (by decide +kernel) ⟨Nat.le_of_ble_eq_true rfl, Nat.le_of_ble_eq_true rfl⟩) (kx_pv hK hS_36 hB (kx_rc hK h_44 (C := RX1) (T := TX1) (N := 4) rfl)) rfl rfl hl.1 rfl (lv_room (Nat.le_of_ble_eq_true rfl)) dX1_step_33 ⟨by first | exact Nat.le_of_ble_eq_true rfl | omega | (show _ ≤ _; omega) | (dsimp only [headSpec]; omega), by first | exact Nat.le_of_ble_eq_true rfl | omega | (show _ ≤ _; omega) | (dsimp only [headSpec]; omega)⟩) hS_36 (fun z_48 locs_45 hz_47 hS_46 => ?_)
    subst z_48
    by_cases hclz : ln_cl (st_ln (S.set ln (w_step (st_ln S ln) d)) ln) = true
    · -- hclz t
      obtain ⟨ea_49, gp_49, gs_49, ho_49, hp_49, hs_49, he_49, hm_49⟩ := (hLn9z ln (by omega)).closed_ hclz
      refine kx_cb0 (va_runV (As := []) (rest := []) ⟨hx, hb, hml, hown, hts⟩ (m_isClosed_c l D H_38 (fA F ln) (fP F ln) (fS F ln) ea_49 ((st_ln (S.set ln (w_step (st_ln S ln) d)) ln)) ho_49 he_49 ) (cwV 0 hts (lw_V q1873 q1696 q1697 q99 q1698) rfl rfl rfl (by decide +kernel) ⟨Nat.le_of_ble_eq_true rfl, Nat.le_of_ble_eq_true rfl⟩) (kx_pv hK hS_46 hB (kx_rc hK ho_49 (C := RX4) (T := TX4) (N := 6) rfl)) rfl rfl hl.1 rfl (lv_room (Nat.le_of_ble_eq_true rfl)) dX1_step_36 ⟨by first | exact Nat.le_of_ble_eq_true rfl | omega | (show _ ≤ _; omega) | (dsimp only [headSpec]; omega), by first | exact Nat.le_of_ble_eq_true rfl | omega | (show _ ≤ _; omega) | (dsimp only [headSpec]; omega)⟩) hS_46 (fun z_53 locs_50 hz_52 hS_51 => ?_)
      subst z_53
      refine W.widen (k := 60) (n := 1300) (by omega) (by omega) ?_
      have h_54 := ho_31.fr hd9 hF_39 (fun x hx => by rcases (by have h := hx; rcases h with h | h | h | h; exact Or.inl (Or.inr (Or.inr (Or.inr ⟨ln, by omega, Or.inl h⟩))); exact Or.inl (Or.inr (Or.inr (Or.inr ⟨ln, by omega, Or.inr (Or.inl h)⟩))); exact Or.inl (Or.inr (Or.inr (Or.inr ⟨ln, by omega, Or.inr (Or.inr h)⟩))); exact Or.inr (by omega) : kOwn D st la ea F S.length x ∨ HS9 ≤ x) with z | z; exact Or.inr ⟨hSc9.ownty hx9 z, fun w => by have h1 := hcn9 x w; have h2 := hol9 x z; omega⟩; exact Or.inl (by omega))
      have h_55 := ho_32.fr hF_39 ⟨fun hx => by rcases (by have h := hx; rcases h with h | h | h | h; exact Or.inl (Or.inr (Or.inr (Or.inr ⟨ln, by omega, Or.inl h⟩))); exact Or.inl (Or.inr (Or.inr (Or.inr ⟨ln, by omega, Or.inr (Or.inl h)⟩))); exact Or.inl (Or.inr (Or.inr (Or.inr ⟨ln, by omega, Or.inr (Or.inr h)⟩))); exact Or.inr (by omega) : kOwn D st la ea F S.length hi ∨ HS9 ≤ hi) with z | z; exact (hnx _ z).1 rfl; omega, fun hx => by rcases (by have h := hx; rcases h with h | h | h | h; exact Or.inl (Or.inr (Or.inr (Or.inr ⟨ln, by omega, Or.inl h⟩))); exact Or.inl (Or.inr (Or.inr (Or.inr ⟨ln, by omega, Or.inr (Or.inl h)⟩))); exact Or.inl (Or.inr (Or.inr (Or.inr ⟨ln, by omega, Or.inr (Or.inr h)⟩))); exact Or.inr (by omega) : kOwn D st la ea F S.length es ∨ HS9 ≤ es) with z | z; exact (hnx _ z).2.1 rfl; omega⟩
      exact kx_zret (z := true) hx hb hr hlk (⟨cr9, la9, ea9, F9, ea, F, by rw [← hLz]; first | exact hclz.symm | exact hclo.symm, h_44, ho_43, h_54, h_55, by exact fun q hq => by have h9 := hcn9 q hq; omega, by exact fun q hq => by rcases hown9 q hq with z | z; exact Or.inl z; exact Or.inr (by omega), by exact fun q hq hw => by have h1 := hcn9 q hq; have h2 := hcl9 q hq; rcases hown9 q hw with z | z; (have h3 := hol9 q z; omega); omega⟩) hS_51 dX1_step_39
    · -- hclz f
      have hclo : ln_cl (st_ln (S.set ln (w_step (st_ln S ln) d)) ln) = false := by simpa using hclz
      obtain ⟨ea_56, gp_56, gs_56, ho_56, hp_56, hs_56, he_56, hm_56⟩ := (hLn9z ln (by omega)).open_ hclo
      refine kx_cb0 (va_runV (As := []) (rest := []) ⟨hx, hb, hml, hown, hts⟩ (m_isClosed_o l D H_38 (fA F ln) (fP F ln) (fS F ln) ea_56 ((st_ln (S.set ln (w_step (st_ln S ln) d)) ln)) ho_56 he_56 ) (cwV 0 hts (lw_V q1873 q1696 q1697 q99 q1698) rfl rfl rfl (by decide +kernel) ⟨Nat.le_of_ble_eq_true rfl, Nat.le_of_ble_eq_true rfl⟩) (kx_pv hK hS_46 hB (kx_rc hK ho_56 (C := RX4) (T := TX4) (N := 6) rfl)) rfl rfl hl.1 rfl (lv_room (Nat.le_of_ble_eq_true rfl)) dX1_step_36 ⟨by first | exact Nat.le_of_ble_eq_true rfl | omega | (show _ ≤ _; omega) | (dsimp only [headSpec]; omega), by first | exact Nat.le_of_ble_eq_true rfl | omega | (show _ ≤ _; omega) | (dsimp only [headSpec]; omega)⟩) hS_46 (fun z_60 locs_57 hz_59 hS_58 => ?_)
      subst z_60
      refine W.widen (k := 60) (n := 1300) (by omega) (by omega) ?_
      have h_61 := ho_31.fr hd9 hF_39 (fun x hx => by rcases (by have h := hx; rcases h with h | h | h | h; exact Or.inl (Or.inr (Or.inr (Or.inr ⟨ln, by omega, Or.inl h⟩))); exact Or.inl (Or.inr (Or.inr (Or.inr ⟨ln, by omega, Or.inr (Or.inl h)⟩))); exact Or.inl (Or.inr (Or.inr (Or.inr ⟨ln, by omega, Or.inr (Or.inr h)⟩))); exact Or.inr (by omega) : kOwn D st la ea F S.length x ∨ HS9 ≤ x) with z | z; exact Or.inr ⟨hSc9.ownty hx9 z, fun w => by have h1 := hcn9 x w; have h2 := hol9 x z; omega⟩; exact Or.inl (by omega))
      have h_62 := ho_32.fr hF_39 ⟨fun hx => by rcases (by have h := hx; rcases h with h | h | h | h; exact Or.inl (Or.inr (Or.inr (Or.inr ⟨ln, by omega, Or.inl h⟩))); exact Or.inl (Or.inr (Or.inr (Or.inr ⟨ln, by omega, Or.inr (Or.inl h)⟩))); exact Or.inl (Or.inr (Or.inr (Or.inr ⟨ln, by omega, Or.inr (Or.inr h)⟩))); exact Or.inr (by omega) : kOwn D st la ea F S.length hi ∨ HS9 ≤ hi) with z | z; exact (hnx _ z).1 rfl; omega, fun hx => by rcases (by have h := hx; rcases h with h | h | h | h; exact Or.inl (Or.inr (Or.inr (Or.inr ⟨ln, by omega, Or.inl h⟩))); exact Or.inl (Or.inr (Or.inr (Or.inr ⟨ln, by omega, Or.inr (Or.inl h)⟩))); exact Or.inl (Or.inr (Or.inr (Or.inr ⟨ln, by omega, Or.inr (Or.inr h)⟩))); exact Or.inr (by omega) : kOwn D st la ea F S.length es ∨ HS9 ≤ es) with z | z; exact (hnx _ z).2.1 rfl; omega⟩
      exact kx_zret (z := false) hx hb hr hlk (⟨cr9, la9, ea9, F9, ea, F, by rw [← hLz]; first | exact hclz.symm | exact hclo.symm, h_44, ho_43, h_61, h_62, by exact fun q hq => by have h9 := hcn9 q hq; omega, by exact fun q hq => by rcases hown9 q hq with z | z; exact Or.inl z; exact Or.inr (by omega), by exact fun q hq hw => by have h1 := hcn9 q hq; have h2 := hcl9 q hq; rcases hown9 q hw with z | z; (have h3 := hol9 q z; omega); omega⟩) hS_58 dX1_step_39

set_option maxHeartbeats 4000000 in
set_option maxRecDepth 100000 in
theorem m_X1_wipe (l : Launch) (D : kG) (H : Heap) (x1 : Nat) (snp : Option Nat) (hi : Nat) (bu : Nat) (es : Nat) (L : List Nat) (st : Nat) (la : Nat) (ea : Nat) (F : Fts) (S : Ls) (gap : Int) (ln : Nat) (hO_x1 : kO D H x1 0 [.ref st, va_rf (snp), .ref hi, .ref bu]) (hP_kState_st : kState D H st la ea gap S F) (hP_kDq_hi : kDq D H hi es L) (hok : LsOK S gap) (hnx : ∀ q, kOwn D st la ea F S.length q → q ≠ hi ∧ q ≠ es ∧ q ≠ x1) (bs_hi : kBase D ≤ hi) (bs_es : kBase D ≤ es) (ne_x1 : x1 ≠ hi ∧ x1 ≠ es) (hln : ln < S.length) : Met l yX1_wipe (ws_ yX1_wipe cX1_wipe 2 (some .int)) ({ frames := 7, cells := 47, slots := 1240, locals := 159 } : Room) (kPre D H [.ref x1, .int (kI ((ln : Nat) : Int))]) (kQi (fun (r : Int) H' => ∃ (cr : Nat) (la2 : Nat) (ea2 : Nat) (F2 : Fts) (ea3 : Nat) (F3 : Fts), (r = (((S.eraseIdx ln).length : Nat) : Int)) ∧ (kO D H' x1 0 [.ref st, va_rf (snp), .ref hi, .ref bu]) ∧ (kState D H' st la ea3 gap (S.eraseIdx ln) F3) ∧ (kState D H' cr la2 ea2 gap S F2) ∧ (kDq D H' hi es ((pushL L cr))) ∧ (∀ q, kOwn D cr la2 ea2 F2 S.length q → H.size ≤ q) ∧ (∀ q, kOwn D st la ea3 F3 (S.eraseIdx ln).length q → kOwn D st la ea F S.length q ∨ H.size ≤ q) ∧ (∀ q, kOwn D cr la2 ea2 F2 S.length q → ¬ kOwn D st la ea3 F3 (S.eraseIdx ln).length q)) (fun q : Nat => kOwn D st la ea F S.length q ∨ q = hi ∨ q = es ∨ H.size ≤ q)) (47) (1240) ((fun q : Nat => kOwn D st la ea F S.length q ∨ q = hi ∨ q = es ∨ H.size ≤ q)) := by
  refine Met.ofW (cc := cX1_wipe) (maxL := 2) (ret := (some .int)) (by decide) rfl ?_
  intro p e s m args below meth c s₁ B hml hv
  obtain ⟨rfl, hH, hK⟩ := hv
  subst hH
  have hx := B.exec
  have hb := B.bytes
  have hr := B.returns
  have hts := atoms_spec (ws := ws_ yX1_wipe cX1_wipe 2 (some .int)) B.pre
  have hts : ∀ w ∈ lw_all, w.before _ s = true := fun w h => hts w (List.mem_cons_of_mem _ h)
  have hown : s.vm.findClass RX1 = some m.cls := findClass_of_methodNamed B.named
  have hlk := B.notSynchronized
  have hS : va_S (fun q : Nat => kOwn D st la ea F S.length q ∨ q = hi ∨ q = es ∨ s.heap.size ≤ q) s.heap s.heap [] := va_S.rf
  have hB : ∀ q, (fun q : Nat => kOwn D st la ea F S.length q ∨ q = hi ∨ q = es ∨ s.heap.size ≤ q) q → kBase D ≤ q := fun q h => by (have h2 := hK.size; rcases h with h | h | h | h; exact hP_kState_st.ownge h; (rw [h]; exact bs_hi); (rw [h]; exact bs_es); exact Nat.le_trans h2 h)
  have hl := lv_entry ([.ref x1, .int (kI ((ln : Nat) : Int))]) (n := 2) (Nat.le_of_ble_eq_true rfl)
  rw [lg_entry_eq]
  generalize (lg_sl ([.ref x1, .int (kI ((ln : Nat) : Int))]) ++ List.replicate (2 - (lg_sl ([.ref x1, .int (kI ((ln : Nat) : Int))])).length) Slot.unset).toArray = ls at hl ⊢
  have hl : lv_has ls 2 [(0, .ref x1), (1, .int (kI ((ln : Nat) : Int)))] := hl
  have hL8 := hok.1
  have hn60 := (hok.ln hln).n
  have hd9 := hK.dis
  have hx9 : ¬ kBase D ≤ D.2.2.2 2 := hK.tE.out
  obtain ⟨⟨hO_st, mc, hO_la⟩, hLs9, hLn9, hF9, hDs9, hb1, hb2, hb3⟩ := id hP_kState_st
  have hltx1 := hO_x1.lt
  have hlthi : hi < s.heap.size ∧ es < s.heap.size := by obtain ⟨_, _, _, z1, z2, _⟩ := hP_kDq_hi; exact ⟨z1.lt, z2.lt⟩
  have hnst := hnx st (Or.inl rfl)
  have hnla := hnx la (Or.inr (Or.inl rfl))
  refine lv_aload_n hx hb dX1_wipe_0 rfl (lv_at hl 0 rfl) ?_
  refine lv_iload_n hx hb dX1_wipe_1 rfl (lv_at hl 1 rfl) ?_
  refine kx_cr0 (va_runV (As := [.int (kI ((ln : Nat) : Int))]) (rest := []) ⟨hx, hb, hml, hown, hts⟩ (m_X1_line l D s.heap x1 snp hi bu st la mc ea F S gap ln hO_x1 hO_st hO_la hLs9 hLn9 (by first | assumption | omega) (by first | assumption | omega)) (cwV 1 hts (lw_V q1864 q1866 qs35 q79 q1867) rfl rfl rfl (by decide +kernel) ⟨Nat.le_of_ble_eq_true rfl, Nat.le_of_ble_eq_true rfl⟩) (kx_pv hK hS hB (kx_rc hK hO_x1 (C := RX1) (T := TX1) (N := 4) rfl)) rfl rfl hl.1 rfl (lv_room (Nat.le_of_ble_eq_true rfl)) dX1_wipe_2 ⟨by first | exact Nat.le_of_ble_eq_true rfl | omega | (show _ ≤ _; omega) | (dsimp only [headSpec]; omega), by first | exact Nat.le_of_ble_eq_true rfl | omega | (show _ ≤ _; omega) | (dsimp only [headSpec]; omega)⟩) hS (fun z_4 locs_1 hz_3 hS_2 => ?_)
  subst z_4
  refine lv_pop hx hb dX1_wipe_5 rfl ?_
  refine lv_aload_n hx hb dX1_wipe_6 rfl (lv_at hl 0 rfl) ?_
  refine kx_cv (va_runV (As := []) (rest := []) ⟨hx, hb, hml, hown, hts⟩ (m_X1_save l D s.heap x1 snp hi bu es L st la ea F S gap hO_x1 hP_kState_st hP_kDq_hi (by first | assumption | omega) hnx bs_hi bs_es ne_x1) (cwV 0 hts (lw_V q247 q249 qs0 q79 q250) rfl rfl rfl (by decide +kernel) ⟨Nat.le_of_ble_eq_true rfl, Nat.le_of_ble_eq_true rfl⟩) (kx_pv hK hS_2 hB (kx_rc hK hO_x1 (C := RX1) (T := TX1) (N := 4) rfl)) rfl rfl hl.1 rfl (lv_room (Nat.le_of_ble_eq_true rfl)) dX1_wipe_7 ⟨by first | exact Nat.le_of_ble_eq_true rfl | omega | (show _ ≤ _; omega) | (dsimp only [headSpec]; omega), by first | exact Nat.le_of_ble_eq_true rfl | omega | (show _ ≤ _; omega) | (dsimp only [headSpec]; omega)⟩) hS_2 (fun q _ h => by rcases h with h | h | h; exact Or.inr (Or.inl h); exact Or.inr (Or.inr (Or.inl h)); exact Or.inr (Or.inr (Or.inr (by omega)))) (fun q h => by rcases h with h | h | h; exact Or.inr (Or.inl h); exact Or.inr (Or.inr (Or.inl h)); exact Or.inr (Or.inr (Or.inr (by omega)))) (fun H_8 locs_5 hz_7 hF_9 hS_6 => ?_)
  have hzf_11 := hF_9.1
  refine W.widen (k := 42) (n := 1101) (Nat.le_of_ble_eq_true rfl) (Nat.le_of_ble_eq_true rfl) ?_
  obtain ⟨cr9, la9, ea9, F9, ho_16, ho_17, ho_18, ho_19, hcn9⟩ := hz_7
  refine lv_aload_n hx hb dX1_wipe_10 rfl (lv_at hl 0 rfl) ?_
  refine kx_get (v := .ref st) (C := RX1) (T := TX1) (N := 4) hx hb hts in_X1 hown hK ho_16 rfl 0 (by decide) q229 (fun _ h9 => h9) rfl dX1_wipe_11 ?_
  refine lv_iload_n hx hb dX1_wipe_14 rfl (lv_at hl 1 rfl) ?_
  obtain ⟨HS9, hHS9⟩ : ∃ z, z = H_8.size := ⟨_, rfl⟩
  have hSc9 := ho_17
  have hcl9 : ∀ q, kOwn D cr9 la9 ea9 F9 S.length q → q < HS9 := fun q hq => by rw [hHS9]; exact ho_18.ownlt hx9 hq
  have hol9 : ∀ q, kOwn D st la ea F S.length q → q < s.heap.size := fun q hq => hP_kState_st.ownlt hx9 hq
  have h_20 := hO_st.fr hF_9 (fun h => by have h9 := hO_st.lt; (try dsimp only at h); (try simp only [kNW] at h); omega)
  refine kx_cb (va_runV (As := [.int (kI ((ln : Nat) : Int))]) (rest := []) ⟨hx, hb, hml, hown, hts⟩ (m_X2_wipe l D H_8 st la ea F S gap ln ho_17 (by first | assumption | omega) (by first | assumption | omega)) (cwV 1 hts (lw_V q1881 q1747 q1748 q80 q1749) rfl rfl rfl (by decide +kernel) ⟨Nat.le_of_ble_eq_true rfl, Nat.le_of_ble_eq_true rfl⟩) (kx_pv hK hS_6 hB (kx_rc hK h_20 (C := RX2) (T := TX2) (N := 2) rfl)) rfl rfl hl.1 rfl (lv_room (Nat.le_of_ble_eq_true rfl)) dX1_wipe_15 ⟨by first | exact Nat.le_of_ble_eq_true rfl | omega | (show _ ≤ _; omega) | (dsimp only [headSpec]; omega), by first | exact Nat.le_of_ble_eq_true rfl | omega | (show _ ≤ _; omega) | (dsimp only [headSpec]; omega)⟩) hS_6 (fun q _ h => by rcases (by rcases h with h | h; exact Or.inl (Or.inr (Or.inl h)); exact Or.inl (Or.inr (Or.inr (Or.inl h))) : kOwn D st la ea F S.length q ∨ HS9 ≤ q) with z | z; exact Or.inl z; exact Or.inr (Or.inr (Or.inr (by omega)))) (fun q h => by rcases (by rcases h with h | h; exact Or.inl (Or.inr (Or.inl h)); exact Or.inl (Or.inr (Or.inr (Or.inl h))) : kOwn D st la ea F S.length q ∨ HS9 ≤ q) with z | z; exact Or.inl z; exact Or.inr (Or.inr (Or.inr (by omega)))) (fun z_26 H_24 locs_21 hz_23 hF_25 hS_22 => ?_)
  have hzf_27 := hF_25.1
  refine W.widen (k := 42) (n := 1101) (Nat.le_of_ble_eq_true rfl) (Nat.le_of_ble_eq_true rfl) ?_
  obtain ⟨hv_28, ho_29⟩ := hz_23
  subst z_26
  have hown9 : ∀ q, kOwn D st la ea (F.eraseIdx ln) (S.eraseIdx ln).length q → kOwn D st la ea F S.length q ∨ HS9 ≤ q := fun q hq => by rw [List.length_eraseIdx_of_lt (by omega)] at hq; exact Or.inl (kOwn_erase (by omega) hq)
  refine lv_pop hx hb dX1_wipe_18 rfl ?_
  have hd9z := hK.dis
  have hx9z : ¬ kBase D ≤ D.2.2.2 2 := hK.tE.out
  obtain ⟨⟨hO_stz, mcz, hO_laz⟩, hLs9z, hLn9z, hF9z, hDs9z, hb1z, hb2z, hb3z⟩ := id ho_29
  refine lv_aload_n hx hb dX1_wipe_19 rfl (lv_at hl 0 rfl) ?_
  have h_30 := ho_16.fr hF_25 (fun hx => by rcases (by have h := hx; rcases h with h | h; exact Or.inl (Or.inr (Or.inl h)); exact Or.inl (Or.inr (Or.inr (Or.inl h))) : kOwn D st la ea F S.length x1 ∨ HS9 ≤ x1) with z | z; exact (hnx _ z).2.2 rfl; omega)
  refine kx_get (v := .ref st) (C := RX1) (T := TX1) (N := 4) hx hb hts in_X1 hown hK h_30 rfl 0 (by decide) q229 (fun _ h9 => h9) rfl dX1_wipe_20 ?_
  refine kx_get (v := .ref la) (C := RX2) (T := TX2) (N := 2) hx hb hts in_X2 hown hK hO_stz rfl 0 (by decide) q168 (fun _ h9 => h9) rfl dX1_wipe_23 ?_
  refine kx_cFi0 (va_runF (C := RJ2) (As := []) (rest := []) (hK.at (ci := 9) rfl) ⟨hx, hb, hml, hown, hts⟩ (m_J2_size l D H_24 la mcz ea ((S.eraseIdx ln).length) hO_laz ) (va_cwF (x := ({ cls := "java/util/List", name := "size", desc := "()I" } : Jvm.MethodName)) 0 hts (lw_F q1267 q283 q285 q83 q287) rfl rfl rfl (hK.fw (by decide)) (by decide +kernel) ⟨Nat.le_of_ble_eq_true rfl, Nat.le_of_ble_eq_true rfl⟩) (kx_pv hK hS_22 hB (kx_rc hK hO_laz (C := RJ2) (T := TJ2) (N := 3) rfl)) rfl rfl hl.1 rfl (lv_room (Nat.le_of_ble_eq_true rfl)) dX1_wipe_26 ⟨by first | exact Nat.le_of_ble_eq_true rfl | omega | (show _ ≤ _; omega) | (dsimp only [headSpec]; omega), by first | exact Nat.le_of_ble_eq_true rfl | omega | (show _ ≤ _; omega) | (dsimp only [headSpec]; omega)⟩) hS_22 (fun z_34 locs_31 hz_33 hS_32 => ?_)
  subst z_34
  refine W.widen (k := 47) (n := 1240) (by omega) (by omega) ?_
  have h_35 := ho_18.fr hd9 hF_25 (fun x hx => by rcases (by have h := hx; rcases h with h | h; exact Or.inl (Or.inr (Or.inl h)); exact Or.inl (Or.inr (Or.inr (Or.inl h))) : kOwn D st la ea F S.length x ∨ HS9 ≤ x) with z | z; exact Or.inr ⟨hSc9.ownty hx9 z, fun w => by have h1 := hcn9 x w; have h2 := hol9 x z; omega⟩; exact Or.inl (by omega))
  have h_36 := ho_19.fr hF_25 ⟨fun hx => by rcases (by have h := hx; rcases h with h | h; exact Or.inl (Or.inr (Or.inl h)); exact Or.inl (Or.inr (Or.inr (Or.inl h))) : kOwn D st la ea F S.length hi ∨ HS9 ≤ hi) with z | z; exact (hnx _ z).1 rfl; omega, fun hx => by rcases (by have h := hx; rcases h with h | h; exact Or.inl (Or.inr (Or.inl h)); exact Or.inl (Or.inr (Or.inr (Or.inl h))) : kOwn D st la ea F S.length es ∨ HS9 ≤ es) with z | z; exact (hnx _ z).2.1 rfl; omega⟩
  exact kx_iret (z := ((((S.eraseIdx ln).length) : Nat) : Int)) hx hb hr hlk (⟨cr9, la9, ea9, F9, ea, (F.eraseIdx ln), by rfl, h_30, ho_29, h_35, h_36, by exact fun q hq => by have h9 := hcn9 q hq; omega, by exact fun q hq => by rcases hown9 q hq with z | z; exact Or.inl z; exact Or.inr (by omega), by exact fun q hq hw => by have h1 := hcn9 q hq; have h2 := hcl9 q hq; rcases hown9 q hw with z | z; (have h3 := hol9 q z; omega); omega⟩) hS_32 dX1_wipe_31

set_option maxHeartbeats 4000000 in
set_option maxRecDepth 100000 in
theorem m_X1_unlabel (l : Launch) (D : kG) (H : Heap) (x1 : Nat) (snp : Option Nat) (hi : Nat) (bu : Nat) (es : Nat) (L : List Nat) (st : Nat) (la : Nat) (ea : Nat) (F : Fts) (S : Ls) (gap : Int) (ln : Nat) (hO_x1 : kO D H x1 0 [.ref st, va_rf (snp), .ref hi, .ref bu]) (hP_kState_st : kState D H st la ea gap S F) (hP_kDq_hi : kDq D H hi es L) (hok : LsOK S gap) (hnx : ∀ q, kOwn D st la ea F S.length q → q ≠ hi ∧ q ≠ es ∧ q ≠ x1) (bs_hi : kBase D ≤ hi) (bs_es : kBase D ≤ es) (ne_x1 : x1 ≠ hi ∧ x1 ≠ es) (hln : ln < S.length) (hlb : ln_lb (st_ln S ln) ≠ -1) : Met l yX1_unlabel (ws_ yX1_unlabel cX1_unlabel 3 (some .int)) ({ frames := 7, cells := 47, slots := 1240, locals := 159 } : Room) (kPre D H [.ref x1, .int (kI ((ln : Nat) : Int))]) (kQi (fun (r : Int) H' => ∃ (cr : Nat) (la2 : Nat) (ea2 : Nat) (F2 : Fts) (ea3 : Nat) (F3 : Fts), (r = ln_lb (st_ln S ln)) ∧ (kO D H' x1 0 [.ref st, va_rf (snp), .ref hi, .ref bu]) ∧ (kState D H' st la ea3 gap (S.set ln (w_lb (st_ln S ln) (-1))) F3) ∧ (kState D H' cr la2 ea2 gap S F2) ∧ (kDq D H' hi es ((pushL L cr))) ∧ (∀ q, kOwn D cr la2 ea2 F2 S.length q → H.size ≤ q) ∧ (∀ q, kOwn D st la ea3 F3 (S.set ln (w_lb (st_ln S ln) (-1))).length q → kOwn D st la ea F S.length q ∨ H.size ≤ q) ∧ (∀ q, kOwn D cr la2 ea2 F2 S.length q → ¬ kOwn D st la ea3 F3 (S.set ln (w_lb (st_ln S ln) (-1))).length q)) (fun q : Nat => kOwn D st la ea F S.length q ∨ q = hi ∨ q = es ∨ H.size ≤ q)) (47) (1240) ((fun q : Nat => kOwn D st la ea F S.length q ∨ q = hi ∨ q = es ∨ H.size ≤ q)) := by
  refine Met.ofW (cc := cX1_unlabel) (maxL := 3) (ret := (some .int)) (by decide) rfl ?_
  intro p e s m args below meth c s₁ B hml hv
  obtain ⟨rfl, hH, hK⟩ := hv
  subst hH
  have hx := B.exec
  have hb := B.bytes
  have hr := B.returns
  have hts := atoms_spec (ws := ws_ yX1_unlabel cX1_unlabel 3 (some .int)) B.pre
  have hts : ∀ w ∈ lw_all, w.before _ s = true := fun w h => hts w (List.mem_cons_of_mem _ h)
  have hown : s.vm.findClass RX1 = some m.cls := findClass_of_methodNamed B.named
  have hlk := B.notSynchronized
  have hS : va_S (fun q : Nat => kOwn D st la ea F S.length q ∨ q = hi ∨ q = es ∨ s.heap.size ≤ q) s.heap s.heap [] := va_S.rf
  have hB : ∀ q, (fun q : Nat => kOwn D st la ea F S.length q ∨ q = hi ∨ q = es ∨ s.heap.size ≤ q) q → kBase D ≤ q := fun q h => by (have h2 := hK.size; rcases h with h | h | h | h; exact hP_kState_st.ownge h; (rw [h]; exact bs_hi); (rw [h]; exact bs_es); exact Nat.le_trans h2 h)
  have hl := lv_entry ([.ref x1, .int (kI ((ln : Nat) : Int))]) (n := 3) (Nat.le_of_ble_eq_true rfl)
  rw [lg_entry_eq]
  generalize (lg_sl ([.ref x1, .int (kI ((ln : Nat) : Int))]) ++ List.replicate (3 - (lg_sl ([.ref x1, .int (kI ((ln : Nat) : Int))])).length) Slot.unset).toArray = ls at hl ⊢
  have hl : lv_has ls 3 [(0, .ref x1), (1, .int (kI ((ln : Nat) : Int)))] := hl
  have hL8 := hok.1
  have hn60 := (hok.ln hln).n
  have hd9 := hK.dis
  have hx9 : ¬ kBase D ≤ D.2.2.2 2 := hK.tE.out
  obtain ⟨⟨hO_st, mc, hO_la⟩, hLs9, hLn9, hF9, hDs9, hb1, hb2, hb3⟩ := id hP_kState_st
  have hltx1 := hO_x1.lt
  have hlthi : hi < s.heap.size ∧ es < s.heap.size := by obtain ⟨_, _, _, z1, z2, _⟩ := hP_kDq_hi; exact ⟨z1.lt, z2.lt⟩
  have hnst := hnx st (Or.inl rfl)
  have hnla := hnx la (Or.inr (Or.inl rfl))
  refine lv_aload_n hx hb dX1_unlabel_0 rfl (lv_at hl 0 rfl) ?_
  refine lv_iload_n hx hb dX1_unlabel_1 rfl (lv_at hl 1 rfl) ?_
  refine kx_cr0 (va_runV (As := [.int (kI ((ln : Nat) : Int))]) (rest := []) ⟨hx, hb, hml, hown, hts⟩ (m_X1_line l D s.heap x1 snp hi bu st la mc ea F S gap ln hO_x1 hO_st hO_la hLs9 hLn9 (by first | assumption | omega) (by first | assumption | omega)) (cwV 1 hts (lw_V q1864 q1866 qs35 q79 q1867) rfl rfl rfl (by decide +kernel) ⟨Nat.le_of_ble_eq_true rfl, Nat.le_of_ble_eq_true rfl⟩) (kx_pv hK hS hB (kx_rc hK hO_x1 (C := RX1) (T := TX1) (N := 4) rfl)) rfl rfl hl.1 rfl (lv_room (Nat.le_of_ble_eq_true rfl)) dX1_unlabel_2 ⟨by first | exact Nat.le_of_ble_eq_true rfl | omega | (show _ ≤ _; omega) | (dsimp only [headSpec]; omega), by first | exact Nat.le_of_ble_eq_true rfl | omega | (show _ ≤ _; omega) | (dsimp only [headSpec]; omega)⟩) hS (fun z_4 locs_1 hz_3 hS_2 => ?_)
  subst z_4
  obtain ⟨ea_5, gp_5, gs_5, ho_5, hp_5, hs_5, he_5, hm_5⟩ := (hLn9 ln (hln))
  have hlbr9 := (hok.ln hln).lbr
  refine kx_get (v := .int (kI (ln_lb (st_ln S ln)))) (C := RX4) (T := TX4) (N := 6) hx hb hts in_X4 hown hK ho_5 rfl 5 (by decide) q350 (fun _ h9 => h9) rfl dX1_unlabel_5 ?_
  refine lv_istore_n (lv' := [(2, .int (kI (ln_lb (st_ln S ln)))), (0, .ref x1), (1, .int (kI ((ln : Nat) : Int)))]) hx hb dX1_unlabel_8 rfl hl (by decide) rfl (fun ls hl => ?_)
  refine lv_iload_n hx hb dX1_unlabel_9 rfl (lv_at hl 0 rfl) ?_
  refine kx_iconst hx hb dX1_unlabel_10 ?_
  refine kx_icmp_eq (x := ln_lb (st_ln S ln)) (y := (-1)) (tgt := 18) hx hb dX1_unlabel_11 (by decide) (by omega) (by omega) (by omega) (by omega) (fun c_11_6 => ?_) (fun c_11_6 => ?_)
  · -- taken at 11
    exfalso; omega
  · -- not taken at 11
    refine kx_iconst hx hb dX1_unlabel_14 ?_
    refine lv_goto (tgt := 19) hx hb dX1_unlabel_15 (by decide) ?_
    refine kx_cv0 (va_runS (As := [.int (kI (1))]) (rest := []) ⟨hx, hb, hml, hown, hts⟩ (m_X1_checkState l D s.heap   ) (va_cwS 1 hts (lw_S q1844 q1845 q79 q1846) rfl rfl rfl (by decide +kernel) ⟨Nat.le_of_ble_eq_true rfl, Nat.le_of_ble_eq_true rfl⟩) (kx_ps hK hS_2 hB) rfl rfl hl.1 rfl (lv_room (Nat.le_of_ble_eq_true rfl)) dX1_unlabel_19 ⟨by first | exact Nat.le_of_ble_eq_true rfl | omega | (show _ ≤ _; omega) | (dsimp only [headSpec]; omega), by first | exact Nat.le_of_ble_eq_true rfl | omega | (show _ ≤ _; omega) | (dsimp only [headSpec]; omega)⟩) hS_2 (fun locs_7 hz_9 hS_8 => ?_)
    refine lv_aload_n hx hb dX1_unlabel_22 rfl (lv_at hl 1 rfl) ?_
    refine kx_cv (va_runV (As := []) (rest := []) ⟨hx, hb, hml, hown, hts⟩ (m_X1_save l D s.heap x1 snp hi bu es L st la ea F S gap hO_x1 hP_kState_st hP_kDq_hi (by first | assumption | omega) hnx bs_hi bs_es ne_x1) (cwV 0 hts (lw_V q247 q249 qs0 q79 q250) rfl rfl rfl (by decide +kernel) ⟨Nat.le_of_ble_eq_true rfl, Nat.le_of_ble_eq_true rfl⟩) (kx_pv hK hS_8 hB (kx_rc hK hO_x1 (C := RX1) (T := TX1) (N := 4) rfl)) rfl rfl hl.1 rfl (lv_room (Nat.le_of_ble_eq_true rfl)) dX1_unlabel_23 ⟨by first | exact Nat.le_of_ble_eq_true rfl | omega | (show _ ≤ _; omega) | (dsimp only [headSpec]; omega), by first | exact Nat.le_of_ble_eq_true rfl | omega | (show _ ≤ _; omega) | (dsimp only [headSpec]; omega)⟩) hS_8 (fun q _ h => by rcases h with h | h | h; exact Or.inr (Or.inl h); exact Or.inr (Or.inr (Or.inl h)); exact Or.inr (Or.inr (Or.inr (by omega)))) (fun q h => by rcases h with h | h | h; exact Or.inr (Or.inl h); exact Or.inr (Or.inr (Or.inl h)); exact Or.inr (Or.inr (Or.inr (by omega)))) (fun H_14 locs_11 hz_13 hF_15 hS_12 => ?_)
    have hzf_17 := hF_15.1
    refine W.widen (k := 42) (n := 1101) (Nat.le_of_ble_eq_true rfl) (Nat.le_of_ble_eq_true rfl) ?_
    obtain ⟨cr9, la9, ea9, F9, ho_22, ho_23, ho_24, ho_25, hcn9⟩ := hz_13
    refine lv_aload_n hx hb dX1_unlabel_26 rfl (lv_at hl 1 rfl) ?_
    refine kx_get (v := .ref st) (C := RX1) (T := TX1) (N := 4) hx hb hts in_X1 hown hK ho_22 rfl 0 (by decide) q229 (fun _ h9 => h9) rfl dX1_unlabel_27 ?_
    refine lv_iload_n hx hb dX1_unlabel_30 rfl (lv_at hl 2 rfl) ?_
    obtain ⟨HS9, hHS9⟩ : ∃ z, z = H_14.size := ⟨_, rfl⟩
    have hSc9 := ho_23
    have hcl9 : ∀ q, kOwn D cr9 la9 ea9 F9 S.length q → q < HS9 := fun q hq => by rw [hHS9]; exact ho_24.ownlt hx9 hq
    have hol9 : ∀ q, kOwn D st la ea F S.length q → q < s.heap.size := fun q hq => hP_kState_st.ownlt hx9 hq
    have h_26 := hO_st.fr hF_15 (fun h => by have h9 := hO_st.lt; (try dsimp only at h); (try simp only [kNW] at h); omega)
    refine kx_cb (va_runV (As := [.int (kI ((ln : Nat) : Int))]) (rest := []) ⟨hx, hb, hml, hown, hts⟩ (m_X2_unlabel l D H_14 st la ea F S gap ln ho_23 (by first | assumption | omega) (by first | assumption | omega) hlb) (cwV 1 hts (lw_V q1914 q1778 q1779 q80 q1780) rfl rfl rfl (by decide +kernel) ⟨Nat.le_of_ble_eq_true rfl, Nat.le_of_ble_eq_true rfl⟩) (kx_pv hK hS_12 hB (kx_rc hK h_26 (C := RX2) (T := TX2) (N := 2) rfl)) rfl rfl hl.1 rfl (lv_room (Nat.le_of_ble_eq_true rfl)) dX1_unlabel_31 ⟨by first | exact Nat.le_of_ble_eq_true rfl | omega | (show _ ≤ _; omega) | (dsimp only [headSpec]; omega), by first | exact Nat.le_of_ble_eq_true rfl | omega | (show _ ≤ _; omega) | (dsimp only [headSpec]; omega)⟩) hS_12 (fun q _ h => by rcases (by exact Or.inl (Or.inr (Or.inr (Or.inr ⟨ln, by omega, Or.inl h⟩))) : kOwn D st la ea F S.length q ∨ HS9 ≤ q) with z | z; exact Or.inl z; exact Or.inr (Or.inr (Or.inr (by omega)))) (fun q h => by rcases (by exact Or.inl (Or.inr (Or.inr (Or.inr ⟨ln, by omega, Or.inl h⟩))) : kOwn D st la ea F S.length q ∨ HS9 ≤ q) with z | z; exact Or.inl z; exact Or.inr (Or.inr (Or.inr (by omega)))) (fun z_32 H_30 locs_27 hz_29 hF_31 hS_28 => ?_)
    have hzf_33 := hF_31.1
    refine W.widen (k := 42) (n := 1101) (Nat.le_of_ble_eq_true rfl) (Nat.le_of_ble_eq_true rfl) ?_
    obtain ⟨hv_34, ho_35⟩ := hz_29
    subst z_32
    have hown9 : ∀ q, kOwn D st la ea F ((S.set ln (w_lb (st_ln S ln) (-1)))).length q → kOwn D st la ea F S.length q ∨ HS9 ≤ q := fun q hq => by rw [List.length_set] at hq; exact Or.inl hq
    refine lv_pop hx hb dX1_unlabel_34 rfl ?_
    refine lv_iload_n hx hb dX1_unlabel_35 rfl (lv_at hl 0 rfl) ?_
    refine W.widen (k := 47) (n := 1240) (by omega) (by omega) ?_
    have h_36 := ho_22.fr hF_31 (fun hx => by rcases (by have h := hx; exact Or.inl (Or.inr (Or.inr (Or.inr ⟨ln, by omega, Or.inl h⟩))) : kOwn D st la ea F S.length x1 ∨ HS9 ≤ x1) with z | z; exact (hnx _ z).2.2 rfl; omega)
    have h_37 := ho_24.fr hd9 hF_31 (fun x hx => by rcases (by have h := hx; exact Or.inl (Or.inr (Or.inr (Or.inr ⟨ln, by omega, Or.inl h⟩))) : kOwn D st la ea F S.length x ∨ HS9 ≤ x) with z | z; exact Or.inr ⟨hSc9.ownty hx9 z, fun w => by have h1 := hcn9 x w; have h2 := hol9 x z; omega⟩; exact Or.inl (by omega))
    have h_38 := ho_25.fr hF_31 ⟨fun hx => by rcases (by have h := hx; exact Or.inl (Or.inr (Or.inr (Or.inr ⟨ln, by omega, Or.inl h⟩))) : kOwn D st la ea F S.length hi ∨ HS9 ≤ hi) with z | z; exact (hnx _ z).1 rfl; omega, fun hx => by rcases (by have h := hx; exact Or.inl (Or.inr (Or.inr (Or.inr ⟨ln, by omega, Or.inl h⟩))) : kOwn D st la ea F S.length es ∨ HS9 ≤ es) with z | z; exact (hnx _ z).2.1 rfl; omega⟩
    exact kx_iret (z := ln_lb (st_ln S ln)) hx hb hr hlk (⟨cr9, la9, ea9, F9, ea, F, by rfl, h_36, ho_35, h_37, h_38, by exact fun q hq => by have h9 := hcn9 q hq; omega, by exact fun q hq => by rcases hown9 q hq with z | z; exact Or.inl z; exact Or.inr (by omega), by exact fun q hq hw => by have h1 := hcn9 q hq; have h2 := hcl9 q hq; rcases hown9 q hw with z | z; (have h3 := hol9 q z; omega); omega⟩) hS_28 dX1_unlabel_36

set_option maxHeartbeats 4000000 in
set_option maxRecDepth 100000 in
theorem m_X1_labelBest (l : Launch) (D : kG) (H : Heap) (x1 : Nat) (snp : Option Nat) (hi : Nat) (bu : Nat) (es : Nat) (L : List Nat) (st : Nat) (la : Nat) (ea : Nat) (F : Fts) (S : Ls) (gap : Int) (ln : Nat) (hO_x1 : kO D H x1 0 [.ref st, va_rf (snp), .ref hi, .ref bu]) (hP_kState_st : kState D H st la ea gap S F) (hP_kDq_hi : kDq D H hi es L) (hok : LsOK S gap) (hnx : ∀ q, kOwn D st la ea F S.length q → q ≠ hi ∧ q ≠ es ∧ q ≠ x1) (bs_hi : kBase D ≤ hi) (bs_es : kBase D ≤ es) (ne_x1 : x1 ≠ hi ∧ x1 ≠ es) (hln : ln < S.length) (hbp : st_best S gap ln ≠ -1) : Met l yX1_labelBest (ws_ yX1_labelBest cX1_labelBest 2 (some .int)) ({ frames := 10, cells := 800, slots := 3300, locals := 3169 } : Room) (kPre D H [.ref x1, .int (kI ((ln : Nat) : Int))]) (kQi (fun (r : Int) H' => ∃ (cr : Nat) (la2 : Nat) (ea2 : Nat) (F2 : Fts) (ea3 : Nat) (F3 : Fts), (r = st_best S gap ln) ∧ (kO D H' x1 0 [.ref st, va_rf (snp), .ref hi, .ref bu]) ∧ (kState D H' st la ea3 gap (S.set ln (w_lb (st_ln S ln) (st_best S gap ln))) F3) ∧ (kState D H' cr la2 ea2 gap S F2) ∧ (kDq D H' hi es ((pushL L cr))) ∧ (∀ q, kOwn D cr la2 ea2 F2 S.length q → H.size ≤ q) ∧ (∀ q, kOwn D st la ea3 F3 (S.set ln (w_lb (st_ln S ln) (st_best S gap ln))).length q → kOwn D st la ea F S.length q ∨ H.size ≤ q) ∧ (∀ q, kOwn D cr la2 ea2 F2 S.length q → ¬ kOwn D st la ea3 F3 (S.set ln (w_lb (st_ln S ln) (st_best S gap ln))).length q)) (fun q : Nat => kOwn D st la ea F S.length q ∨ q = hi ∨ q = es ∨ H.size ≤ q)) (800) (3300) ((fun q : Nat => kOwn D st la ea F S.length q ∨ q = hi ∨ q = es ∨ H.size ≤ q)) := by
  refine Met.ofW (cc := cX1_labelBest) (maxL := 2) (ret := (some .int)) (by decide) rfl ?_
  intro p e s m args below meth c s₁ B hml hv
  obtain ⟨rfl, hH, hK⟩ := hv
  subst hH
  have hx := B.exec
  have hb := B.bytes
  have hr := B.returns
  have hts := atoms_spec (ws := ws_ yX1_labelBest cX1_labelBest 2 (some .int)) B.pre
  have hts : ∀ w ∈ lw_all, w.before _ s = true := fun w h => hts w (List.mem_cons_of_mem _ h)
  have hown : s.vm.findClass RX1 = some m.cls := findClass_of_methodNamed B.named
  have hlk := B.notSynchronized
  have hS : va_S (fun q : Nat => kOwn D st la ea F S.length q ∨ q = hi ∨ q = es ∨ s.heap.size ≤ q) s.heap s.heap [] := va_S.rf
  have hB : ∀ q, (fun q : Nat => kOwn D st la ea F S.length q ∨ q = hi ∨ q = es ∨ s.heap.size ≤ q) q → kBase D ≤ q := fun q h => by (have h2 := hK.size; rcases h with h | h | h | h; exact hP_kState_st.ownge h; (rw [h]; exact bs_hi); (rw [h]; exact bs_es); exact Nat.le_trans h2 h)
  have hl := lv_entry ([.ref x1, .int (kI ((ln : Nat) : Int))]) (n := 2) (Nat.le_of_ble_eq_true rfl)
  rw [lg_entry_eq]
  generalize (lg_sl ([.ref x1, .int (kI ((ln : Nat) : Int))]) ++ List.replicate (2 - (lg_sl ([.ref x1, .int (kI ((ln : Nat) : Int))])).length) Slot.unset).toArray = ls at hl ⊢
  have hl : lv_has ls 2 [(0, .ref x1), (1, .int (kI ((ln : Nat) : Int)))] := hl
  have hL8 := hok.1
  have hn60 := (hok.ln hln).n
  have hbo9 := (st_best_ok S gap ln).resolve_left hbp
  have hd9 := hK.dis
  have hx9 : ¬ kBase D ≤ D.2.2.2 2 := hK.tE.out
  obtain ⟨⟨hO_st, mc, hO_la⟩, hLs9, hLn9, hF9, hDs9, hb1, hb2, hb3⟩ := id hP_kState_st
  have hltx1 := hO_x1.lt
  have hlthi : hi < s.heap.size ∧ es < s.heap.size := by obtain ⟨_, _, _, z1, z2, _⟩ := hP_kDq_hi; exact ⟨z1.lt, z2.lt⟩
  have hnst := hnx st (Or.inl rfl)
  have hnla := hnx la (Or.inr (Or.inl rfl))
  refine lv_aload_n hx hb dX1_labelBest_0 rfl (lv_at hl 0 rfl) ?_
  refine lv_iload_n hx hb dX1_labelBest_1 rfl (lv_at hl 1 rfl) ?_
  refine kx_cr0 (va_runV (As := [.int (kI ((ln : Nat) : Int))]) (rest := []) ⟨hx, hb, hml, hown, hts⟩ (m_X1_line l D s.heap x1 snp hi bu st la mc ea F S gap ln hO_x1 hO_st hO_la hLs9 hLn9 (by first | assumption | omega) (by first | assumption | omega)) (cwV 1 hts (lw_V q1864 q1866 qs35 q79 q1867) rfl rfl rfl (by decide +kernel) ⟨Nat.le_of_ble_eq_true rfl, Nat.le_of_ble_eq_true rfl⟩) (kx_pv hK hS hB (kx_rc hK hO_x1 (C := RX1) (T := TX1) (N := 4) rfl)) rfl rfl hl.1 rfl (lv_room (Nat.le_of_ble_eq_true rfl)) dX1_labelBest_2 ⟨by first | exact Nat.le_of_ble_eq_true rfl | omega | (show _ ≤ _; omega) | (dsimp only [headSpec]; omega), by first | exact Nat.le_of_ble_eq_true rfl | omega | (show _ ≤ _; omega) | (dsimp only [headSpec]; omega)⟩) hS (fun z_4 locs_1 hz_3 hS_2 => ?_)
  subst z_4
  refine lv_pop hx hb dX1_labelBest_5 rfl ?_
  refine lv_aload_n hx hb dX1_labelBest_6 rfl (lv_at hl 0 rfl) ?_
  refine kx_get (v := .ref st) (C := RX1) (T := TX1) (N := 4) hx hb hts in_X1 hown hK hO_x1 rfl 0 (by decide) q229 (fun _ h9 => h9) rfl dX1_labelBest_7 ?_
  refine lv_iload_n hx hb dX1_labelBest_10 rfl (lv_at hl 1 rfl) ?_
  refine kx_ci (va_runV (As := [.int (kI ((ln : Nat) : Int))]) (rest := []) ⟨hx, hb, hml, hown, hts⟩ (m_X2_bestPlace l D s.heap st la mc ea F S gap ln hO_st hO_la hLs9 hLn9 (by first | assumption | omega) (by first | assumption | omega)) (cwV 1 hts (lw_V q1922 q1014 q1015 q80 q1016) rfl rfl rfl (by decide +kernel) ⟨Nat.le_of_ble_eq_true rfl, Nat.le_of_ble_eq_true rfl⟩) (kx_pv hK hS_2 hB (kx_rc hK hO_st (C := RX2) (T := TX2) (N := 2) rfl)) rfl rfl hl.1 rfl (lv_room (Nat.le_of_ble_eq_true rfl)) dX1_labelBest_11 ⟨by first | exact Nat.le_of_ble_eq_true rfl | omega | (show _ ≤ _; omega) | (dsimp only [headSpec]; omega), by first | exact Nat.le_of_ble_eq_true rfl | omega | (show _ ≤ _; omega) | (dsimp only [headSpec]; omega)⟩) hS_2 (fun q _ h => Or.inr (Or.inr (Or.inr (by (try dsimp only at h); (try simp only [kNW] at h); omega)))) (fun q h => Or.inr (Or.inr (Or.inr (by (try dsimp only at h); (try simp only [kNW] at h); omega)))) (fun z_10 H_8 locs_5 hz_7 hF_9 hS_6 => ?_)
  have hzf_11 := hF_9.1
  have hF_9 := hF_9.nw
  refine W.widen (k := 369) (n := 1040) (Nat.le_of_ble_eq_true rfl) (Nat.le_of_ble_eq_true rfl) ?_
  obtain ⟨hv_12, hnw_13⟩ := hz_7
  subst z_10
  refine kx_iconst hx hb dX1_labelBest_14 ?_
  refine kx_icmp_eq (x := st_best S gap ln) (y := (-1)) (tgt := 22) hx hb dX1_labelBest_15 (by decide) (by omega) (by omega) (by omega) (by omega) (fun c_15_14 => ?_) (fun c_15_14 => ?_)
  · -- taken at 15
    exfalso; omega
  · -- not taken at 15
    refine kx_iconst hx hb dX1_labelBest_18 ?_
    refine lv_goto (tgt := 23) hx hb dX1_labelBest_19 (by decide) ?_
    refine kx_cv0 (va_runS (As := [.int (kI (1))]) (rest := []) ⟨hx, hb, hml, hown, hts⟩ (m_X1_checkState l D H_8   ) (va_cwS 1 hts (lw_S q1844 q1845 q79 q1846) rfl rfl rfl (by decide +kernel) ⟨Nat.le_of_ble_eq_true rfl, Nat.le_of_ble_eq_true rfl⟩) (kx_ps hK hS_6 hB) rfl rfl hl.1 rfl (lv_room (Nat.le_of_ble_eq_true rfl)) dX1_labelBest_23 ⟨by first | exact Nat.le_of_ble_eq_true rfl | omega | (show _ ≤ _; omega) | (dsimp only [headSpec]; omega), by first | exact Nat.le_of_ble_eq_true rfl | omega | (show _ ≤ _; omega) | (dsimp only [headSpec]; omega)⟩) hS_6 (fun locs_15 hz_17 hS_16 => ?_)
    refine lv_aload_n hx hb dX1_labelBest_26 rfl (lv_at hl 0 rfl) ?_
    have h_19 := hO_x1.ex hF_9
    have h_20 := hP_kState_st.ex hF_9
    have h_21 := hP_kDq_hi.ex hF_9
    refine kx_cv (va_runV (As := []) (rest := []) ⟨hx, hb, hml, hown, hts⟩ (m_X1_save l D H_8 x1 snp hi bu es L st la ea F S gap h_19 h_20 h_21 (by first | assumption | omega) hnx bs_hi bs_es ne_x1) (cwV 0 hts (lw_V q247 q249 qs0 q79 q250) rfl rfl rfl (by decide +kernel) ⟨Nat.le_of_ble_eq_true rfl, Nat.le_of_ble_eq_true rfl⟩) (kx_pv hK hS_16 hB (kx_rc hK h_19 (C := RX1) (T := TX1) (N := 4) rfl)) rfl rfl hl.1 rfl (lv_room (Nat.le_of_ble_eq_true rfl)) dX1_labelBest_27 ⟨by first | exact Nat.le_of_ble_eq_true rfl | omega | (show _ ≤ _; omega) | (dsimp only [headSpec]; omega), by first | exact Nat.le_of_ble_eq_true rfl | omega | (show _ ≤ _; omega) | (dsimp only [headSpec]; omega)⟩) hS_16 (fun q _ h => by rcases h with h | h | h; exact Or.inr (Or.inl h); exact Or.inr (Or.inr (Or.inl h)); exact Or.inr (Or.inr (Or.inr (by omega)))) (fun q h => by rcases h with h | h | h; exact Or.inr (Or.inl h); exact Or.inr (Or.inr (Or.inl h)); exact Or.inr (Or.inr (Or.inr (by omega)))) (fun H_25 locs_22 hz_24 hF_26 hS_23 => ?_)
    have hzf_28 := hF_26.1
    refine W.widen (k := 411) (n := 2141) (Nat.le_of_ble_eq_true rfl) (Nat.le_of_ble_eq_true rfl) ?_
    obtain ⟨cr9, la9, ea9, F9, ho_33, ho_34, ho_35, ho_36, hcn9⟩ := hz_24
    refine lv_aload_n hx hb dX1_labelBest_30 rfl (lv_at hl 0 rfl) ?_
    refine kx_get (v := .ref st) (C := RX1) (T := TX1) (N := 4) hx hb hts in_X1 hown hK ho_33 rfl 0 (by decide) q229 (fun _ h9 => h9) rfl dX1_labelBest_31 ?_
    refine lv_iload_n hx hb dX1_labelBest_34 rfl (lv_at hl 1 rfl) ?_
    obtain ⟨HS9, hHS9⟩ : ∃ z, z = H_25.size := ⟨_, rfl⟩
    have hSc9 := ho_34
    have hcl9 : ∀ q, kOwn D cr9 la9 ea9 F9 S.length q → q < HS9 := fun q hq => by rw [hHS9]; exact ho_35.ownlt hx9 hq
    have hol9 : ∀ q, kOwn D st la ea F S.length q → q < s.heap.size := fun q hq => hP_kState_st.ownlt hx9 hq
    have h_37 := hO_st.ex hF_9
    have h_38 := h_37.fr hF_26 (fun h => by have h9 := h_37.lt; (try dsimp only at h); (try simp only [kNW] at h); omega)
    refine kx_cb (va_runV (As := [.int (kI ((ln : Nat) : Int))]) (rest := []) ⟨hx, hb, hml, hown, hts⟩ (m_X2_labelBest l D H_25 st la ea F S gap ln ho_34 (by first | assumption | omega) (by first | assumption | omega) hbp) (cwV 1 hts (lw_V q1923 q1006 q1007 q80 q1008) rfl rfl rfl (by decide +kernel) ⟨Nat.le_of_ble_eq_true rfl, Nat.le_of_ble_eq_true rfl⟩) (kx_pv hK hS_23 hB (kx_rc hK h_38 (C := RX2) (T := TX2) (N := 2) rfl)) rfl rfl hl.1 rfl (lv_room (Nat.le_of_ble_eq_true rfl)) dX1_labelBest_35 ⟨by first | exact Nat.le_of_ble_eq_true rfl | omega | (show _ ≤ _; omega) | (dsimp only [headSpec]; omega), by first | exact Nat.le_of_ble_eq_true rfl | omega | (show _ ≤ _; omega) | (dsimp only [headSpec]; omega)⟩) hS_23 (fun q _ h => by rcases (by rcases h with h | h; exact Or.inl (Or.inr (Or.inr (Or.inr ⟨ln, by omega, Or.inl h⟩))); exact Or.inr (by omega) : kOwn D st la ea F S.length q ∨ HS9 ≤ q) with z | z; exact Or.inl z; exact Or.inr (Or.inr (Or.inr (by omega)))) (fun q h => by rcases (by rcases h with h | h; exact Or.inl (Or.inr (Or.inr (Or.inr ⟨ln, by omega, Or.inl h⟩))); exact Or.inr (by omega) : kOwn D st la ea F S.length q ∨ HS9 ≤ q) with z | z; exact Or.inl z; exact Or.inr (Or.inr (Or.inr (by omega)))) (fun z_44 H_42 locs_39 hz_41 hF_43 hS_40 => ?_)
    have hzf_45 := hF_43.1
    refine W.widen (k := 785) (n := 3194) (Nat.le_of_ble_eq_true rfl) (Nat.le_of_ble_eq_true rfl) ?_
    obtain ⟨hv_46, ho_47⟩ := hz_41
    subst z_44
    have hown9 : ∀ q, kOwn D st la ea F ((S.set ln (w_lb (st_ln S ln) (st_best S gap ln)))).length q → kOwn D st la ea F S.length q ∨ HS9 ≤ q := fun q hq => by rw [List.length_set] at hq; exact Or.inl hq
    refine lv_pop hx hb dX1_labelBest_38 rfl ?_
    have hl29 : ((S.set ln (w_lb (st_ln S ln) (st_best S gap ln)))).length = S.length := List.length_set
    have hd9z := hK.dis
    have hx9z : ¬ kBase D ≤ D.2.2.2 2 := hK.tE.out
    obtain ⟨⟨hO_stz, mcz, hO_laz⟩, hLs9z, hLn9z, hF9z, hDs9z, hb1z, hb2z, hb3z⟩ := id ho_47
    have hLz : st_ln (S.set ln (w_lb (st_ln S ln) (st_best S gap ln))) ln = w_lb (st_ln S ln) (st_best S gap ln) := by rw [st_ln_set hln, if_pos rfl]
    have hokz : LsOK (S.set ln (w_lb (st_ln S ln) (st_best S gap ln))) gap := hok.set hln ((hok.ln hln).setLb (Or.inr ⟨hbo9.1, hbo9.2.2.2⟩))
    refine lv_aload_n hx hb dX1_labelBest_39 rfl (lv_at hl 0 rfl) ?_
    refine lv_iload_n hx hb dX1_labelBest_40 rfl (lv_at hl 1 rfl) ?_
    have h_48 := ho_33.fr hF_43 (fun hx => by rcases (by have h := hx; rcases h with h | h; exact Or.inl (Or.inr (Or.inr (Or.inr ⟨ln, by omega, Or.inl h⟩))); exact Or.inr (by omega) : kOwn D st la ea F S.length x1 ∨ HS9 ≤ x1) with z | z; exact (hnx _ z).2.2 rfl; omega)
    refine kx_cr0 (va_runV (As := [.int (kI ((ln : Nat) : Int))]) (rest := []) ⟨hx, hb, hml, hown, hts⟩ (m_X1_line l D H_42 x1 snp hi bu st la mcz ea F ((S.set ln (w_lb (st_ln S ln) (st_best S gap ln)))) gap ln h_48 hO_stz hO_laz hLs9z hLn9z hokz ((by omega))) (cwV 1 hts (lw_V q1864 q1866 qs35 q79 q1867) rfl rfl rfl (by decide +kernel) ⟨Nat.le_of_ble_eq_true rfl, Nat.le_of_ble_eq_true rfl⟩) (kx_pv hK hS_40 hB (kx_rc hK h_48 (C := RX1) (T := TX1) (N := 4) rfl)) rfl rfl hl.1 rfl (lv_room (Nat.le_of_ble_eq_true rfl)) dX1_labelBest_41 ⟨by first | exact Nat.le_of_ble_eq_true rfl | omega | (show _ ≤ _; omega) | (dsimp only [headSpec]; omega), by first | exact Nat.le_of_ble_eq_true rfl | omega | (show _ ≤ _; omega) | (dsimp only [headSpec]; omega)⟩) hS_40 (fun z_52 locs_49 hz_51 hS_50 => ?_)
    subst z_52
    obtain ⟨ea_53, gp_53, gs_53, ho_53, hp_53, hs_53, he_53, hm_53⟩ := (hLn9z ln (by omega))
    refine kx_get (v := .int (kI (ln_lb (st_ln (S.set ln (w_lb (st_ln S ln) (st_best S gap ln))) ln)))) (C := RX4) (T := TX4) (N := 6) hx hb hts in_X4 hown hK ho_53 rfl 5 (by decide) q350 (fun _ h9 => h9) rfl dX1_labelBest_44 ?_
    refine W.widen (k := 800) (n := 3300) (by omega) (by omega) ?_
    have h_54 := ho_35.fr hd9 hF_43 (fun x hx => by rcases (by have h := hx; rcases h with h | h; exact Or.inl (Or.inr (Or.inr (Or.inr ⟨ln, by omega, Or.inl h⟩))); exact Or.inr (by omega) : kOwn D st la ea F S.length x ∨ HS9 ≤ x) with z | z; exact Or.inr ⟨hSc9.ownty hx9 z, fun w => by have h1 := hcn9 x w; have h2 := hol9 x z; omega⟩; exact Or.inl (by omega))
    have h_55 := ho_36.fr hF_43 ⟨fun hx => by rcases (by have h := hx; rcases h with h | h; exact Or.inl (Or.inr (Or.inr (Or.inr ⟨ln, by omega, Or.inl h⟩))); exact Or.inr (by omega) : kOwn D st la ea F S.length hi ∨ HS9 ≤ hi) with z | z; exact (hnx _ z).1 rfl; omega, fun hx => by rcases (by have h := hx; rcases h with h | h; exact Or.inl (Or.inr (Or.inr (Or.inr ⟨ln, by omega, Or.inl h⟩))); exact Or.inr (by omega) : kOwn D st la ea F S.length es ∨ HS9 ≤ es) with z | z; exact (hnx _ z).2.1 rfl; omega⟩
    exact kx_iret (z := ln_lb (st_ln (S.set ln (w_lb (st_ln S ln) (st_best S gap ln))) ln)) hx hb hr hlk (⟨cr9, la9, ea9, F9, ea, F, by rw [hLz]; rfl, h_48, ho_47, h_54, h_55, by exact fun q hq => by have h9 := hcn9 q hq; omega, by exact fun q hq => by rcases hown9 q hq with z | z; exact Or.inl z; exact Or.inr (by omega), by exact fun q hq hw => by have h1 := hcn9 q hq; have h2 := hcl9 q hq; rcases hown9 q hw with z | z; (have h3 := hol9 q z; omega); omega⟩) hS_50 dX1_labelBest_47

set_option maxHeartbeats 4000000 in
set_option maxRecDepth 100000 in
theorem m_X1_label (l : Launch) (D : kG) (H : Heap) (x1 : Nat) (snp : Option Nat) (hi : Nat) (bu : Nat) (es : Nat) (L : List Nat) (st : Nat) (la : Nat) (ea : Nat) (F : Fts) (S : Ls) (gap : Int) (ln : Nat) (pl : Nat) (hO_x1 : kO D H x1 0 [.ref st, va_rf (snp), .ref hi, .ref bu]) (hP_kState_st : kState D H st la ea gap S F) (hP_kDq_hi : kDq D H hi es L) (hok : LsOK S gap) (hnx : ∀ q, kOwn D st la ea F S.length q → q ≠ hi ∧ q ≠ es ∧ q ≠ x1) (bs_hi : kBase D ≤ hi) (bs_es : kBase D ≤ es) (ne_x1 : x1 ≠ hi ∧ x1 ≠ es) (hln : ln < S.length) (hpl : pl ≤ ln_n (st_ln S ln)) (hwl : st_whyL S gap ln pl = 0) : Met l yX1_label (ws_ yX1_label cX1_label 3 (some .int)) ({ frames := 9, cells := 60, slots := 1300, locals := 3147 } : Room) (kPre D H [.ref x1, .int (kI ((ln : Nat) : Int)), .int (kI ((pl : Nat) : Int))]) (kQi (fun (r : Int) H' => ∃ (cr : Nat) (la2 : Nat) (ea2 : Nat) (F2 : Fts) (ea3 : Nat) (F3 : Fts), (r = ln_bends (st_ln S ln) (pl : Int)) ∧ (kO D H' x1 0 [.ref st, va_rf (snp), .ref hi, .ref bu]) ∧ (kState D H' st la ea3 gap (S.set ln (w_lb (st_ln S ln) (pl : Int))) F3) ∧ (kState D H' cr la2 ea2 gap S F2) ∧ (kDq D H' hi es ((pushL L cr))) ∧ (∀ q, kOwn D cr la2 ea2 F2 S.length q → H.size ≤ q) ∧ (∀ q, kOwn D st la ea3 F3 (S.set ln (w_lb (st_ln S ln) (pl : Int))).length q → kOwn D st la ea F S.length q ∨ H.size ≤ q) ∧ (∀ q, kOwn D cr la2 ea2 F2 S.length q → ¬ kOwn D st la ea3 F3 (S.set ln (w_lb (st_ln S ln) (pl : Int))).length q)) (fun q : Nat => kOwn D st la ea F S.length q ∨ q = hi ∨ q = es ∨ H.size ≤ q)) (60) (1300) ((fun q : Nat => kOwn D st la ea F S.length q ∨ q = hi ∨ q = es ∨ H.size ≤ q)) := by
  refine Met.ofW (cc := cX1_label) (maxL := 3) (ret := (some .int)) (by decide) rfl ?_
  intro p e s m args below meth c s₁ B hml hv
  obtain ⟨rfl, hH, hK⟩ := hv
  subst hH
  have hx := B.exec
  have hb := B.bytes
  have hr := B.returns
  have hts := atoms_spec (ws := ws_ yX1_label cX1_label 3 (some .int)) B.pre
  have hts : ∀ w ∈ lw_all, w.before _ s = true := fun w h => hts w (List.mem_cons_of_mem _ h)
  have hown : s.vm.findClass RX1 = some m.cls := findClass_of_methodNamed B.named
  have hlk := B.notSynchronized
  have hS : va_S (fun q : Nat => kOwn D st la ea F S.length q ∨ q = hi ∨ q = es ∨ s.heap.size ≤ q) s.heap s.heap [] := va_S.rf
  have hB : ∀ q, (fun q : Nat => kOwn D st la ea F S.length q ∨ q = hi ∨ q = es ∨ s.heap.size ≤ q) q → kBase D ≤ q := fun q h => by (have h2 := hK.size; rcases h with h | h | h | h; exact hP_kState_st.ownge h; (rw [h]; exact bs_hi); (rw [h]; exact bs_es); exact Nat.le_trans h2 h)
  have hl := lv_entry ([.ref x1, .int (kI ((ln : Nat) : Int)), .int (kI ((pl : Nat) : Int))]) (n := 3) (Nat.le_of_ble_eq_true rfl)
  rw [lg_entry_eq]
  generalize (lg_sl ([.ref x1, .int (kI ((ln : Nat) : Int)), .int (kI ((pl : Nat) : Int))]) ++ List.replicate (3 - (lg_sl ([.ref x1, .int (kI ((ln : Nat) : Int)), .int (kI ((pl : Nat) : Int))])).length) Slot.unset).toArray = ls at hl ⊢
  have hl : lv_has ls 3 [(0, .ref x1), (1, .int (kI ((ln : Nat) : Int))), (2, .int (kI ((pl : Nat) : Int)))] := hl
  have hL8 := hok.1
  have hn60 := (hok.ln hln).n
  have hd9 := hK.dis
  have hx9 : ¬ kBase D ≤ D.2.2.2 2 := hK.tE.out
  obtain ⟨⟨hO_st, mc, hO_la⟩, hLs9, hLn9, hF9, hDs9, hb1, hb2, hb3⟩ := id hP_kState_st
  have hltx1 := hO_x1.lt
  have hlthi : hi < s.heap.size ∧ es < s.heap.size := by obtain ⟨_, _, _, z1, z2, _⟩ := hP_kDq_hi; exact ⟨z1.lt, z2.lt⟩
  have hnst := hnx st (Or.inl rfl)
  have hnla := hnx la (Or.inr (Or.inl rfl))
  refine lv_aload_n hx hb dX1_label_0 rfl (lv_at hl 0 rfl) ?_
  refine lv_iload_n hx hb dX1_label_1 rfl (lv_at hl 1 rfl) ?_
  refine lv_iload_n hx hb dX1_label_2 rfl (lv_at hl 2 rfl) ?_
  refine kx_ci (va_runV (As := [.int (kI ((ln : Nat) : Int)), .int (kI ((pl : Nat) : Int))]) (rest := []) ⟨hx, hb, hml, hown, hts⟩ (m_X1_whyNotLabelled l D s.heap x1 snp hi bu st la mc ea F S gap ln pl hO_x1 hO_st hO_la hLs9 hLn9 (by first | assumption | omega) (by first | assumption | omega) (by first | assumption | omega)) (cwV 2 hts (lw_V q1896 q1897 q1898 q79 q1899) rfl rfl rfl (by decide +kernel) ⟨Nat.le_of_ble_eq_true rfl, Nat.le_of_ble_eq_true rfl⟩) (kx_pv hK hS hB (kx_rc hK hO_x1 (C := RX1) (T := TX1) (N := 4) rfl)) rfl rfl hl.1 rfl (lv_room (Nat.le_of_ble_eq_true rfl)) dX1_label_3 ⟨by first | exact Nat.le_of_ble_eq_true rfl | omega | (show _ ≤ _; omega) | (dsimp only [headSpec]; omega), by first | exact Nat.le_of_ble_eq_true rfl | omega | (show _ ≤ _; omega) | (dsimp only [headSpec]; omega)⟩) hS (fun q _ h => Or.inr (Or.inr (Or.inr (by (try dsimp only at h); (try simp only [kNW] at h); omega)))) (fun q h => Or.inr (Or.inr (Or.inr (by (try dsimp only at h); (try simp only [kNW] at h); omega)))) (fun z_6 H_4 locs_1 hz_3 hF_5 hS_2 => ?_)
  have hzf_7 := hF_5.1
  have hF_5 := hF_5.nw
  refine W.widen (k := 5) (n := 13) (Nat.le_of_ble_eq_true rfl) (Nat.le_of_ble_eq_true rfl) ?_
  obtain ⟨hv_8, htr_9⟩ := hz_3
  subst z_6
  refine kx_if_ne (x := st_whyL S gap ln pl) (tgt := 13) hx hb dX1_label_6 (by decide) (by have := st_whyL_rng S gap ln pl; omega) (by have := st_whyL_rng S gap ln pl; omega) (fun c_6_10 => ?_) (fun c_6_10 => ?_)
  · -- taken at 6
    exfalso; omega
  · -- not taken at 6
    refine kx_iconst hx hb dX1_label_9 ?_
    refine lv_goto (tgt := 14) hx hb dX1_label_10 (by decide) ?_
    refine kx_cv0 (va_runS (As := [.int (kI (1))]) (rest := []) ⟨hx, hb, hml, hown, hts⟩ (m_X1_checkState l D H_4   ) (va_cwS 1 hts (lw_S q1844 q1845 q79 q1846) rfl rfl rfl (by decide +kernel) ⟨Nat.le_of_ble_eq_true rfl, Nat.le_of_ble_eq_true rfl⟩) (kx_ps hK hS_2 hB) rfl rfl hl.1 rfl (lv_room (Nat.le_of_ble_eq_true rfl)) dX1_label_14 ⟨by first | exact Nat.le_of_ble_eq_true rfl | omega | (show _ ≤ _; omega) | (dsimp only [headSpec]; omega), by first | exact Nat.le_of_ble_eq_true rfl | omega | (show _ ≤ _; omega) | (dsimp only [headSpec]; omega)⟩) hS_2 (fun locs_11 hz_13 hS_12 => ?_)
    refine lv_aload_n hx hb dX1_label_17 rfl (lv_at hl 0 rfl) ?_
    have h_15 := hO_x1.ex hF_5
    have h_16 := hP_kState_st.ex hF_5
    have h_17 := hP_kDq_hi.ex hF_5
    refine kx_cv (va_runV (As := []) (rest := []) ⟨hx, hb, hml, hown, hts⟩ (m_X1_save l D H_4 x1 snp hi bu es L st la ea F S gap h_15 h_16 h_17 (by first | assumption | omega) hnx bs_hi bs_es ne_x1) (cwV 0 hts (lw_V q247 q249 qs0 q79 q250) rfl rfl rfl (by decide +kernel) ⟨Nat.le_of_ble_eq_true rfl, Nat.le_of_ble_eq_true rfl⟩) (kx_pv hK hS_12 hB (kx_rc hK h_15 (C := RX1) (T := TX1) (N := 4) rfl)) rfl rfl hl.1 rfl (lv_room (Nat.le_of_ble_eq_true rfl)) dX1_label_18 ⟨by first | exact Nat.le_of_ble_eq_true rfl | omega | (show _ ≤ _; omega) | (dsimp only [headSpec]; omega), by first | exact Nat.le_of_ble_eq_true rfl | omega | (show _ ≤ _; omega) | (dsimp only [headSpec]; omega)⟩) hS_12 (fun q _ h => by rcases h with h | h | h; exact Or.inr (Or.inl h); exact Or.inr (Or.inr (Or.inl h)); exact Or.inr (Or.inr (Or.inr (by omega)))) (fun q h => by rcases h with h | h | h; exact Or.inr (Or.inl h); exact Or.inr (Or.inr (Or.inl h)); exact Or.inr (Or.inr (Or.inr (by omega)))) (fun H_21 locs_18 hz_20 hF_22 hS_19 => ?_)
    have hzf_24 := hF_22.1
    refine W.widen (k := 47) (n := 1114) (Nat.le_of_ble_eq_true rfl) (Nat.le_of_ble_eq_true rfl) ?_
    obtain ⟨cr9, la9, ea9, F9, ho_29, ho_30, ho_31, ho_32, hcn9⟩ := hz_20
    refine lv_aload_n hx hb dX1_label_21 rfl (lv_at hl 0 rfl) ?_
    refine kx_get (v := .ref st) (C := RX1) (T := TX1) (N := 4) hx hb hts in_X1 hown hK ho_29 rfl 0 (by decide) q229 (fun _ h9 => h9) rfl dX1_label_22 ?_
    refine lv_iload_n hx hb dX1_label_25 rfl (lv_at hl 1 rfl) ?_
    refine lv_iload_n hx hb dX1_label_26 rfl (lv_at hl 2 rfl) ?_
    obtain ⟨HS9, hHS9⟩ : ∃ z, z = H_21.size := ⟨_, rfl⟩
    have hSc9 := ho_30
    have hcl9 : ∀ q, kOwn D cr9 la9 ea9 F9 S.length q → q < HS9 := fun q hq => by rw [hHS9]; exact ho_31.ownlt hx9 hq
    have hol9 : ∀ q, kOwn D st la ea F S.length q → q < s.heap.size := fun q hq => hP_kState_st.ownlt hx9 hq
    have h_33 := hO_st.ex hF_5
    have h_34 := h_33.fr hF_22 (fun h => by have h9 := h_33.lt; (try dsimp only at h); (try simp only [kNW] at h); omega)
    refine kx_cb (va_runV (As := [.int (kI ((ln : Nat) : Int)), .int (kI ((pl : Nat) : Int))]) (rest := []) ⟨hx, hb, hml, hown, hts⟩ (m_X2_label l D H_21 st la ea F S gap ln pl ho_30 (by first | assumption | omega) (by first | assumption | omega) hpl hwl) (cwV 2 hts (lw_V q1905 q1259 q1260 q80 q1261) rfl rfl rfl (by decide +kernel) ⟨Nat.le_of_ble_eq_true rfl, Nat.le_of_ble_eq_true rfl⟩) (kx_pv hK hS_19 hB (kx_rc hK h_34 (C := RX2) (T := TX2) (N := 2) rfl)) rfl rfl hl.1 rfl (lv_room (Nat.le_of_ble_eq_true rfl)) dX1_label_27 ⟨by first | exact Nat.le_of_ble_eq_true rfl | omega | (show _ ≤ _; omega) | (dsimp only [headSpec]; omega), by first | exact Nat.le_of_ble_eq_true rfl | omega | (show _ ≤ _; omega) | (dsimp only [headSpec]; omega)⟩) hS_19 (fun q _ h => by rcases (by rcases h with h | h; exact Or.inl (Or.inr (Or.inr (Or.inr ⟨ln, by omega, Or.inl h⟩))); exact Or.inr (by omega) : kOwn D st la ea F S.length q ∨ HS9 ≤ q) with z | z; exact Or.inl z; exact Or.inr (Or.inr (Or.inr (by omega)))) (fun q h => by rcases (by rcases h with h | h; exact Or.inl (Or.inr (Or.inr (Or.inr ⟨ln, by omega, Or.inl h⟩))); exact Or.inr (by omega) : kOwn D st la ea F S.length q ∨ HS9 ≤ q) with z | z; exact Or.inl z; exact Or.inr (Or.inr (Or.inr (by omega)))) (fun z_40 H_38 locs_35 hz_37 hF_39 hS_36 => ?_)
    have hzf_41 := hF_39.1
    refine W.widen (k := 52) (n := 1127) (Nat.le_of_ble_eq_true rfl) (Nat.le_of_ble_eq_true rfl) ?_
    obtain ⟨hv_42, ho_43⟩ := hz_37
    subst z_40
    have hown9 : ∀ q, kOwn D st la ea F ((S.set ln (w_lb (st_ln S ln) (pl : Int)))).length q → kOwn D st la ea F S.length q ∨ HS9 ≤ q := fun q hq => by rw [List.length_set] at hq; exact Or.inl hq
    refine lv_pop hx hb dX1_label_30 rfl ?_
    have hl29 : ((S.set ln (w_lb (st_ln S ln) (pl : Int)))).length = S.length := List.length_set
    have hd9z := hK.dis
    have hx9z : ¬ kBase D ≤ D.2.2.2 2 := hK.tE.out
    obtain ⟨⟨hO_stz, mcz, hO_laz⟩, hLs9z, hLn9z, hF9z, hDs9z, hb1z, hb2z, hb3z⟩ := id ho_43
    have hLz : st_ln (S.set ln (w_lb (st_ln S ln) (pl : Int))) ln = w_lb (st_ln S ln) (pl : Int) := by rw [st_ln_set hln, if_pos rfl]
    have hple := ln_isPlace_le (st_whyL_place hwl)
    have hnz : ln_n (st_ln (S.set ln (w_lb (st_ln S ln) (pl : Int))) ln) = ln_n (st_ln S ln) := by rw [hLz]; rfl
    have hsz9 : ln_size (st_ln (S.set ln (w_lb (st_ln S ln) (pl : Int))) ln) = ln_size (st_ln S ln) := by rw [hLz]; rfl
    have hokz : LsOK (S.set ln (w_lb (st_ln S ln) (pl : Int))) gap := hok.set hln ((hok.ln hln).setLb (Or.inr ⟨by omega, by omega⟩))
    refine lv_aload_n hx hb dX1_label_31 rfl (lv_at hl 0 rfl) ?_
    refine lv_iload_n hx hb dX1_label_32 rfl (lv_at hl 1 rfl) ?_
    have h_44 := ho_29.fr hF_39 (fun hx => by rcases (by have h := hx; rcases h with h | h; exact Or.inl (Or.inr (Or.inr (Or.inr ⟨ln, by omega, Or.inl h⟩))); exact Or.inr (by omega) : kOwn D st la ea F S.length x1 ∨ HS9 ≤ x1) with z | z; exact (hnx _ z).2.2 rfl; omega)
    refine kx_cr0 (va_runV (As := [.int (kI ((ln : Nat) : Int))]) (rest := []) ⟨hx, hb, hml, hown, hts⟩ (m_X1_line l D H_38 x1 snp hi bu st la mcz ea F ((S.set ln (w_lb (st_ln S ln) (pl : Int)))) gap ln h_44 hO_stz hO_laz hLs9z hLn9z hokz ((by omega))) (cwV 1 hts (lw_V q1864 q1866 qs35 q79 q1867) rfl rfl rfl (by decide +kernel) ⟨Nat.le_of_ble_eq_true rfl, Nat.le_of_ble_eq_true rfl⟩) (kx_pv hK hS_36 hB (kx_rc hK h_44 (C := RX1) (T := TX1) (N := 4) rfl)) rfl rfl hl.1 rfl (lv_room (Nat.le_of_ble_eq_true rfl)) dX1_label_33 ⟨by first | exact Nat.le_of_ble_eq_true rfl | omega | (show _ ≤ _; omega) | (dsimp only [headSpec]; omega), by first | exact Nat.le_of_ble_eq_true rfl | omega | (show _ ≤ _; omega) | (dsimp only [headSpec]; omega)⟩) hS_36 (fun z_48 locs_45 hz_47 hS_46 => ?_)
    subst z_48
    by_cases hclz : ln_cl (st_ln (S.set ln (w_lb (st_ln S ln) (pl : Int))) ln) = true
    · -- hclz t
      obtain ⟨ea_49, gp_49, gs_49, ho_49, hp_49, hs_49, he_49, hm_49⟩ := (hLn9z ln (by omega)).closed_ hclz
      refine lv_iload_n hx hb dX1_label_36 rfl (lv_at hl 2 rfl) ?_
      refine kx_ci0 (va_runV (As := [.int (kI ((pl : Nat) : Int))]) (rest := []) ⟨hx, hb, hml, hown, hts⟩ (m_bendOfPlace_c l D H_38 (fA F ln) (fP F ln) (fS F ln) ea_49 gp_49 gs_49 ((st_ln (S.set ln (w_lb (st_ln S ln) (pl : Int))) ln)) pl ho_49 hp_49 hs_49 he_49 (by first | assumption | omega) ((hokz.ln (by omega))) (by first | assumption | omega) hclz) (cwV 1 hts (lw_V q1906 q1107 q1108 q99 q1109) rfl rfl rfl (by decide +kernel) ⟨Nat.le_of_ble_eq_true rfl, Nat.le_of_ble_eq_true rfl⟩) (kx_pv hK hS_46 hB (kx_rc hK ho_49 (C := RX4) (T := TX4) (N := 6) rfl)) rfl rfl hl.1 rfl (lv_room (Nat.le_of_ble_eq_true rfl)) dX1_label_37 ⟨by first | exact Nat.le_of_ble_eq_true rfl | omega | (show _ ≤ _; omega) | (dsimp only [headSpec]; omega), by first | exact Nat.le_of_ble_eq_true rfl | omega | (show _ ≤ _; omega) | (dsimp only [headSpec]; omega)⟩) hS_46 (fun z_53 locs_50 hz_52 hS_51 => ?_)
      subst z_53
      refine W.widen (k := 60) (n := 1300) (by omega) (by omega) ?_
      have h_54 := ho_31.fr hd9 hF_39 (fun x hx => by rcases (by have h := hx; rcases h with h | h; exact Or.inl (Or.inr (Or.inr (Or.inr ⟨ln, by omega, Or.inl h⟩))); exact Or.inr (by omega) : kOwn D st la ea F S.length x ∨ HS9 ≤ x) with z | z; exact Or.inr ⟨hSc9.ownty hx9 z, fun w => by have h1 := hcn9 x w; have h2 := hol9 x z; omega⟩; exact Or.inl (by omega))
      have h_55 := ho_32.fr hF_39 ⟨fun hx => by rcases (by have h := hx; rcases h with h | h; exact Or.inl (Or.inr (Or.inr (Or.inr ⟨ln, by omega, Or.inl h⟩))); exact Or.inr (by omega) : kOwn D st la ea F S.length hi ∨ HS9 ≤ hi) with z | z; exact (hnx _ z).1 rfl; omega, fun hx => by rcases (by have h := hx; rcases h with h | h; exact Or.inl (Or.inr (Or.inr (Or.inr ⟨ln, by omega, Or.inl h⟩))); exact Or.inr (by omega) : kOwn D st la ea F S.length es ∨ HS9 ≤ es) with z | z; exact (hnx _ z).2.1 rfl; omega⟩
      exact kx_iret (z := ln_bends ((st_ln (S.set ln (w_lb (st_ln S ln) (pl : Int))) ln)) (pl : Int)) hx hb hr hlk (⟨cr9, la9, ea9, F9, ea, F, by rw [hLz]; exact ln_bends_lb _ _ _, h_44, ho_43, h_54, h_55, by exact fun q hq => by have h9 := hcn9 q hq; omega, by exact fun q hq => by rcases hown9 q hq with z | z; exact Or.inl z; exact Or.inr (by omega), by exact fun q hq hw => by have h1 := hcn9 q hq; have h2 := hcl9 q hq; rcases hown9 q hw with z | z; (have h3 := hol9 q z; omega); omega⟩) hS_51 dX1_label_40
    · -- hclz f
      have hclo : ln_cl (st_ln (S.set ln (w_lb (st_ln S ln) (pl : Int))) ln) = false := by simpa using hclz
      obtain ⟨ea_56, gp_56, gs_56, ho_56, hp_56, hs_56, he_56, hm_56⟩ := (hLn9z ln (by omega)).open_ hclo
      refine lv_iload_n hx hb dX1_label_36 rfl (lv_at hl 2 rfl) ?_
      refine kx_ci0 (va_runV (As := [.int (kI ((pl : Nat) : Int))]) (rest := []) ⟨hx, hb, hml, hown, hts⟩ (m_bendOfPlace_o l D H_38 (fA F ln) (fP F ln) (fS F ln) ea_56 gp_56 gs_56 ((st_ln (S.set ln (w_lb (st_ln S ln) (pl : Int))) ln)) pl ho_56 hp_56 hs_56 he_56 (by first | assumption | omega) ((hokz.ln (by omega))) (by first | assumption | omega) hclo) (cwV 1 hts (lw_V q1906 q1107 q1108 q99 q1109) rfl rfl rfl (by decide +kernel) ⟨Nat.le_of_ble_eq_true rfl, Nat.le_of_ble_eq_true rfl⟩) (kx_pv hK hS_46 hB (kx_rc hK ho_56 (C := RX4) (T := TX4) (N := 6) rfl)) rfl rfl hl.1 rfl (lv_room (Nat.le_of_ble_eq_true rfl)) dX1_label_37 ⟨by first | exact Nat.le_of_ble_eq_true rfl | omega | (show _ ≤ _; omega) | (dsimp only [headSpec]; omega), by first | exact Nat.le_of_ble_eq_true rfl | omega | (show _ ≤ _; omega) | (dsimp only [headSpec]; omega)⟩) hS_46 (fun z_60 locs_57 hz_59 hS_58 => ?_)
      subst z_60
      refine W.widen (k := 60) (n := 1300) (by omega) (by omega) ?_
      have h_61 := ho_31.fr hd9 hF_39 (fun x hx => by rcases (by have h := hx; rcases h with h | h; exact Or.inl (Or.inr (Or.inr (Or.inr ⟨ln, by omega, Or.inl h⟩))); exact Or.inr (by omega) : kOwn D st la ea F S.length x ∨ HS9 ≤ x) with z | z; exact Or.inr ⟨hSc9.ownty hx9 z, fun w => by have h1 := hcn9 x w; have h2 := hol9 x z; omega⟩; exact Or.inl (by omega))
      have h_62 := ho_32.fr hF_39 ⟨fun hx => by rcases (by have h := hx; rcases h with h | h; exact Or.inl (Or.inr (Or.inr (Or.inr ⟨ln, by omega, Or.inl h⟩))); exact Or.inr (by omega) : kOwn D st la ea F S.length hi ∨ HS9 ≤ hi) with z | z; exact (hnx _ z).1 rfl; omega, fun hx => by rcases (by have h := hx; rcases h with h | h; exact Or.inl (Or.inr (Or.inr (Or.inr ⟨ln, by omega, Or.inl h⟩))); exact Or.inr (by omega) : kOwn D st la ea F S.length es ∨ HS9 ≤ es) with z | z; exact (hnx _ z).2.1 rfl; omega⟩
      exact kx_iret (z := ln_bends ((st_ln (S.set ln (w_lb (st_ln S ln) (pl : Int))) ln)) (pl : Int)) hx hb hr hlk (⟨cr9, la9, ea9, F9, ea, F, by rw [hLz]; exact ln_bends_lb _ _ _, h_44, ho_43, h_61, h_62, by exact fun q hq => by have h9 := hcn9 q hq; omega, by exact fun q hq => by rcases hown9 q hq with z | z; exact Or.inl z; exact Or.inr (by omega), by exact fun q hq hw => by have h1 := hcn9 q hq; have h2 := hcl9 q hq; rcases hown9 q hw with z | z; (have h3 := hol9 q z; omega); omega⟩) hS_58 dX1_label_40

set_option maxHeartbeats 4000000 in
set_option maxRecDepth 100000 in
theorem m_X1_labelAll (l : Launch) (D : kG) (H : Heap) (x1 : Nat) (snp : Option Nat) (hi : Nat) (bu : Nat) (es : Nat) (L : List Nat) (st : Nat) (la : Nat) (ea : Nat) (F : Fts) (S : Ls) (gap : Int) (hO_x1 : kO D H x1 0 [.ref st, va_rf (snp), .ref hi, .ref bu]) (hP_kState_st : kState D H st la ea gap S F) (hP_kDq_hi : kDq D H hi es L) (hok : LsOK S gap) (hnx : ∀ q, kOwn D st la ea F S.length q → q ≠ hi ∧ q ≠ es ∧ q ≠ x1) (bs_hi : kBase D ≤ hi) (bs_es : kBase D ≤ es) (ne_x1 : x1 ≠ hi ∧ x1 ≠ es) : Met l yX1_labelAll (ws_ yX1_labelAll cX1_labelAll 1 (some .int)) ({ frames := 11, cells := 3053, slots := 9595, locals := 3192 } : Room) (kPre D H [.ref x1]) (kQi (fun (r : Int) H' => ∃ (cr : Nat) (la2 : Nat) (ea2 : Nat) (F2 : Fts) (ea3 : Nat) (F3 : Fts), (r = st_lab (st_la S gap)) ∧ (kO D H' x1 0 [.ref st, va_rf (snp), .ref hi, .ref bu]) ∧ (kState D H' st la ea3 gap (st_la S gap) F3) ∧ (kState D H' cr la2 ea2 gap S F2) ∧ (kDq D H' hi es ((pushL L cr))) ∧ (∀ q, kOwn D cr la2 ea2 F2 S.length q → H.size ≤ q) ∧ (∀ q, kOwn D st la ea3 F3 (st_la S gap).length q → kOwn D st la ea F S.length q ∨ H.size ≤ q) ∧ (∀ q, kOwn D cr la2 ea2 F2 S.length q → ¬ kOwn D st la ea3 F3 (st_la S gap).length q)) (fun q : Nat => kOwn D st la ea F S.length q ∨ q = hi ∨ q = es ∨ H.size ≤ q)) (3053) (9595) ((fun q : Nat => kOwn D st la ea F S.length q ∨ q = hi ∨ q = es ∨ H.size ≤ q)) := by
  refine Met.ofW (cc := cX1_labelAll) (maxL := 1) (ret := (some .int)) (by decide) rfl ?_
  intro p e s m args below meth c s₁ B hml hv
  obtain ⟨rfl, hH, hK⟩ := hv
  subst hH
  have hx := B.exec
  have hb := B.bytes
  have hr := B.returns
  have hts := atoms_spec (ws := ws_ yX1_labelAll cX1_labelAll 1 (some .int)) B.pre
  have hts : ∀ w ∈ lw_all, w.before _ s = true := fun w h => hts w (List.mem_cons_of_mem _ h)
  have hown : s.vm.findClass RX1 = some m.cls := findClass_of_methodNamed B.named
  have hlk := B.notSynchronized
  have hS : va_S (fun q : Nat => kOwn D st la ea F S.length q ∨ q = hi ∨ q = es ∨ s.heap.size ≤ q) s.heap s.heap [] := va_S.rf
  have hB : ∀ q, (fun q : Nat => kOwn D st la ea F S.length q ∨ q = hi ∨ q = es ∨ s.heap.size ≤ q) q → kBase D ≤ q := fun q h => by (have h2 := hK.size; rcases h with h | h | h | h; exact hP_kState_st.ownge h; (rw [h]; exact bs_hi); (rw [h]; exact bs_es); exact Nat.le_trans h2 h)
  have hl := lv_entry ([.ref x1]) (n := 1) (Nat.le_of_ble_eq_true rfl)
  rw [lg_entry_eq]
  generalize (lg_sl ([.ref x1]) ++ List.replicate (1 - (lg_sl ([.ref x1])).length) Slot.unset).toArray = ls at hl ⊢
  have hl : lv_has ls 1 [(0, .ref x1)] := hl
  have hL8 := hok.1
  have hd9 := hK.dis
  have hx9 : ¬ kBase D ≤ D.2.2.2 2 := hK.tE.out
  obtain ⟨⟨hO_st, mc, hO_la⟩, hLs9, hLn9, hF9, hDs9, hb1, hb2, hb3⟩ := id hP_kState_st
  have hltx1 := hO_x1.lt
  have hlthi : hi < s.heap.size ∧ es < s.heap.size := by obtain ⟨_, _, _, z1, z2, _⟩ := hP_kDq_hi; exact ⟨z1.lt, z2.lt⟩
  have hnst := hnx st (Or.inl rfl)
  have hnla := hnx la (Or.inr (Or.inl rfl))
  refine lv_aload_n hx hb dX1_labelAll_0 rfl (lv_at hl 0 rfl) ?_
  refine kx_cv (va_runV (As := []) (rest := []) ⟨hx, hb, hml, hown, hts⟩ (m_X1_save l D s.heap x1 snp hi bu es L st la ea F S gap hO_x1 hP_kState_st hP_kDq_hi (by first | assumption | omega) hnx bs_hi bs_es ne_x1) (cwV 0 hts (lw_V q247 q249 qs0 q79 q250) rfl rfl rfl (by decide +kernel) ⟨Nat.le_of_ble_eq_true rfl, Nat.le_of_ble_eq_true rfl⟩) (kx_pv hK hS hB (kx_rc hK hO_x1 (C := RX1) (T := TX1) (N := 4) rfl)) rfl rfl hl.1 rfl (lv_room (Nat.le_of_ble_eq_true rfl)) dX1_labelAll_1 ⟨by first | exact Nat.le_of_ble_eq_true rfl | omega | (show _ ≤ _; omega) | (dsimp only [headSpec]; omega), by first | exact Nat.le_of_ble_eq_true rfl | omega | (show _ ≤ _; omega) | (dsimp only [headSpec]; omega)⟩) hS (fun q _ h => by rcases h with h | h | h; exact Or.inr (Or.inl h); exact Or.inr (Or.inr (Or.inl h)); exact Or.inr (Or.inr (Or.inr (by omega)))) (fun q h => by rcases h with h | h | h; exact Or.inr (Or.inl h); exact Or.inr (Or.inr (Or.inl h)); exact Or.inr (Or.inr (Or.inr (by omega)))) (fun H_4 locs_1 hz_3 hF_5 hS_2 => ?_)
  have hzf_7 := hF_5.1
  refine W.widen (k := 42) (n := 1101) (Nat.le_of_ble_eq_true rfl) (Nat.le_of_ble_eq_true rfl) ?_
  obtain ⟨cr9, la9, ea9, F9, ho_12, ho_13, ho_14, ho_15, hcn9⟩ := hz_3
  refine lv_aload_n hx hb dX1_labelAll_4 rfl (lv_at hl 0 rfl) ?_
  refine kx_get (v := .ref st) (C := RX1) (T := TX1) (N := 4) hx hb hts in_X1 hown hK ho_12 rfl 0 (by decide) q229 (fun _ h9 => h9) rfl dX1_labelAll_5 ?_
  obtain ⟨HS9, hHS9⟩ : ∃ z, z = H_4.size := ⟨_, rfl⟩
  have hSc9 := ho_13
  have hcl9 : ∀ q, kOwn D cr9 la9 ea9 F9 S.length q → q < HS9 := fun q hq => by rw [hHS9]; exact ho_14.ownlt hx9 hq
  have hol9 : ∀ q, kOwn D st la ea F S.length q → q < s.heap.size := fun q hq => hP_kState_st.ownlt hx9 hq
  have h_16 := hO_st.fr hF_5 (fun h => by have h9 := hO_st.lt; (try dsimp only at h); (try simp only [kNW] at h); omega)
  refine kx_ci (va_runV (As := []) (rest := []) ⟨hx, hb, hml, hown, hts⟩ (m_X2_labelAll l D H_4 st la ea F S gap ho_13 (by first | assumption | omega)) (cwV 0 hts (lw_V q525 q526 q527 q80 q528) rfl rfl rfl (by decide +kernel) ⟨Nat.le_of_ble_eq_true rfl, Nat.le_of_ble_eq_true rfl⟩) (kx_pv hK hS_2 hB (kx_rc hK h_16 (C := RX2) (T := TX2) (N := 2) rfl)) rfl rfl hl.1 rfl (lv_room (Nat.le_of_ble_eq_true rfl)) dX1_labelAll_8 ⟨by first | exact Nat.le_of_ble_eq_true rfl | omega | (show _ ≤ _; omega) | (dsimp only [headSpec]; omega), by first | exact Nat.le_of_ble_eq_true rfl | omega | (show _ ≤ _; omega) | (dsimp only [headSpec]; omega)⟩) hS_2 (fun q _ h => by rcases (by rcases h with ⟨k, hk, h⟩ | h; exact Or.inl (Or.inr (Or.inr (Or.inr ⟨k, hk, Or.inl h⟩))); exact Or.inr (by omega) : kOwn D st la ea F S.length q ∨ HS9 ≤ q) with z | z; exact Or.inl z; exact Or.inr (Or.inr (Or.inr (by omega)))) (fun q h => by rcases (by rcases h with ⟨k, hk, h⟩ | h; exact Or.inl (Or.inr (Or.inr (Or.inr ⟨k, hk, Or.inl h⟩))); exact Or.inr (by omega) : kOwn D st la ea F S.length q ∨ HS9 ≤ q) with z | z; exact Or.inl z; exact Or.inr (Or.inr (Or.inr (by omega)))) (fun z_22 H_20 locs_17 hz_19 hF_21 hS_18 => ?_)
  have hzf_23 := hF_21.1
  refine W.widen (k := 3053) (n := 9595) (Nat.le_of_ble_eq_true rfl) (Nat.le_of_ble_eq_true rfl) ?_
  obtain ⟨hv_24, ho_25⟩ := hz_19
  subst z_22
  have hown9 : ∀ q, kOwn D st la ea F (st_la S gap).length q → kOwn D st la ea F S.length q ∨ HS9 ≤ q := fun q hq => by rw [st_la_len] at hq; exact Or.inl hq
  have h_26 := ho_12.fr hF_21 (fun hx => by rcases (by have h := hx; rcases h with ⟨k, hk, h⟩ | h; exact Or.inl (Or.inr (Or.inr (Or.inr ⟨k, hk, Or.inl h⟩))); exact Or.inr (by omega) : kOwn D st la ea F S.length x1 ∨ HS9 ≤ x1) with z | z; exact (hnx _ z).2.2 rfl; omega)
  have h_27 := ho_14.fr hd9 hF_21 (fun x hx => by rcases (by have h := hx; rcases h with ⟨k, hk, h⟩ | h; exact Or.inl (Or.inr (Or.inr (Or.inr ⟨k, hk, Or.inl h⟩))); exact Or.inr (by omega) : kOwn D st la ea F S.length x ∨ HS9 ≤ x) with z | z; exact Or.inr ⟨hSc9.ownty hx9 z, fun w => by have h1 := hcn9 x w; have h2 := hol9 x z; omega⟩; exact Or.inl (by omega))
  have h_28 := ho_15.fr hF_21 ⟨fun hx => by rcases (by have h := hx; rcases h with ⟨k, hk, h⟩ | h; exact Or.inl (Or.inr (Or.inr (Or.inr ⟨k, hk, Or.inl h⟩))); exact Or.inr (by omega) : kOwn D st la ea F S.length hi ∨ HS9 ≤ hi) with z | z; exact (hnx _ z).1 rfl; omega, fun hx => by rcases (by have h := hx; rcases h with ⟨k, hk, h⟩ | h; exact Or.inl (Or.inr (Or.inr (Or.inr ⟨k, hk, Or.inl h⟩))); exact Or.inr (by omega) : kOwn D st la ea F S.length es ∨ HS9 ≤ es) with z | z; exact (hnx _ z).2.1 rfl; omega⟩
  exact kx_iret (z := st_lab (st_la S gap)) hx hb hr hlk (⟨cr9, la9, ea9, F9, ea, F, by rfl, h_26, ho_25, h_27, h_28, by exact fun q hq => by have h9 := hcn9 q hq; omega, by exact fun q hq => by rcases hown9 q hq with z | z; exact Or.inl z; exact Or.inr (by omega), by exact fun q hq hw => by have h1 := hcn9 q hq; have h2 := hcl9 q hq; rcases hown9 q hw with z | z; (have h3 := hol9 q z; omega); omega⟩) hS_18 dX1_labelAll_11

set_option maxHeartbeats 4000000 in
set_option maxRecDepth 100000 in
theorem m_X1_setGap (l : Launch) (D : kG) (H : Heap) (x1 : Nat) (snp : Option Nat) (hi : Nat) (bu : Nat) (es : Nat) (L : List Nat) (st : Nat) (la : Nat) (ea : Nat) (F : Fts) (S : Ls) (gap : Int) (x : Int) (hO_x1 : kO D H x1 0 [.ref st, va_rf (snp), .ref hi, .ref bu]) (hP_kState_st : kState D H st la ea gap S F) (hP_kDq_hi : kDq D H hi es L) (hok : LsOK S gap) (hnx : ∀ q, kOwn D st la ea F S.length q → q ≠ hi ∧ q ≠ es ∧ q ≠ x1) (bs_hi : kBase D ≤ hi) (bs_es : kBase D ≤ es) (ne_x1 : x1 ≠ hi ∧ x1 ≠ es) (hgx : 1 ≤ x ∧ x ≤ 6) : Met l yX1_setGap (ws_ yX1_setGap cX1_setGap 3 (some .int)) ({ frames := 7, cells := 47, slots := 1240, locals := 159 } : Room) (kPre D H [.ref x1, .int (kI (x))]) (kQi (fun (r : Int) H' => ∃ (cr : Nat) (la2 : Nat) (ea2 : Nat) (F2 : Fts) (ea3 : Nat) (F3 : Fts), (r = gap) ∧ (kO D H' x1 0 [.ref st, va_rf (snp), .ref hi, .ref bu]) ∧ (kState D H' st la ea3 x S F3) ∧ (kState D H' cr la2 ea2 gap S F2) ∧ (kDq D H' hi es ((pushL L cr))) ∧ (∀ q, kOwn D cr la2 ea2 F2 S.length q → H.size ≤ q) ∧ (∀ q, kOwn D st la ea3 F3 (S).length q → kOwn D st la ea F S.length q ∨ H.size ≤ q) ∧ (∀ q, kOwn D cr la2 ea2 F2 S.length q → ¬ kOwn D st la ea3 F3 (S).length q)) (fun q : Nat => kOwn D st la ea F S.length q ∨ q = hi ∨ q = es ∨ H.size ≤ q)) (47) (1240) ((fun q : Nat => kOwn D st la ea F S.length q ∨ q = hi ∨ q = es ∨ H.size ≤ q)) := by
  refine Met.ofW (cc := cX1_setGap) (maxL := 3) (ret := (some .int)) (by decide) rfl ?_
  intro p e s m args below meth c s₁ B hml hv
  obtain ⟨rfl, hH, hK⟩ := hv
  subst hH
  have hx := B.exec
  have hb := B.bytes
  have hr := B.returns
  have hts := atoms_spec (ws := ws_ yX1_setGap cX1_setGap 3 (some .int)) B.pre
  have hts : ∀ w ∈ lw_all, w.before _ s = true := fun w h => hts w (List.mem_cons_of_mem _ h)
  have hown : s.vm.findClass RX1 = some m.cls := findClass_of_methodNamed B.named
  have hlk := B.notSynchronized
  have hS : va_S (fun q : Nat => kOwn D st la ea F S.length q ∨ q = hi ∨ q = es ∨ s.heap.size ≤ q) s.heap s.heap [] := va_S.rf
  have hB : ∀ q, (fun q : Nat => kOwn D st la ea F S.length q ∨ q = hi ∨ q = es ∨ s.heap.size ≤ q) q → kBase D ≤ q := fun q h => by (have h2 := hK.size; rcases h with h | h | h | h; exact hP_kState_st.ownge h; (rw [h]; exact bs_hi); (rw [h]; exact bs_es); exact Nat.le_trans h2 h)
  have hl := lv_entry ([.ref x1, .int (kI (x))]) (n := 3) (Nat.le_of_ble_eq_true rfl)
  rw [lg_entry_eq]
  generalize (lg_sl ([.ref x1, .int (kI (x))]) ++ List.replicate (3 - (lg_sl ([.ref x1, .int (kI (x))])).length) Slot.unset).toArray = ls at hl ⊢
  have hl : lv_has ls 3 [(0, .ref x1), (1, .int (kI (x)))] := hl
  have hL8 := hok.1
  have hd9 := hK.dis
  have hx9 : ¬ kBase D ≤ D.2.2.2 2 := hK.tE.out
  obtain ⟨⟨hO_st, mc, hO_la⟩, hLs9, hLn9, hF9, hDs9, hb1, hb2, hb3⟩ := id hP_kState_st
  have hltx1 := hO_x1.lt
  have hlthi : hi < s.heap.size ∧ es < s.heap.size := by obtain ⟨_, _, _, z1, z2, _⟩ := hP_kDq_hi; exact ⟨z1.lt, z2.lt⟩
  have hnst := hnx st (Or.inl rfl)
  have hnla := hnx la (Or.inr (Or.inl rfl))
  refine lv_iload_n hx hb dX1_setGap_0 rfl (lv_at hl 1 rfl) ?_
  refine kx_iconst hx hb dX1_setGap_1 ?_
  refine kx_bipush hx hb (by decide) dX1_setGap_2 ?_
  refine kx_cv0 (va_runS (As := [.int (kI (x)), .int (kI (1)), .int (kI (6))]) (rest := []) ⟨hx, hb, hml, hown, hts⟩ (m_X1_checkRange l D s.heap x 1 6  (by first | assumption | omega) (by first | assumption | omega) (by first | assumption | omega) (by first | assumption | omega)) (va_cwS 3 hts (lw_S q1838 q1839 q79 q1840) rfl rfl rfl (by decide +kernel) ⟨Nat.le_of_ble_eq_true rfl, Nat.le_of_ble_eq_true rfl⟩) (kx_ps hK hS hB) rfl rfl hl.1 rfl (lv_room (Nat.le_of_ble_eq_true rfl)) dX1_setGap_4 ⟨by first | exact Nat.le_of_ble_eq_true rfl | omega | (show _ ≤ _; omega) | (dsimp only [headSpec]; omega), by first | exact Nat.le_of_ble_eq_true rfl | omega | (show _ ≤ _; omega) | (dsimp only [headSpec]; omega)⟩) hS (fun locs_1 hz_3 hS_2 => ?_)
  refine lv_aload_n hx hb dX1_setGap_7 rfl (lv_at hl 0 rfl) ?_
  refine kx_cv (va_runV (As := []) (rest := []) ⟨hx, hb, hml, hown, hts⟩ (m_X1_save l D s.heap x1 snp hi bu es L st la ea F S gap hO_x1 hP_kState_st hP_kDq_hi (by first | assumption | omega) hnx bs_hi bs_es ne_x1) (cwV 0 hts (lw_V q247 q249 qs0 q79 q250) rfl rfl rfl (by decide +kernel) ⟨Nat.le_of_ble_eq_true rfl, Nat.le_of_ble_eq_true rfl⟩) (kx_pv hK hS_2 hB (kx_rc hK hO_x1 (C := RX1) (T := TX1) (N := 4) rfl)) rfl rfl hl.1 rfl (lv_room (Nat.le_of_ble_eq_true rfl)) dX1_setGap_8 ⟨by first | exact Nat.le_of_ble_eq_true rfl | omega | (show _ ≤ _; omega) | (dsimp only [headSpec]; omega), by first | exact Nat.le_of_ble_eq_true rfl | omega | (show _ ≤ _; omega) | (dsimp only [headSpec]; omega)⟩) hS_2 (fun q _ h => by rcases h with h | h | h; exact Or.inr (Or.inl h); exact Or.inr (Or.inr (Or.inl h)); exact Or.inr (Or.inr (Or.inr (by omega)))) (fun q h => by rcases h with h | h | h; exact Or.inr (Or.inl h); exact Or.inr (Or.inr (Or.inl h)); exact Or.inr (Or.inr (Or.inr (by omega)))) (fun H_8 locs_5 hz_7 hF_9 hS_6 => ?_)
  have hzf_11 := hF_9.1
  refine W.widen (k := 42) (n := 1101) (Nat.le_of_ble_eq_true rfl) (Nat.le_of_ble_eq_true rfl) ?_
  obtain ⟨cr9, la9, ea9, F9, ho_16, ho_17, ho_18, ho_19, hcn9⟩ := hz_7
  refine lv_aload_n hx hb dX1_setGap_11 rfl (lv_at hl 0 rfl) ?_
  refine kx_get (v := .ref st) (C := RX1) (T := TX1) (N := 4) hx hb hts in_X1 hown hK ho_16 rfl 0 (by decide) q229 (fun _ h9 => h9) rfl dX1_setGap_12 ?_
  have hd9z := hK.dis
  have hx9z : ¬ kBase D ≤ D.2.2.2 2 := hK.tE.out
  obtain ⟨⟨hO_stz, mcz, hO_laz⟩, hLs9z, hLn9z, hF9z, hDs9z, hb1z, hb2z, hb3z⟩ := id ho_17
  refine kx_get (v := .int (kI (gap))) (C := RX2) (T := TX2) (N := 2) hx hb hts in_X2 hown hK hO_stz rfl 1 (by decide) q172 (fun _ h9 => h9) rfl dX1_setGap_15 ?_
  refine lv_istore_n (lv' := [(2, .int (kI (gap))), (0, .ref x1), (1, .int (kI (x)))]) hx hb dX1_setGap_18 rfl hl (by decide) rfl (fun ls hl => ?_)
  refine lv_aload_n hx hb dX1_setGap_19 rfl (lv_at hl 1 rfl) ?_
  refine kx_get (v := .ref st) (C := RX1) (T := TX1) (N := 4) hx hb hts in_X1 hown hK ho_16 rfl 0 (by decide) q229 (fun _ h9 => h9) rfl dX1_setGap_20 ?_
  refine lv_iload_n hx hb dX1_setGap_23 rfl (lv_at hl 2 rfl) ?_
  obtain ⟨HS9, hHS9⟩ : ∃ z, z = H_8.size := ⟨_, rfl⟩
  have hSc9 := ho_17
  have hcl9 : ∀ q, kOwn D cr9 la9 ea9 F9 S.length q → q < HS9 := fun q hq => by rw [hHS9]; exact ho_18.ownlt hx9 hq
  have hol9 : ∀ q, kOwn D st la ea F S.length q → q < s.heap.size := fun q hq => hP_kState_st.ownlt hx9 hq
  refine kx_put (v := .int (kI (x))) (C := RX2) (T := TX2) (N := 2) hx hb hts in_X2 hown hK hO_stz rfl 1 (by decide) tyX2 tyX2_ok nmX2 hS_6 (Or.inl (Or.inl rfl)) q172 (fun _ h9 => h9) rfl rfl rfl rfl (Nat.le_of_ble_eq_true rfl) dX1_setGap_24 (fun H_22 locs_23 hO_21 hU_20 hS_24 => ?_)
  have hO_21 : kO D H_22 st 1 [.ref la, .int (kI (x))] := hO_21
  have hzu_25 := hU_20.1
  have h_26 := ho_16.up hU_20 (by first | assumption | exact Ne.symm (by assumption)  | omega | (have h9 := ho_16.lt; omega))
  have hSg9 : kState D H_22 st la ea x S F := hSc9.gap hd9 (kUp.fr hU_20) (fun x hx => hx) hO_21
  have hCg9 : kState D H_22 cr9 la9 ea9 gap S F9 := ho_18.fr hd9 (kUp.fr hU_20) (fun x hx => by rw [show x = st from hx]; exact Or.inr ⟨hSc9.ownty hx9 (Or.inl rfl), fun w => by have h1 := hcn9 st w; have h2 := hol9 st (Or.inl rfl); omega⟩)
  have hDg9 := ho_19.fr (kUp.fr hU_20) ⟨fun hx => (hnx st (Or.inl rfl)).1 hx.symm, fun hx => (hnx st (Or.inl rfl)).2.1 hx.symm⟩
  have hown9 : ∀ q, kOwn D st la ea F (S).length q → kOwn D st la ea F S.length q ∨ HS9 ≤ q := fun q hq => by exact Or.inl hq
  refine lv_iload_n hx hb dX1_setGap_27 rfl (lv_at hl 0 rfl) ?_
  refine W.widen (k := 47) (n := 1240) (by omega) (by omega) ?_
  exact kx_iret (z := gap) hx hb hr hlk (⟨cr9, la9, ea9, F9, ea, F, by rfl, h_26, hSg9, hCg9, hDg9, by exact fun q hq => by have h9 := hcn9 q hq; omega, by exact fun q hq => by rcases hown9 q hq with z | z; exact Or.inl z; exact Or.inr (by omega), by exact fun q hq hw => by have h1 := hcn9 q hq; have h2 := hcl9 q hq; rcases hown9 q hw with z | z; (have h3 := hol9 q z; omega); omega⟩) hS_24 dX1_setGap_28

