set_option maxHeartbeats 4000000 in
set_option maxRecDepth 100000 in
theorem m_J21_siftUp (l : Launch) (D : kG) (H : Heap) (pq : Nat) (mc : Int) (k0 : Nat) (x : Nat) (es : Nat) (cm : Nat) (cv : Nat → Int × Int × Int) (T : Nat → Prop) (g : Nat → Option Nat) (q : Nat → Nat) (hO_pq : kO D H pq 13 [.ref es, .int (kI ((k0 : Nat) : Int)), .ref cm, .int (kI (mc))]) (hA_es : kAq D H es 4 60 g) (hO_cm : kO D H cm 6 []) (hP_kCs_cv : kCs D H cv T) (hk0 : k0 < 60) (hgq : ∀ i, i < k0 → g i = some (q i)) (hqx : q k0 = x) (hH0 : HPk (cdle cv) q k0 k0) (hT0 : ∀ y, (∃ i, i ≤ k0 ∧ q i = y) ↔ T y) (hneT : ∀ y, T y → y ≠ es) (hneP : ∀ y, T y → y ≠ pq) (ne_cm_es : cm ≠ es) (ne_cm_pq : cm ≠ pq) (ne_pq_es : pq ≠ es) (bs_es : kBase D ≤ es) (bs_pq : kBase D ≤ pq) : Met l yJ21_siftUp (ws_ yJ21_siftUp cJ21_siftUp 3 none) ({ frames := 3, cells := 0, slots := 0, locals := 69 } : Room) (kPre D H [.ref pq, .int (kI ((k0 : Nat) : Int)), .ref x]) (kQv (fun H' => ∃ (g2 : Nat → Option Nat) (q2 : Nat → Nat), (kAq D H' es 4 60 g2) ∧ (∀ i, i ≤ k0 → g2 i = some (q2 i)) ∧ (HP (cdle cv) q2 (k0 + 1)) ∧ (∀ y, (∃ i, i ≤ k0 ∧ q2 i = y) ↔ T y)) (fun q : Nat => q = es)) (0) (0) ((fun q : Nat => q = es)) := by
  refine Met.ofW (cc := cJ21_siftUp) (maxL := 3) (ret := none) (by decide) rfl ?_
  intro p e s m args below meth c s₁ B hml hv
  obtain ⟨rfl, hH, hK⟩ := hv
  subst hH
  have hx := B.exec
  have hb := B.bytes
  have hr := B.returns
  have hts := atoms_spec (ws := ws_ yJ21_siftUp cJ21_siftUp 3 none) B.pre
  have hts : ∀ w ∈ lw_all, w.before _ s = true := fun w h => hts w (List.mem_cons_of_mem _ h)
  have hown : s.vm.findClass RJ21 = some m.cls := findClass_of_methodNamed B.named
  have hlk := B.notSynchronized
  have hS : va_S (fun q : Nat => q = es) s.heap s.heap [] := va_S.rf
  have hB : ∀ q, (fun q : Nat => q = es) q → kBase D ≤ q := fun q h => by (try dsimp only at h); (try simp only [kNW] at h); have hks := hK.size; omega
  have hl := lv_entry ([.ref pq, .int (kI ((k0 : Nat) : Int)), .ref x]) (n := 3) (Nat.le_of_ble_eq_true rfl)
  rw [lg_entry_eq]
  generalize (lg_sl ([.ref pq, .int (kI ((k0 : Nat) : Int)), .ref x]) ++ List.replicate (3 - (lg_sl ([.ref pq, .int (kI ((k0 : Nat) : Int)), .ref x])).length) Slot.unset).toArray = ls at hl ⊢
  have hl : lv_has ls 3 [(0, .ref pq), (1, .int (kI ((k0 : Nat) : Int))), (2, .ref x)] := hl
  refine lv_aload_n hx hb dJ21_siftUp_0 rfl (lv_at hl 0 rfl) ?_
  refine kx_get (v := .ref cm) (C := RJ21) (T := TJ21) (N := 4) hx hb hts in_J21 hown hK hO_pq rfl 2 (by decide) q1057 (fun _ h9 => h9) rfl dJ21_siftUp_1 ?_
  refine lv_ifnull hx hb dJ21_siftUp_4 ?_
  refine lv_iload_n hx hb dJ21_siftUp_7 rfl (lv_at hl 1 rfl) ?_
  refine lv_aload_n hx hb dJ21_siftUp_8 rfl (lv_at hl 2 rfl) ?_
  refine lv_aload_n hx hb dJ21_siftUp_9 rfl (lv_at hl 0 rfl) ?_
  refine kx_get (v := .ref es) (C := RJ21) (T := TJ21) (N := 4) hx hb hts in_J21 hown hK hO_pq rfl 0 (by decide) q1055 (fun _ h9 => h9) rfl dJ21_siftUp_10 ?_
  refine lv_aload_n hx hb dJ21_siftUp_13 rfl (lv_at hl 0 rfl) ?_
  refine kx_get (v := .ref cm) (C := RJ21) (T := TJ21) (N := 4) hx hb hts in_J21 hown hK hO_pq rfl 2 (by decide) q1057 (fun _ h9 => h9) rfl dJ21_siftUp_14 ?_
  refine kx_cv (va_runS (As := [.int (kI ((k0 : Nat) : Int)), .ref x, .ref es, .ref cm]) (rest := []) ⟨hx, hb, hml, hown, hts⟩ (m_J21_siftUpUsingComparator l D s.heap k0 x es cm cv T g q hA_es hO_cm hP_kCs_cv (by first | assumption | omega) (by first | assumption | omega) (by first | assumption | omega) (by first | assumption | omega) (by first | assumption | omega) (by first | assumption | omega) (by first | assumption | omega) (by first | assumption | omega)) (va_cwS 4 hts (lw_S q1217 q1218 q107 q1219) rfl rfl rfl (by decide +kernel) ⟨Nat.le_of_ble_eq_true rfl, Nat.le_of_ble_eq_true rfl⟩) (kx_ps hK hS hB) rfl rfl hl.1 rfl (lv_room (Nat.le_of_ble_eq_true rfl)) dJ21_siftUp_17 ⟨by first | exact Nat.le_of_ble_eq_true rfl | omega | (show _ ≤ _; omega) | (dsimp only [headSpec]; omega), by first | exact Nat.le_of_ble_eq_true rfl | omega | (show _ ≤ _; omega) | (dsimp only [headSpec]; omega)⟩) hS (fun q _ h => by (try dsimp only at h); (try dsimp only); (try simp only [kNW] at h); (try simp only [kNW]); omega) (fun q h => by (try dsimp only at h); (try dsimp only); (try simp only [kNW] at h); (try simp only [kNW]); omega) (fun H_4 locs_1 hz_3 hF_5 hS_2 => ?_)
  have hzf_7 := hF_5.1
  refine W.widen (k := 0) (n := 0) (Nat.le_of_ble_eq_true rfl) (Nat.le_of_ble_eq_true rfl) ?_
  obtain ⟨g2_8, q9, ho_10, hg29, hHP9, hT29⟩ := hz_3
  refine lv_goto (tgt := 32) hx hb dJ21_siftUp_20 (by decide) ?_
  exact kx_vret hx hb hr hlk (⟨g2_8, q9, ho_10, by exact hg29, by exact hHP9, by exact hT29⟩) hS_2 dJ21_siftUp_32

set_option maxHeartbeats 4000000 in
set_option maxRecDepth 100000 in
theorem m_J21_offer (l : Launch) (D : kG) (H : Heap) (pq : Nat) (mc : Int) (k0 : Nat) (x : Nat) (es : Nat) (cm : Nat) (cv : Nat → Int × Int × Int) (T : Nat → Prop) (g : Nat → Option Nat) (q : Nat → Nat) (hO_pq : kO D H pq 13 [.ref es, .int (kI ((k0 : Nat) : Int)), .ref cm, .int (kI (mc))]) (hA_es : kAq D H es 4 60 g) (hO_cm : kO D H cm 6 []) (hP_kCs_cv : kCs D H cv T) (hk0 : k0 < 60) (hgq : ∀ i, i < k0 → g i = some (q i)) (hqx : q k0 = x) (hH0 : HPk (cdle cv) q k0 k0) (hT0 : ∀ y, (∃ i, i ≤ k0 ∧ q i = y) ↔ T y) (hneT : ∀ y, T y → y ≠ es) (hneP : ∀ y, T y → y ≠ pq) (ne_cm_es : cm ≠ es) (ne_cm_pq : cm ≠ pq) (ne_pq_es : pq ≠ es) (bs_es : kBase D ≤ es) (bs_pq : kBase D ≤ pq) : Met l yJ21_offer (ws_ yJ21_offer cJ21_offer 3 (some .boolean)) ({ frames := 4, cells := 0, slots := 0, locals := 91 } : Room) (kPre D H [.ref pq, .ref x]) (kQb (fun (r : Bool) H' => ∃ (g2 : Nat → Option Nat) (q2 : Nat → Nat), (r = true) ∧ (kO D H' pq 13 [.ref es, .int (kI ((k0 + 1 : Nat) : Int)), .ref cm, .int (kI ((mc + 1)))]) ∧ (kAq D H' es 4 60 g2) ∧ (∀ i, i ≤ k0 → g2 i = some (q2 i)) ∧ (HP (cdle cv) q2 (k0 + 1)) ∧ (∀ y, (∃ i, i ≤ k0 ∧ q2 i = y) ↔ T y)) (fun q : Nat => q = pq ∨ q = es)) (0) (0) ((fun q : Nat => q = pq ∨ q = es)) := by
  refine Met.ofW (cc := cJ21_offer) (maxL := 3) (ret := (some .boolean)) (by decide) rfl ?_
  intro p e s m args below meth c s₁ B hml hv
  obtain ⟨rfl, hH, hK⟩ := hv
  subst hH
  have hx := B.exec
  have hb := B.bytes
  have hr := B.returns
  have hts := atoms_spec (ws := ws_ yJ21_offer cJ21_offer 3 (some .boolean)) B.pre
  have hts : ∀ w ∈ lw_all, w.before _ s = true := fun w h => hts w (List.mem_cons_of_mem _ h)
  have hown : s.vm.findClass RJ21 = some m.cls := findClass_of_methodNamed B.named
  have hlk := B.notSynchronized
  have hS : va_S (fun q : Nat => q = pq ∨ q = es) s.heap s.heap [] := va_S.rf
  have hB : ∀ q, (fun q : Nat => q = pq ∨ q = es) q → kBase D ≤ q := fun q h => by (try dsimp only at h); (try simp only [kNW] at h); have hks := hK.size; omega
  have hl := lv_entry ([.ref pq, .ref x]) (n := 3) (Nat.le_of_ble_eq_true rfl)
  rw [lg_entry_eq]
  generalize (lg_sl ([.ref pq, .ref x]) ++ List.replicate (3 - (lg_sl ([.ref pq, .ref x])).length) Slot.unset).toArray = ls at hl ⊢
  have hl : lv_has ls 3 [(0, .ref pq), (1, .ref x)] := hl
  refine lv_aload_n hx hb dJ21_offer_0 rfl (lv_at hl 1 rfl) ?_
  refine lv_ifnonnull (tgt := 12) hx hb dJ21_offer_1 (by decide) ?_
  refine lv_aload_n hx hb dJ21_offer_12 rfl (lv_at hl 0 rfl) ?_
  refine lv_dup hx hb dJ21_offer_13 rfl ?_
  refine kx_get (v := .int (kI (mc))) (C := RJ21) (T := TJ21) (N := 4) hx hb hts in_J21 hown hK hO_pq rfl 3 (by decide) q1058 (fun _ h9 => h9) rfl dJ21_offer_14 ?_
  refine kx_iconst hx hb dJ21_offer_17 ?_
  refine kx_iadd hx hb dJ21_offer_18 ?_
  refine kx_put (v := .int (kI ((mc + 1)))) (C := RJ21) (T := TJ21) (N := 4) hx hb hts in_J21 hown hK hO_pq rfl 3 (by decide) tyJ21 tyJ21_ok nmJ21 hS (by first | rfl | exact Or.inl rfl | exact Or.inr rfl | exact Or.inr (Or.inl rfl) | exact Or.inr (Or.inr rfl) | exact Or.inr (Or.inr (Or.inl rfl)) | exact Or.inr (Or.inr (Or.inr rfl)) | ((try dsimp only); (try simp only [kNW]); omega)) q1058 (fun _ h9 => h9) rfl rfl rfl rfl (Nat.le_of_ble_eq_true rfl) dJ21_offer_19 (fun H_3 locs_4 hO_2 hU_1 hS_5 => ?_)
  have hO_2 : kO D H_3 pq 13 [.ref es, .int (kI ((k0 : Nat) : Int)), .ref cm, .int (kI ((mc + 1)))] := hO_2
  have hzu_6 := hU_1.1
  refine lv_aload_n hx hb dJ21_offer_22 rfl (lv_at hl 0 rfl) ?_
  refine kx_get (v := .int (kI ((k0 : Nat) : Int))) (C := RJ21) (T := TJ21) (N := 4) hx hb hts in_J21 hown hK hO_2 rfl 1 (by decide) q1056 (fun _ h9 => h9) rfl dJ21_offer_23 ?_
  refine lv_istore_n (lv' := [(2, .int (kI ((k0 : Nat) : Int))), (0, .ref pq), (1, .ref x)]) hx hb dJ21_offer_26 rfl hl (by decide) rfl (fun ls hl => ?_)
  refine lv_iload_n hx hb dJ21_offer_27 rfl (lv_at hl 0 rfl) ?_
  refine lv_aload_n hx hb dJ21_offer_28 rfl (lv_at hl 1 rfl) ?_
  refine kx_get (v := .ref es) (C := RJ21) (T := TJ21) (N := 4) hx hb hts in_J21 hown hK hO_2 rfl 0 (by decide) q1055 (fun _ h9 => h9) rfl dJ21_offer_29 ?_
  have h_7 := hA_es.up hU_1 (by first | assumption | exact Ne.symm (by assumption) | omega | (have h9 := hA_es.lt; omega))
  refine kx_alen hx hb hK h_7 rfl dJ21_offer_32 ?_
  refine kx_icmp_lt (x := ((k0 : Nat) : Int)) (y := ((60 : Nat) : Int)) (tgt := 43) hx hb dJ21_offer_33 (by decide) (by omega) (by omega) (by omega) (by omega) (fun c_33_8 => ?_) (fun c_33_8 => ?_)
  · -- taken at 33
    refine lv_aload_n hx hb dJ21_offer_43 rfl (lv_at hl 1 rfl) ?_
    refine lv_iload_n hx hb dJ21_offer_44 rfl (lv_at hl 0 rfl) ?_
    refine lv_aload_n hx hb dJ21_offer_45 rfl (lv_at hl 2 rfl) ?_
    have h_9 := hO_cm.up hU_1 (by first | assumption | exact Ne.symm (by assumption) | omega | (have h9 := hO_cm.lt; omega))
    have h_10 := hP_kCs_cv.up hU_1 (by first | assumption | exact Ne.symm (by assumption) | omega | (have h9 := hP_kCs_cv.lt; omega))
    refine kx_cv (va_runV (As := [.int (kI ((k0 : Nat) : Int)), .ref x]) (rest := []) ⟨hx, hb, hml, hown, hts⟩ (m_J21_siftUp l D H_3 pq ((mc + 1)) k0 x es cm cv T g q hO_2 h_7 h_9 h_10 (by first | assumption | omega) (by first | assumption | omega) (by first | assumption | omega) (by first | assumption | omega) (by first | assumption | omega) (by first | assumption | omega) (by first | assumption | omega) (by first | assumption | omega) (by first | assumption | omega) (by first | assumption | omega) (by first | assumption | omega) (by first | assumption | omega)) (cwV 2 hts (lw_V q1213 q1215 qs18 q107 q1216) rfl rfl rfl (by decide +kernel) ⟨Nat.le_of_ble_eq_true rfl, Nat.le_of_ble_eq_true rfl⟩) (kx_pv hK hS_5 hB (kx_rc hK hO_2 (C := RJ21) (T := TJ21) (N := 4) rfl)) rfl rfl hl.1 rfl (lv_room (Nat.le_of_ble_eq_true rfl)) dJ21_offer_46 ⟨by first | exact Nat.le_of_ble_eq_true rfl | omega | (show _ ≤ _; omega) | (dsimp only [headSpec]; omega), by first | exact Nat.le_of_ble_eq_true rfl | omega | (show _ ≤ _; omega) | (dsimp only [headSpec]; omega)⟩) hS_5 (fun q _ h => by (try dsimp only at h); (try dsimp only); (try simp only [kNW] at h); (try simp only [kNW]); omega) (fun q h => by (try dsimp only at h); (try dsimp only); (try simp only [kNW] at h); (try simp only [kNW]); omega) (fun H_14 locs_11 hz_13 hF_15 hS_12 => ?_)
    have hzf_17 := hF_15.1
    refine W.widen (k := 0) (n := 0) (Nat.le_of_ble_eq_true rfl) (Nat.le_of_ble_eq_true rfl) ?_
    obtain ⟨g2_18, q9, ho_20, hg29, hHP9, hT29⟩ := hz_13
    refine lv_aload_n hx hb dJ21_offer_49 rfl (lv_at hl 1 rfl) ?_
    refine lv_iload_n hx hb dJ21_offer_50 rfl (lv_at hl 0 rfl) ?_
    refine kx_iconst hx hb dJ21_offer_51 ?_
    refine kx_iadd hx hb dJ21_offer_52 ?_
    refine kx_eqi (((k0 + 1 : Nat) : Int)) (by omega) ?_
    have h_21 := hO_2.fr hF_15 (fun h => by (try dsimp only at h); (try simp only [kNW] at h); omega)
    refine kx_put (v := .int (kI ((k0 + 1 : Nat) : Int))) (C := RJ21) (T := TJ21) (N := 4) hx hb hts in_J21 hown hK h_21 rfl 1 (by decide) tyJ21 tyJ21_ok nmJ21 hS_12 (by first | rfl | exact Or.inl rfl | exact Or.inr rfl | exact Or.inr (Or.inl rfl) | exact Or.inr (Or.inr rfl) | exact Or.inr (Or.inr (Or.inl rfl)) | exact Or.inr (Or.inr (Or.inr rfl)) | ((try dsimp only); (try simp only [kNW]); omega)) q1056 (fun _ h9 => h9) rfl rfl rfl rfl (Nat.le_of_ble_eq_true rfl) dJ21_offer_53 (fun H_24 locs_25 hO_23 hU_22 hS_26 => ?_)
    have hO_23 : kO D H_24 pq 13 [.ref es, .int (kI ((k0 + 1 : Nat) : Int)), .ref cm, .int (kI ((mc + 1)))] := hO_23
    have hzu_27 := hU_22.1
    refine kx_iconst hx hb dJ21_offer_56 ?_
    have h_28 := ho_20.up hU_22 (by first | assumption | exact Ne.symm (by assumption) | omega | (have h9 := ho_20.lt; omega))
    exact kx_zret (z := true) hx hb hr hlk (⟨g2_18, q9, by rfl, hO_23, h_28, by exact hg29, by exact hHP9, by exact hT29⟩) hS_26 dJ21_offer_57
  · -- not taken at 33
    exfalso; omega

set_option maxHeartbeats 4000000 in
set_option maxRecDepth 100000 in
theorem m_J21_add (l : Launch) (D : kG) (H : Heap) (pq : Nat) (mc : Int) (k0 : Nat) (x : Nat) (es : Nat) (cm : Nat) (cv : Nat → Int × Int × Int) (T : Nat → Prop) (g : Nat → Option Nat) (q : Nat → Nat) (hO_pq : kO D H pq 13 [.ref es, .int (kI ((k0 : Nat) : Int)), .ref cm, .int (kI (mc))]) (hA_es : kAq D H es 4 60 g) (hO_cm : kO D H cm 6 []) (hP_kCs_cv : kCs D H cv T) (hk0 : k0 < 60) (hgq : ∀ i, i < k0 → g i = some (q i)) (hqx : q k0 = x) (hH0 : HPk (cdle cv) q k0 k0) (hT0 : ∀ y, (∃ i, i ≤ k0 ∧ q i = y) ↔ T y) (hneT : ∀ y, T y → y ≠ es) (hneP : ∀ y, T y → y ≠ pq) (ne_cm_es : cm ≠ es) (ne_cm_pq : cm ≠ pq) (ne_pq_es : pq ≠ es) (bs_es : kBase D ≤ es) (bs_pq : kBase D ≤ pq) : Met l yJ21_add (ws_ yJ21_add cJ21_add 2 (some .boolean)) ({ frames := 5, cells := 0, slots := 0, locals := 113 } : Room) (kPre D H [.ref pq, .ref x]) (kQb (fun (r : Bool) H' => ∃ (g2 : Nat → Option Nat) (q2 : Nat → Nat), (r = true) ∧ (kO D H' pq 13 [.ref es, .int (kI ((k0 + 1 : Nat) : Int)), .ref cm, .int (kI ((mc + 1)))]) ∧ (kAq D H' es 4 60 g2) ∧ (∀ i, i ≤ k0 → g2 i = some (q2 i)) ∧ (HP (cdle cv) q2 (k0 + 1)) ∧ (∀ y, (∃ i, i ≤ k0 ∧ q2 i = y) ↔ T y)) (fun q : Nat => q = pq ∨ q = es)) (0) (0) ((fun q : Nat => q = pq ∨ q = es)) := by
  refine Met.ofW (cc := cJ21_add) (maxL := 2) (ret := (some .boolean)) (by decide) rfl ?_
  intro p e s m args below meth c s₁ B hml hv
  obtain ⟨rfl, hH, hK⟩ := hv
  subst hH
  have hx := B.exec
  have hb := B.bytes
  have hr := B.returns
  have hts := atoms_spec (ws := ws_ yJ21_add cJ21_add 2 (some .boolean)) B.pre
  have hts : ∀ w ∈ lw_all, w.before _ s = true := fun w h => hts w (List.mem_cons_of_mem _ h)
  have hown : s.vm.findClass RJ21 = some m.cls := findClass_of_methodNamed B.named
  have hlk := B.notSynchronized
  have hS : va_S (fun q : Nat => q = pq ∨ q = es) s.heap s.heap [] := va_S.rf
  have hB : ∀ q, (fun q : Nat => q = pq ∨ q = es) q → kBase D ≤ q := fun q h => by (try dsimp only at h); (try simp only [kNW] at h); have hks := hK.size; omega
  have hl := lv_entry ([.ref pq, .ref x]) (n := 2) (Nat.le_of_ble_eq_true rfl)
  rw [lg_entry_eq]
  generalize (lg_sl ([.ref pq, .ref x]) ++ List.replicate (2 - (lg_sl ([.ref pq, .ref x])).length) Slot.unset).toArray = ls at hl ⊢
  have hl : lv_has ls 2 [(0, .ref pq), (1, .ref x)] := hl
  refine lv_aload_n hx hb dJ21_add_0 rfl (lv_at hl 0 rfl) ?_
  refine lv_aload_n hx hb dJ21_add_1 rfl (lv_at hl 1 rfl) ?_
  refine kx_cb (va_runV (As := [.ref x]) (rest := []) ⟨hx, hb, hml, hown, hts⟩ (m_J21_offer l D s.heap pq mc k0 x es cm cv T g q hO_pq hA_es hO_cm hP_kCs_cv (by first | assumption | omega) (by first | assumption | omega) (by first | assumption | omega) (by first | assumption | omega) (by first | assumption | omega) (by first | assumption | omega) (by first | assumption | omega) (by first | assumption | omega) (by first | assumption | omega) (by first | assumption | omega) (by first | assumption | omega) (by first | assumption | omega)) (cwV 1 hts (lw_V q1203 q1204 q1205 q107 q1206) rfl rfl rfl (by decide +kernel) ⟨Nat.le_of_ble_eq_true rfl, Nat.le_of_ble_eq_true rfl⟩) (kx_pv hK hS hB (kx_rc hK hO_pq (C := RJ21) (T := TJ21) (N := 4) rfl)) rfl rfl hl.1 rfl (lv_room (Nat.le_of_ble_eq_true rfl)) dJ21_add_2 ⟨by first | exact Nat.le_of_ble_eq_true rfl | omega | (show _ ≤ _; omega) | (dsimp only [headSpec]; omega), by first | exact Nat.le_of_ble_eq_true rfl | omega | (show _ ≤ _; omega) | (dsimp only [headSpec]; omega)⟩) hS (fun q _ h => by (try dsimp only at h); (try dsimp only); (try simp only [kNW] at h); (try simp only [kNW]); omega) (fun q h => by (try dsimp only at h); (try dsimp only); (try simp only [kNW] at h); (try simp only [kNW]); omega) (fun z_6 H_4 locs_1 hz_3 hF_5 hS_2 => ?_)
  have hzf_7 := hF_5.1
  refine W.widen (k := 0) (n := 0) (Nat.le_of_ble_eq_true rfl) (Nat.le_of_ble_eq_true rfl) ?_
  obtain ⟨g2_8, q9, hv_10, ho_11, ho_12, hg29, hHP9, hT29⟩ := hz_3
  subst z_6
  exact kx_zret (z := true) hx hb hr hlk (⟨g2_8, q9, by rfl, ho_11, ho_12, by exact hg29, by exact hHP9, by exact hT29⟩) hS_2 dJ21_add_5

set_option maxHeartbeats 4000000 in
set_option maxRecDepth 100000 in
theorem m_J21_size (l : Launch) (D : kG) (H : Heap) (pq : Nat) (es : Nat) (cm : Nat) (mc : Int) (n : Nat) (hO_pq : kO D H pq 13 [.ref es, .int (kI ((n : Nat) : Int)), .ref cm, .int (kI (mc))]) : Met l yJ21_size (ws_ yJ21_size cJ21_size 1 (some .int)) ({ frames := 0, cells := 0, slots := 0, locals := 0 } : Room) (kPre D H [.ref pq]) (kQi (fun (r : Int) H' => H' = H ∧ r = ((n : Nat) : Int)) kNO) (0) (0) (kNO) := by
  refine Met.ofW (cc := cJ21_size) (maxL := 1) (ret := (some .int)) (by decide) rfl ?_
  intro p e s m args below meth c s₁ B hml hv
  obtain ⟨rfl, hH, hK⟩ := hv
  subst hH
  have hx := B.exec
  have hb := B.bytes
  have hr := B.returns
  have hts := atoms_spec (ws := ws_ yJ21_size cJ21_size 1 (some .int)) B.pre
  have hts : ∀ w ∈ lw_all, w.before _ s = true := fun w h => hts w (List.mem_cons_of_mem _ h)
  have hown : s.vm.findClass RJ21 = some m.cls := findClass_of_methodNamed B.named
  have hlk := B.notSynchronized
  have hS : va_S kNO s.heap s.heap [] := va_S.rf
  have hB : ∀ q, kNO q → kBase D ≤ q := fun _ h => h.elim
  have hl := lv_entry ([.ref pq]) (n := 1) (Nat.le_of_ble_eq_true rfl)
  rw [lg_entry_eq]
  generalize (lg_sl ([.ref pq]) ++ List.replicate (1 - (lg_sl ([.ref pq])).length) Slot.unset).toArray = ls at hl ⊢
  have hl : lv_has ls 1 [(0, .ref pq)] := hl
  refine lv_aload_n hx hb dJ21_size_0 rfl (lv_at hl 0 rfl) ?_
  refine kx_get (v := .int (kI ((n : Nat) : Int))) (C := RJ21) (T := TJ21) (N := 4) hx hb hts in_J21 hown hK hO_pq rfl 1 (by decide) q1056 (fun _ h9 => h9) rfl dJ21_size_1 ?_
  exact kx_iret (z := ((n : Nat) : Int)) hx hb hr hlk (⟨rfl, by rfl⟩) hS dJ21_size_4

set_option maxHeartbeats 4000000 in
set_option maxRecDepth 100000 in
theorem m_J21_peek (l : Launch) (D : kG) (H : Heap) (pq : Nat) (es : Nat) (cm : Nat) (mc : Int) (n : Nat) (g : Nat → Option Nat) (b : Nat) (hO_pq : kO D H pq 13 [.ref es, .int (kI ((n : Nat) : Int)), .ref cm, .int (kI (mc))]) (hA_es : kAq D H es 4 60 g) (hg : g 0 = some b) : Met l yJ21_peek (ws_ yJ21_peek cJ21_peek 1 (some (.object "java/lang/Object"))) ({ frames := 0, cells := 0, slots := 0, locals := 0 } : Room) (kPre D H [.ref pq]) (kQr (fun (r : Nat) H' => H' = H ∧ r = b) kNO) (0) (0) (kNO) := by
  refine Met.ofW (cc := cJ21_peek) (maxL := 1) (ret := (some (.object "java/lang/Object"))) (by decide) rfl ?_
  intro p e s m args below meth c s₁ B hml hv
  obtain ⟨rfl, hH, hK⟩ := hv
  subst hH
  have hx := B.exec
  have hb := B.bytes
  have hr := B.returns
  have hts := atoms_spec (ws := ws_ yJ21_peek cJ21_peek 1 (some (.object "java/lang/Object"))) B.pre
  have hts : ∀ w ∈ lw_all, w.before _ s = true := fun w h => hts w (List.mem_cons_of_mem _ h)
  have hown : s.vm.findClass RJ21 = some m.cls := findClass_of_methodNamed B.named
  have hlk := B.notSynchronized
  have hS : va_S kNO s.heap s.heap [] := va_S.rf
  have hB : ∀ q, kNO q → kBase D ≤ q := fun _ h => h.elim
  have hl := lv_entry ([.ref pq]) (n := 1) (Nat.le_of_ble_eq_true rfl)
  rw [lg_entry_eq]
  generalize (lg_sl ([.ref pq]) ++ List.replicate (1 - (lg_sl ([.ref pq])).length) Slot.unset).toArray = ls at hl ⊢
  have hl : lv_has ls 1 [(0, .ref pq)] := hl
  refine lv_aload_n hx hb dJ21_peek_0 rfl (lv_at hl 0 rfl) ?_
  refine kx_get (v := .ref es) (C := RJ21) (T := TJ21) (N := 4) hx hb hts in_J21 hown hK hO_pq rfl 0 (by decide) q1055 (fun _ h9 => h9) rfl dJ21_peek_1 ?_
  refine kx_iconst hx hb dJ21_peek_4 ?_
  refine kx_aald hx hb hK (t := 4) rfl hA_es 0 (rfl) (by omega) (by omega) dJ21_peek_5 ?_
  refine kx_eqq hx hb (b := b) (hg) ?_
  exact kx_aret (z := b) hx hb hr (by first | exact Or.inl ⟨_, rfl⟩ | exact Or.inr ⟨_, rfl⟩) hlk (⟨rfl, by rfl⟩) hS dJ21_peek_6

set_option maxHeartbeats 4000000 in
set_option maxRecDepth 100000 in
theorem m_J20_init (l : Launch) (D : kG) (H : Heap) (pq : Nat) : Met l yJ20_init (ws_ yJ20_init cJ20_init 1 none) ({ frames := 2, cells := 0, slots := 0, locals := 40 } : Room) (kPre D H [.ref pq]) (kQv (fun H' => H' = H ∧ True) kNO) (0) (0) (kNO) := by
  refine Met.ofW (cc := cJ20_init) (maxL := 1) (ret := none) (by decide) rfl ?_
  intro p e s m args below meth c s₁ B hml hv
  obtain ⟨rfl, hH, hK⟩ := hv
  subst hH
  have hx := B.exec
  have hb := B.bytes
  have hr := B.returns
  have hts := atoms_spec (ws := ws_ yJ20_init cJ20_init 1 none) B.pre
  have hts : ∀ w ∈ lw_all, w.before _ s = true := fun w h => hts w (List.mem_cons_of_mem _ h)
  have hown : s.vm.findClass RJ20 = some m.cls := findClass_of_methodNamed B.named
  have hlk := B.notSynchronized
  have hin : meth.name = "<init>" := (name_of_methodNamed B.named B.method).1
  have hS : va_S kNO s.heap s.heap [] := va_S.rf
  have hB : ∀ q, kNO q → kBase D ≤ q := fun _ h => h.elim
  have hl := lv_entry ([.ref pq]) (n := 1) (Nat.le_of_ble_eq_true rfl)
  rw [lg_entry_eq]
  generalize (lg_sl ([.ref pq]) ++ List.replicate (1 - (lg_sl ([.ref pq])).length) Slot.unset).toArray = ls at hl ⊢
  have hl : lv_has ls 1 [(0, .ref pq)] := hl
  refine lv_aload_n hx hb dJ20_init_0 rfl (lv_at hl 0 rfl) ?_
  refine kx_cv0 (va_runI (As := []) (rest := []) ⟨hx, hb, hml, hown, hts⟩ (m_J0_init l D s.heap pq  ) (cwI 0 hts (lw_meth q151) rfl rfl rfl (hts _ q81) (hts _ q1032) (hts _ q150) rfl (by decide +kernel) ⟨Nat.le_of_ble_eq_true rfl, Nat.le_of_ble_eq_true rfl⟩) (kx_ps hK hS hB) rfl rfl hl.1 rfl (lv_room (Nat.le_of_ble_eq_true rfl)) dJ20_init_1 ⟨by first | exact Nat.le_of_ble_eq_true rfl | omega | (show _ ≤ _; omega) | (dsimp only [headSpec]; omega), by first | exact Nat.le_of_ble_eq_true rfl | omega | (show _ ≤ _; omega) | (dsimp only [headSpec]; omega)⟩) hS (fun locs_1 hz_3 hS_2 => ?_)
  exact kx_vret hx hb hr hlk (⟨rfl, trivial⟩) hS_2 dJ20_init_4

set_option maxHeartbeats 4000000 in
set_option maxRecDepth 100000 in
theorem m_J21_init (l : Launch) (D : kG) (H : Heap) (pq : Nat) (cm : Nat) (hO_pq : kO D H pq 13 [.null, .int (kI (0)), .null, .int (kI (0))]) (bs_pq : kBase D ≤ pq) : Met l yJ21_init (ws_ yJ21_init cJ21_init 3 none) ({ frames := 3, cells := 1, slots := 60, locals := 60 } : Room) (kPre D H [.ref pq, .int (kI (60)), .ref cm]) (kQv (fun H' => ∃ (es : Nat), (kO D H' pq 13 [.ref es, .int (kI (0)), .ref cm, .int (kI (0))]) ∧ (kAq D H' es 4 60 ((fun _ => none))) ∧ (H.size ≤ es)) (fun q : Nat => q = pq ∨ H.size ≤ q)) (1) (60) ((fun q : Nat => q = pq ∨ H.size ≤ q)) := by
  refine Met.ofW (cc := cJ21_init) (maxL := 3) (ret := none) (by decide) rfl ?_
  intro p e s m args below meth c s₁ B hml hv
  obtain ⟨rfl, hH, hK⟩ := hv
  subst hH
  have hx := B.exec
  have hb := B.bytes
  have hr := B.returns
  have hts := atoms_spec (ws := ws_ yJ21_init cJ21_init 3 none) B.pre
  have hts : ∀ w ∈ lw_all, w.before _ s = true := fun w h => hts w (List.mem_cons_of_mem _ h)
  have hown : s.vm.findClass RJ21 = some m.cls := findClass_of_methodNamed B.named
  have hlk := B.notSynchronized
  have hin : meth.name = "<init>" := (name_of_methodNamed B.named B.method).1
  have hS : va_S (fun q : Nat => q = pq ∨ s.heap.size ≤ q) s.heap s.heap [] := va_S.rf
  have hB : ∀ q, (fun q : Nat => q = pq ∨ s.heap.size ≤ q) q → kBase D ≤ q := fun q h => by (try dsimp only at h); (try simp only [kNW] at h); have hks := hK.size; omega
  have hl := lv_entry ([.ref pq, .int (kI (60)), .ref cm]) (n := 3) (Nat.le_of_ble_eq_true rfl)
  rw [lg_entry_eq]
  generalize (lg_sl ([.ref pq, .int (kI (60)), .ref cm]) ++ List.replicate (3 - (lg_sl ([.ref pq, .int (kI (60)), .ref cm])).length) Slot.unset).toArray = ls at hl ⊢
  have hl : lv_has ls 3 [(0, .ref pq), (1, .int (kI (60))), (2, .ref cm)] := hl
  have hlt0 := hO_pq.lt
  refine lv_aload_n hx hb dJ21_init_0 rfl (lv_at hl 0 rfl) ?_
  refine kx_cv0 (va_runI (As := []) (rest := []) ⟨hx, hb, hml, hown, hts⟩ (m_J20_init l D s.heap pq  ) (cwI 0 hts (lw_meth q1031) rfl rfl rfl (hts _ q106) (hts _ q1029) (hts _ q1030) rfl (by decide +kernel) ⟨Nat.le_of_ble_eq_true rfl, Nat.le_of_ble_eq_true rfl⟩) (kx_ps hK hS hB) rfl rfl hl.1 rfl (lv_room (Nat.le_of_ble_eq_true rfl)) dJ21_init_1 ⟨by first | exact Nat.le_of_ble_eq_true rfl | omega | (show _ ≤ _; omega) | (dsimp only [headSpec]; omega), by first | exact Nat.le_of_ble_eq_true rfl | omega | (show _ ≤ _; omega) | (dsimp only [headSpec]; omega)⟩) hS (fun locs_1 hz_3 hS_2 => ?_)
  refine lv_iload_n hx hb dJ21_init_4 rfl (lv_at hl 1 rfl) ?_
  refine kx_iconst hx hb dJ21_init_5 ?_
  refine kx_icmp_ge (x := 60) (y := 1) (tgt := 17) hx hb dJ21_init_6 (by decide) (by omega) (by omega) (by omega) (by omega) (fun c_6_5 => ?_) (fun c_6_5 => ?_)
  · -- taken at 6
    refine lv_aload_n hx hb dJ21_init_17 rfl (lv_at hl 0 rfl) ?_
    refine lv_iload_n hx hb dJ21_init_18 rfl (lv_at hl 1 rfl) ?_
    refine kx_eqi (((60 : Nat) : Int)) (by decide) ?_
    refine kx_anew (t := 4) (N' := 60) hx hb hts hown q1054 hK (by decide) rfl hS_2 (by first | rfl | omega) (by omega) (by first | exact Nat.le_of_ble_eq_true rfl | omega | (show _ ≤ _; omega) | (dsimp only [headSpec]; omega)) (by first | exact Nat.le_of_ble_eq_true rfl | omega | (show _ ≤ _; omega) | (dsimp only [headSpec]; omega)) dJ21_init_19 (fun na_6 H_7 hq_8 hz_9 hA_10 hE_11 hS_12 => ?_)
    have hge_na_6 : s.heap.size ≤ na_6 := by rw [hq_8]; exact hS_2.1
    refine W.widen (k := 1) (n := 60) (Nat.le_of_ble_eq_true rfl) (Nat.le_of_ble_eq_true rfl) ?_
    have h_13 := hO_pq.ex hE_11
    refine kx_put (v := .ref na_6) (C := RJ21) (T := TJ21) (N := 4) hx hb hts in_J21 hown hK h_13 rfl 0 (by decide) tyJ21 tyJ21_ok nmJ21 hS_12 (by first | rfl | exact Or.inl rfl | exact Or.inr rfl | exact Or.inr (Or.inl rfl) | exact Or.inr (Or.inr rfl) | exact Or.inr (Or.inr (Or.inl rfl)) | exact Or.inr (Or.inr (Or.inr rfl)) | ((try dsimp only); (try simp only [kNW]); omega)) q1055 (fun _ h9 => h9) rfl rfl rfl rfl (Nat.le_of_ble_eq_true rfl) dJ21_init_22 (fun H_16 locs_17 hO_15 hU_14 hS_18 => ?_)
    have hO_15 : kO D H_16 pq 13 [.ref na_6, .int (kI (0)), .null, .int (kI (0))] := hO_15
    have hzu_19 := hU_14.1
    refine lv_aload_n hx hb dJ21_init_25 rfl (lv_at hl 0 rfl) ?_
    refine lv_aload_n hx hb dJ21_init_26 rfl (lv_at hl 2 rfl) ?_
    refine kx_putF (v := .ref cm) (C := RJ21) (T := TJ21) (N := 4) hx hb hts in_J21 hown hK hO_15 rfl 2 (by decide) tyJ21 tyJ21_ok nmJ21 hS_18 (by first | rfl | exact Or.inl rfl | exact Or.inr rfl | exact Or.inr (Or.inl rfl) | exact Or.inr (Or.inr rfl) | exact Or.inr (Or.inr (Or.inl rfl)) | exact Or.inr (Or.inr (Or.inr rfl)) | ((try dsimp only); (try simp only [kNW]); omega)) q1057 (fun _ h9 => h9) rfl hin rfl rfl rfl rfl (Nat.le_of_ble_eq_true rfl) dJ21_init_27 (fun H_22 locs_23 hO_21 hU_20 hS_24 => ?_)
    have hO_21 : kO D H_22 pq 13 [.ref na_6, .int (kI (0)), .ref cm, .int (kI (0))] := hO_21
    have hzu_25 := hU_20.1
    have h_26 := hA_10.up hU_14 (by first | assumption | exact Ne.symm (by assumption) | omega | (have h9 := hA_10.lt; omega))
    have h_27 := h_26.up hU_20 (by first | assumption | exact Ne.symm (by assumption) | omega | (have h9 := h_26.lt; omega))
    exact kx_vret hx hb hr hlk (⟨na_6, hO_21, h_27, by first | assumption | rfl | omega | grind⟩) hS_24 dJ21_init_30
  · -- not taken at 6
    exfalso; omega

