/-! MATH 53: the first entry -/
theorem kTM.put0 {D : kG} {H : Heap} {mp b0 x kx vx : Nat} {K : Int} (hO : kO D H mp 15 [.null, .null, .null, .ref x, .int (kI ((1 : Nat) : Int)), .int (kI ((1 : Nat) : Int)), .null, .null, .null]) (hx : kO D H x 16 [.ref kx, .ref vx, .null, .null, .null, .int (kI (kb true))]) (hk : kO D H kx 14 [.int (kI K)]) (hK : 0 ≤ K ∧ K ≤ 1000) (hb : kBase D ≤ x) (h1 : b0 ≤ mp) (h2 : b0 ≤ x) : kTM D H mp b0 [(x, K)] := by
  refine ⟨some x, fun _ => kx, fun _ => vx, fun _ => none, fun _ => none, fun _ => none, fun _ => true, TN x .leaf .leaf, fun _ => K, hO, fun a ha => ?_, fun a ha => ⟨hk, hK⟩, ⟨trivial, ⟨rfl, rfl, rfl, trivial, trivial⟩, ⟨(by simp [tio]), fun _ _ h => (by cases h), List.nodup_nil⟩, rfl, fun y => Iff.rfl⟩, rfl, fun _ _ => rfl, fun q hq => ?_, h1, fun q hq => ?_⟩
  · simp at ha; subst ha; exact ⟨hb, hx⟩
  · simp at hq; subst hq; rfl
  · simp at hq; subst hq; exact h2
theorem kTM.new {D : kG} {H : Heap} {mp b0 : Nat} (hO : kO D H mp 15 [.null, .null, .null, .null, .int (kI 0), .int (kI 0), .null, .null, .null]) (h : b0 ≤ mp) : kTM D H mp b0 [] :=
  ⟨none, fun _ => 0, fun _ => 0, fun _ => none, fun _ => none, fun _ => none, fun _ => true, .leaf, fun _ => 0, hO, fun a ha => (by cases ha), fun a ha => (by cases ha), ⟨trivial, trivial, ⟨List.nodup_nil, fun _ h => (by cases h), List.nodup_nil⟩, rfl, fun y => Iff.rfl⟩, rfl, fun a ha => (by cases ha), fun q hq => (by cases hq), h, fun q hq => (by cases hq)⟩
theorem map_pair {E : List (Nat × Int)} {kv : Nat → Int} (hkv : ∀ q, q ∈ E → kv q.1 = q.2) (h : (E.map Prod.snd).Pairwise (fun a b => a < b)) : (E.map Prod.fst).Pairwise (fun a b => kv a < kv b) := by
  rw [List.pairwise_map] at h ⊢
  exact h.imp_of_mem (fun ha hb hab => by rw [hkv _ ha, hkv _ hb]; exact hab)
set_option maxHeartbeats 4000000 in
set_option maxRecDepth 100000 in
theorem m_J28_put_e (l : Launch) (D : kG) (H : Heap) (mp : Nat) (mc : Int) (ks : Option Nat) (kx : Nat) (vx : Nat) (K : Int) (hO_mp : kO D H mp 15 [.null, .null, .null, .null, .int (kI (0)), .int (kI (mc)), .null, .null, .null]) (hO_kx : kO D H kx 14 [.int (kI (K))]) (hKr : 0 ≤ K ∧ K ≤ 1000) (bs_mp : kBase D ≤ mp) (hmc : 0 ≤ mc ∧ mc ≤ 1000) : Met l yJ28_put_2 (ws_ yJ28_put_2 cJ28_put_2 10 (some (.object "java/lang/Object"))) ({ frames := 5, cells := 1, slots := 6, locals := 107 } : Room) (kPre D H [.ref mp, .ref kx, .ref vx, .int (kI (kb (true)))]) (kQq (fun (r : Option Nat) H' => ∃ (x : Nat), (r = none) ∧ (kO D H' mp 15 [.null, .null, .null, .ref x, .int (kI (1)), .int (kI (mc + 1)), .null, .null, .null]) ∧ (kO D H' x 16 [.ref kx, .ref vx, .null, .null, .null, .int (kI (kb (true)))]) ∧ (H.size ≤ x)) (fun q : Nat => q = mp ∨ H.size ≤ q)) (1) (6) ((fun q : Nat => q = mp ∨ H.size ≤ q)) := by
  refine Met.ofW (cc := cJ28_put_2) (maxL := 10) (ret := (some (.object "java/lang/Object"))) (by decide) rfl ?_
  intro p e s m args below meth c s₁ B hml hv
  obtain ⟨rfl, hH, hK⟩ := hv
  subst hH
  have hx := B.exec
  have hb := B.bytes
  have hr := B.returns
  have hts := atoms_spec (ws := ws_ yJ28_put_2 cJ28_put_2 10 (some (.object "java/lang/Object"))) B.pre
  have hts : ∀ w ∈ lw_all, w.before _ s = true := fun w h => hts w (List.mem_cons_of_mem _ h)
  have hown : s.vm.findClass RJ28 = some m.cls := findClass_of_methodNamed B.named
  have hlk := B.notSynchronized
  have hS : va_S (fun q : Nat => q = mp ∨ s.heap.size ≤ q) s.heap s.heap [] := va_S.rf
  have hB : ∀ q, (fun q : Nat => q = mp ∨ s.heap.size ≤ q) q → kBase D ≤ q := fun q h => by (try dsimp only at h); (try simp only [kNW] at h); have hks := hK.size; omega
  have hl := lv_entry ([.ref mp, .ref kx, .ref vx, .int (kI (kb (true)))]) (n := 10) (Nat.le_of_ble_eq_true rfl)
  rw [lg_entry_eq]
  generalize (lg_sl ([.ref mp, .ref kx, .ref vx, .int (kI (kb (true)))]) ++ List.replicate (10 - (lg_sl ([.ref mp, .ref kx, .ref vx, .int (kI (kb (true)))])).length) Slot.unset).toArray = ls at hl ⊢
  have hl : lv_has ls 10 [(0, .ref mp), (1, .ref kx), (2, .ref vx), (3, .int (kI (kb (true))))] := hl
  have hlt0 := hO_mp.lt
  have hltk := hO_kx.lt
  refine lv_aload_n hx hb dJ28_put_2_0 rfl (lv_at hl 0 rfl) ?_
  refine kx_get (v := .null) (C := RJ28) (T := TJ28) (N := 9) hx hb hts in_J28 hown hK hO_mp rfl 3 (by decide) q543 (fun _ h9 => h9) rfl dJ28_put_2_1 ?_
  refine lv_astoreN (lv' := [(4, .null), (0, .ref mp), (1, .ref kx), (2, .ref vx), (3, .int (kI (kb (true))))]) hx hb dJ28_put_2_4 hl (by decide) rfl (fun ls hl => ?_)
  refine lv_aloadN hx hb dJ28_put_2_6 (lv_at hl 0 rfl) ?_
  refine lv_ifnonnullN hx hb dJ28_put_2_8 ?_
  refine lv_aload_n hx hb dJ28_put_2_11 rfl (lv_at hl 1 rfl) ?_
  refine lv_aload_n hx hb dJ28_put_2_12 rfl (lv_at hl 2 rfl) ?_
  refine lv_aload_n hx hb dJ28_put_2_13 rfl (lv_at hl 3 rfl) ?_
  refine kx_cv (va_runV (As := [.ref kx, .ref vx]) (rest := []) ⟨hx, hb, hml, hown, hts⟩ (m_J28_addEntryToEmptyMap l D s.heap mp mc none kx vx K hO_mp hO_kx (by first | assumption | omega) (by first | assumption | omega) (by first | assumption | omega)) (cwV 2 hts (lw_V q595 q597 qs9 q117 q598) rfl rfl rfl (by decide +kernel) ⟨Nat.le_of_ble_eq_true rfl, Nat.le_of_ble_eq_true rfl⟩) (kx_pv hK hS hB (kx_rc hK hO_mp (C := RJ28) (T := TJ28) (N := 9) rfl)) rfl rfl hl.1 rfl (lv_room (Nat.le_of_ble_eq_true rfl)) dJ28_put_2_14 ⟨by first | exact Nat.le_of_ble_eq_true rfl | omega | (show _ ≤ _; omega) | (dsimp only [headSpec]; omega), by first | exact Nat.le_of_ble_eq_true rfl | omega | (show _ ≤ _; omega) | (dsimp only [headSpec]; omega)⟩) hS (fun q _ h => by have h9 := hS.1; (try dsimp only at h); (try dsimp only); (try simp only [kNW] at h); (try simp only [kNW]); omega) (fun q h => by have h9 := hS.1; (try dsimp only at h); (try dsimp only); (try simp only [kNW] at h); (try simp only [kNW]); omega) (fun H_4 locs_1 hz_3 hF_5 hS_2 => ?_)
  have hzf_7 := hF_5.1
  refine W.widen (k := 1) (n := 6) (Nat.le_of_ble_eq_true rfl) (Nat.le_of_ble_eq_true rfl) ?_
  obtain ⟨x9, ho_9, ho_10, hnn9⟩ := hz_3
  refine lv_null hx hb dJ28_put_2_17 ?_
  exact kx_aretq hx hb hr (by first | exact Or.inl ⟨_, rfl⟩ | exact Or.inr ⟨_, rfl⟩) hlk (none) rfl (⟨x9, by rfl, ho_9, ho_10, by first | assumption | rfl | omega | grind⟩) hS_2 dJ28_put_2_18

set_option maxHeartbeats 4000000 in
set_option maxRecDepth 100000 in
theorem m_J28_put (l : Launch) (D : kG) (H : Heap) (mp : Nat) (b0 : Nat) (E : List (Nat × Int)) (kx : Nat) (vx : Nat) (K : Int) (hP_kTM_mp : kTM D H mp b0 E) (hO_kx : kO D H kx 14 [.int (kI (K))]) (hKr : 0 ≤ K ∧ K ≤ 1000) (hnk : ∀ q, q ∈ E → q.2 ≠ K) (hso : (E.map Prod.snd).Pairwise (fun a b => a < b)) (hb0 : kBase D ≤ b0) (hb1 : b0 ≤ H.size) (hlen : E.length ≤ 1000) : Met l yJ28_put (ws_ yJ28_put cJ28_put 3 (some (.object "java/lang/Object"))) ({ frames := 6, cells := 1, slots := 6, locals := 136 } : Room) (kPre D H [.ref mp, .ref kx, .ref vx]) (kQq (fun (r : Option Nat) H' => ∃ (E2 : List (Nat × Int)), (r = none) ∧ (kTM D H' mp b0 E2) ∧ (∃ pre post y, E = pre ++ post ∧ E2 = pre ++ (y, K) :: post ∧ (∀ q, q ∈ pre → q.2 < K) ∧ ∀ q, q ∈ post → K < q.2)) (fun q : Nat => b0 ≤ q)) (1) (6) ((fun q : Nat => b0 ≤ q)) := by
  refine Met.ofW (cc := cJ28_put) (maxL := 3) (ret := (some (.object "java/lang/Object"))) (by decide) rfl ?_
  intro p e s m args below meth c s₁ B hml hv
  obtain ⟨rfl, hH, hK⟩ := hv
  subst hH
  have hx := B.exec
  have hb := B.bytes
  have hr := B.returns
  have hts := atoms_spec (ws := ws_ yJ28_put cJ28_put 3 (some (.object "java/lang/Object"))) B.pre
  have hts : ∀ w ∈ lw_all, w.before _ s = true := fun w h => hts w (List.mem_cons_of_mem _ h)
  have hown : s.vm.findClass RJ28 = some m.cls := findClass_of_methodNamed B.named
  have hlk := B.notSynchronized
  have hS : va_S (fun q : Nat => b0 ≤ q) s.heap s.heap [] := va_S.rf
  have hB : ∀ q, (fun q : Nat => b0 ≤ q) q → kBase D ≤ q := fun q h => Nat.le_trans hb0 h
  have hl := lv_entry ([.ref mp, .ref kx, .ref vx]) (n := 3) (Nat.le_of_ble_eq_true rfl)
  rw [lg_entry_eq]
  generalize (lg_sl ([.ref mp, .ref kx, .ref vx]) ++ List.replicate (3 - (lg_sl ([.ref mp, .ref kx, .ref vx])).length) Slot.unset).toArray = ls at hl ⊢
  have hl : lv_has ls 3 [(0, .ref mp), (1, .ref kx), (2, .ref vx)] := hl
  obtain ⟨ro, kf, vf, lf, rt, pr, co, t, kv, hTO, hTN, hBX, hZ, hio, hbl, hkv, hbm, hbE⟩ := hP_kTM_mp
  have hbsm : kBase D ≤ mp := Nat.le_trans hb0 hbm
  rcases t with ⟨n0, r0, u0, tl0, tr0⟩ | _
  · -- entries
    have hZ := hZ.nrm
    have hio : tio (TN r0 tl0 tr0) = E.map Prod.fst := hio
    have hso2 : (tio (TN r0 tl0 tr0)).Pairwise (fun a b => kv a < kv b) := by rw [hio]; exact map_pair hkv hso
    have hnk2 : ∀ a, a ∈ E.map Prod.fst → kv a ≠ K := fun a ha => by obtain ⟨q, hq, rfl⟩ := List.mem_map.mp ha; rw [hkv q hq]; exact hnk q hq
    refine lv_aload_n hx hb dJ28_put_0 rfl (lv_at hl 0 rfl) ?_
    refine lv_aload_n hx hb dJ28_put_1 rfl (lv_at hl 1 rfl) ?_
    refine lv_aload_n hx hb dJ28_put_2 rfl (lv_at hl 2 rfl) ?_
    refine kx_iconst hx hb dJ28_put_3 ?_
    refine kx_cq (va_runV (As := [.ref kx, .ref vx, .int (kI (1))]) (rest := []) ⟨hx, hb, hml, hown, hts⟩ (m_J28_put_2 l D s.heap mp ro E.length (((E.length : Nat) : Int)) none (E.map Prod.fst) kf vf lf rt pr co kx vx kv K r0 tl0 tr0 hTO hTN hBX hO_kx (by first | assumption | omega) hZ hbl hso2 hnk2 hbsm (by first | assumption | omega) (by first | assumption | omega)) (cwV 3 hts (lw_V q591 q593 qs8 q117 q594) rfl rfl rfl (by decide +kernel) ⟨Nat.le_of_ble_eq_true rfl, Nat.le_of_ble_eq_true rfl⟩) (kx_pv hK hS hB (kx_rc hK hTO (C := RJ28) (T := TJ28) (N := 9) rfl)) rfl rfl hl.1 rfl (lv_room (Nat.le_of_ble_eq_true rfl)) dJ28_put_4 ⟨by first | exact Nat.le_of_ble_eq_true rfl | omega | (show _ ≤ _; omega) | (dsimp only [headSpec]; omega), by first | exact Nat.le_of_ble_eq_true rfl | omega | (show _ ≤ _; omega) | (dsimp only [headSpec]; omega)⟩) hS (fun q _ h => by rcases h with h | h | h; (rw [show q = mp from h]; exact hbm); (obtain ⟨w, hw, hw2⟩ := List.mem_map.mp h; (have := hbE w hw; (show b0 ≤ q); omega)); (show b0 ≤ q; omega)) (fun q h => by rcases h with h | h | h; (rw [show q = mp from h]; exact hbm); (obtain ⟨w, hw, hw2⟩ := List.mem_map.mp h; (have := hbE w hw; (show b0 ≤ q); omega)); (show b0 ≤ q; omega)) (fun z_6 H_4 locs_1 hz_3 hF_5 hS_2 => ?_)
    have hzf_7 := hF_5.1
    refine W.widen (k := 1) (n := 6) (Nat.le_of_ble_eq_true rfl) (Nat.le_of_ble_eq_true rfl) ?_
    obtain ⟨x9, lZ, rZ, pZ, cZ, rrZ, tZ, hv_15, ho_16, ho_17, ho_18, hZz, hioz, hblz, hnewz⟩ := hz_3
    subst z_6
    obtain ⟨E9, hTM9, hE9⟩ := kTM.put (b0 := b0) ho_16 ho_17 ho_18 hZz hblz hkv (fun z => by obtain ⟨w, hw, hw2⟩ := List.mem_map.mp z; have h9 := (hTN x9 (List.mem_map.mpr ⟨w, hw, hw2⟩)).2.lt; omega) hbm (by omega) hbE (by rw [← hio]; exact hioz)
    exact kx_aretq hx hb hr (by first | exact Or.inl ⟨_, rfl⟩ | exact Or.inr ⟨_, rfl⟩) hlk (none) rfl (⟨E9, by rfl, hTM9, by first | assumption | rfl | omega | grind⟩) hS_2 dJ28_put_7
  · -- empty
    have hE0 : E = [] := List.map_eq_nil_iff.mp hio.symm
    have hro : ro = none := hZ.2.2.2.1
    subst hE0
    subst hro
    have hd9 := hK.dis
    have hkm : kx ≠ mp := kO_ne hd9 hO_kx hTO (by decide) (by decide) (by decide)
    refine lv_aload_n hx hb dJ28_put_0 rfl (lv_at hl 0 rfl) ?_
    refine lv_aload_n hx hb dJ28_put_1 rfl (lv_at hl 1 rfl) ?_
    refine lv_aload_n hx hb dJ28_put_2 rfl (lv_at hl 2 rfl) ?_
    refine kx_iconst hx hb dJ28_put_3 ?_
    refine kx_cq (va_runV (As := [.ref kx, .ref vx, .int (kI (1))]) (rest := []) ⟨hx, hb, hml, hown, hts⟩ (m_J28_put_e l D s.heap mp 0 none kx vx K hTO hO_kx (by first | assumption | omega) hbsm (by first | assumption | omega)) (cwV 3 hts (lw_V q591 q593 qs8 q117 q594) rfl rfl rfl (by decide +kernel) ⟨Nat.le_of_ble_eq_true rfl, Nat.le_of_ble_eq_true rfl⟩) (kx_pv hK hS hB (kx_rc hK hTO (C := RJ28) (T := TJ28) (N := 9) rfl)) rfl rfl hl.1 rfl (lv_room (Nat.le_of_ble_eq_true rfl)) dJ28_put_4 ⟨by first | exact Nat.le_of_ble_eq_true rfl | omega | (show _ ≤ _; omega) | (dsimp only [headSpec]; omega), by first | exact Nat.le_of_ble_eq_true rfl | omega | (show _ ≤ _; omega) | (dsimp only [headSpec]; omega)⟩) hS (fun q _ h => by rcases h with h | h; (rw [show q = mp from h]; exact hbm); (show b0 ≤ q; omega)) (fun q h => by rcases h with h | h; (rw [show q = mp from h]; exact hbm); (show b0 ≤ q; omega)) (fun z_24 H_22 locs_19 hz_21 hF_23 hS_20 => ?_)
    have hzf_25 := hF_23.1
    refine W.widen (k := 1) (n := 6) (Nat.le_of_ble_eq_true rfl) (Nat.le_of_ble_eq_true rfl) ?_
    obtain ⟨x9, hv_27, ho_28, ho_29, hnewz⟩ := hz_21
    subst z_24
    have h_30 := hO_kx.fr hF_23 (fun h => by have h9 := hO_kx.lt; rcases h with h | h; exact hkm h; omega)
    have hTM9 : kTM D H_22 mp b0 [(x9, K)] := kTM.put0 ho_28 ho_29 h_30 hKr (by omega) hbm (by omega)
    have hE9 : ∃ pre post y, ([] : List (Nat × Int)) = pre ++ post ∧ [(x9, K)] = pre ++ (y, K) :: post ∧ (∀ q, q ∈ pre → q.2 < K) ∧ ∀ q, q ∈ post → K < q.2 := ⟨[], [], x9, rfl, rfl, fun q hq => (by cases hq), fun q hq => (by cases hq)⟩
    exact kx_aretq hx hb hr (by first | exact Or.inl ⟨_, rfl⟩ | exact Or.inr ⟨_, rfl⟩) hlk (none) rfl (⟨([(x9, K)]), by rfl, hTM9, by first | assumption | rfl | omega | grind⟩) hS_20 dJ28_put_7

