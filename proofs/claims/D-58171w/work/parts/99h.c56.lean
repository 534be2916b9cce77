theorem StG_nil : StG ([] : Ls) := by
  refine ⟨?_, fun k hk => absurd hk (Nat.not_lt_zero k)⟩
  exact fun i j q hi => absurd hi (Nat.not_lt_zero i)
set_option maxHeartbeats 8000000 in
set_option maxRecDepth 100000 in
/-- THE LAW, from its entry -/
theorem law_start {p : Program} {e : Env} {s : State} {m : MethodId} {below : List Frame} {meth : Method} {c : Code} {l : Launch} {D : kG} {b L : Nat} {xs : Nat → Int32} {Q : State → Prop} (hx : p.tables.exec = Jvm.exec) (hb : c.code = cL_law) (hml : c.maxLocals = 9) (hown : s.vm.findClass RX0 = some m.cls) (hts : ∀ w ∈ lw_all, w.before #[Value.ref b] s = true) (hlk : meth.locks = false) (hK : kK D s) (hl9 : l.stackTraces = false) (hX : va_X b L xs s s.heap) (hbl : b < s.heap.size) (hbs : kBase D = s.heap.size) (hL72 : L ≤ 72) (kend : ∀ (H : Heap) (ls : Array Slot), W p l e lwR s m #[Value.ref b] below meth c H [] 1200144 5496058 Q (F0 m 2500 ls [.int 1])) : W p l e lwR s m #[Value.ref b] below meth c s.heap [] 0 0 Q (entryFrame m ([Value.ref b] : List Value).toArray 9) := by
  have hS : va_S (kNW s.heap) s.heap s.heap [] := va_S.rf
  have hB : ∀ q, (kNW s.heap) q → kBase D ≤ q := fun q h => Nat.le_trans hK.size h
  have hl := lv_entry ([.ref b]) (n := 9) (Nat.le_of_ble_eq_true rfl)
  rw [lg_entry_eq]
  generalize (lg_sl ([.ref b]) ++ List.replicate (9 - (lg_sl ([.ref b])).length) Slot.unset).toArray = ls at hl ⊢
  have hl : lv_has ls 9 [(0, .ref b)] := hl
  refine kx_new (ci := 0) (fs := [.null, .null, .null, .null]) (C := RX1) (T := TX1) (N := 4) hx hb hts in_X1 hown hK tyX1 tyX1_ok q127 q128 q79 hS rfl (fun j hj => by rcases (show j = 0 ∨ j = 1 ∨ j = 2 ∨ j = 3 by omega) with rfl | rfl | rfl | rfl <;> rfl) (by first | (dsimp only [lwR]; omega) | omega | exact Nat.le_of_ble_eq_true rfl) (by first | (dsimp only [lwR]; omega) | omega | exact Nat.le_of_ble_eq_true rfl) dL_law_0 (fun x1 H_1 hq_2 hz_3 hO_4 hE_5 hS_6 => ?_)
  have hge_x1 : s.heap.size ≤ x1 := by rw [hq_2]; exact hS.1
  refine W.widen (k := 1) (n := 4) (Nat.le_of_ble_eq_true rfl) (Nat.le_of_ble_eq_true rfl) ?_
  refine lv_dup hx hb dL_law_3 rfl ?_
  refine kx_cv (va_runI (As := []) (rest := [.ref x1]) ⟨hx, hb, hml, hown, hts⟩ (m_X1_init l D H_1 x1 hO_4 (by first | assumption | omega)) (cwI 0 hts (lw_meth q131) rfl rfl rfl (hts _ q79) (hts _ q129) (hts _ q130) rfl (by decide +kernel) ⟨Nat.le_of_ble_eq_true rfl, Nat.le_of_ble_eq_true rfl⟩) (kx_ps hK hS_6 hB) rfl rfl hl.1 rfl (lv_room (Nat.le_of_ble_eq_true rfl)) dL_law_4 ⟨by first | (dsimp only [lwR]; omega) | omega | exact Nat.le_of_ble_eq_true rfl, by first | (dsimp only [lwR]; omega) | omega | exact Nat.le_of_ble_eq_true rfl⟩) hS_6 (fun q _ h => by have h9 := hS_6.1; (try dsimp only at h); (try dsimp only); (try simp only [kNW] at h); (try simp only [kNW]); omega) (fun q h => by have h9 := hS_6.1; (try dsimp only at h); (try dsimp only); (try simp only [kNW] at h); (try simp only [kNW]); omega) (fun H_10 locs_7 hz_9 hF_11 hS_8 => ?_)
  have hzf_13 := hF_11.1
  refine W.widen (k := 7) (n := 49) (Nat.le_of_ble_eq_true rfl) (Nat.le_of_ble_eq_true rfl) ?_
  obtain ⟨st, la, hi, es, bu, vb, ho_20, ho_21, ho_22, ho_23, hnw1, hds1⟩ := hz_9
  have hd9 := hK.dis
  have hxE : ¬ kBase D ≤ D.2.2.2 2 := hK.tE.out
  have lt_x1 := ho_20.lt
  have lt_q : hi < H_10.size ∧ es < H_10.size := by obtain ⟨_, _, _, y1, y2, _⟩ := ho_22; exact ⟨y1.lt, y2.lt⟩
  have lt_t : bu < H_10.size ∧ vb < H_10.size := by obtain ⟨_, _, _, y1, y2, _⟩ := ho_23; exact ⟨y1.lt, y2.lt⟩
  have lt_s : st < H_10.size ∧ la < H_10.size := by obtain ⟨⟨y1, _, y2⟩, _⟩ := ho_21; exact ⟨y1.lt, y2.lt⟩
  obtain ⟨nw1, nw2, nw3, nw4, nw5, nw6⟩ := hnw1
  obtain ⟨⟨d1, d2, d3, d4⟩, ⟨d5, d6, d7, d8⟩, d9, ⟨d10, d11⟩, d12⟩ := hds1
  have hW0 : ∀ c0 c1, H_10.size ≤ c0 → kW D H_10 c0 c1 x1 (([] : Ls), 2) none [] [] := fun c0 c1 hc => by
    refine ⟨(st, la, D.2.2.2 2, []), [], [], hi, es, bu, vb, ho_20, ho_22, ho_23, fun q hq => ?_, d11, fun a ha => ?_, fun a ha => by cases ha, List.Pairwise.nil, Nat.zero_le _, rfl, rfl⟩
    · simp only [List.mem_cons, List.not_mem_nil, or_false] at hq
      rcases hq with hq | hq | hq | hq | hq <;> rw [hq] <;> exact ⟨by omega, Or.inl (by omega)⟩
    · have ha := List.mem_singleton.mp ha
      subst ha
      refine ⟨ho_21, ⟨Nat.zero_le _, ⟨by decide, by decide⟩, fun k hk => absurd hk (Nat.not_lt_zero k)⟩, StG_nil, fun q hq => ?_⟩
      have hq2 : q = st ∨ q = la := by
        rcases hq with z | z | ⟨z1, z2⟩ | ⟨k, z1, z2⟩
        · exact Or.inl z
        · exact Or.inr z
        · exact absurd z2 hxE
        · exact absurd z1 (Nat.not_lt_zero k)
      rcases hq2 with z | z
      · rw [z]; refine ⟨fun w => ?_, Or.inl (by omega)⟩; simp only [List.mem_cons, List.not_mem_nil, or_false] at w; rcases w with w | w | w | w | w; omega; exact d1 w; exact d2 w; exact d3 w; exact d4 w
      · rw [z]; refine ⟨fun w => ?_, Or.inl (by omega)⟩; simp only [List.mem_cons, List.not_mem_nil, or_false] at w; rcases w with w | w | w | w | w; omega; exact d5 w; exact d6 w; exact d7 w; exact d8 w
  refine lv_astore_n (lv' := [(1, .ref x1), (0, .ref b)]) hx hb dL_law_7 rfl hl (by decide) rfl (fun ls hl => ?_)
  refine kx_new (ci := 2) (fs := [.null, .null, .int (kI (0)), .null, .int (kI (kb (false))), .null, .int (kI (0)), .int (kI (0)), .int (kI (0)), .int (kI (kb (false))), .int (kI (0)), .int (kI (0)), .int (kI (0))]) (C := RX3) (T := TX3) (N := 13) hx hb hts in_X3 hown hK tyX3 tyX3_ok q2232 q2233 q89 hS_8 rfl (fun j hj => by rcases (show j = 0 ∨ j = 1 ∨ j = 2 ∨ j = 3 ∨ j = 4 ∨ j = 5 ∨ j = 6 ∨ j = 7 ∨ j = 8 ∨ j = 9 ∨ j = 10 ∨ j = 11 ∨ j = 12 by omega) with rfl | rfl | rfl | rfl | rfl | rfl | rfl | rfl | rfl | rfl | rfl | rfl | rfl <;> rfl) (by first | (dsimp only [lwR]; omega) | omega | exact Nat.le_of_ble_eq_true rfl) (by first | (dsimp only [lwR]; omega) | omega | exact Nat.le_of_ble_eq_true rfl) dL_law_8 (fun mm H_24 hq_25 hz_26 hO_27 hE_28 hS_29 => ?_)
  have hge_mm : s.heap.size ≤ mm := by rw [hq_25]; exact hS_8.1
  refine W.widen (k := 8) (n := 62) (Nat.le_of_ble_eq_true rfl) (Nat.le_of_ble_eq_true rfl) ?_
  refine lv_dup hx hb dL_law_11 rfl ?_
  have hWb : ∀ c1, mm < c1 → kW D H_24 mm c1 x1 (([] : Ls), 2) none [] [] := fun c1 hc => (hW0 mm c1 (by omega)).ex hd9 hE_28
  have htm : kTy D H_24 mm := Or.inl ⟨2, _, by decide, by decide, by decide, hO_27⟩
  refine kx_cv (va_runI (As := []) (rest := [.ref mm]) ⟨hx, hb, hml, hown, hts⟩ (m_X3_init l D H_24 mm hO_27 (by first | assumption | omega)) (cwI 0 hts (lw_meth q2236) rfl rfl rfl (hts _ q89) (hts _ q2234) (hts _ q2235) rfl (by decide +kernel) ⟨Nat.le_of_ble_eq_true rfl, Nat.le_of_ble_eq_true rfl⟩) (kx_ps hK hS_29 hB) rfl rfl hl.1 rfl (lv_room (Nat.le_of_ble_eq_true rfl)) dL_law_12 ⟨by first | (dsimp only [lwR]; omega) | omega | exact Nat.le_of_ble_eq_true rfl, by first | (dsimp only [lwR]; omega) | omega | exact Nat.le_of_ble_eq_true rfl⟩) hS_29 (fun q _ h => by have h9 := hS_29.1; (try dsimp only at h); (try dsimp only); (try simp only [kNW] at h); (try simp only [kNW]); omega) (fun q h => by have h9 := hS_29.1; (try dsimp only at h); (try dsimp only); (try simp only [kNW] at h); (try simp only [kNW]); omega) (fun H_33 locs_30 hz_32 hF_34 hS_31 => ?_)
  have hzf_36 := hF_34.1
  refine W.widen (k := 12) (n := 3720) (Nat.le_of_ble_eq_true rfl) (Nat.le_of_ble_eq_true rfl) ?_
  obtain ⟨ra, sa, ka, ta, gs, gk, gt, g2, ho_45, ho_46, ho_47, ho_48, ho_49, hM29, hds2, hnw2⟩ := hz_32
  have hWc : ∀ c1, mm < c1 → kW D H_33 mm c1 x1 (([] : Ls), 2) none [] [] := fun c1 hc => (hWb c1 hc).fr hd9 hF_34 (fun x hx => Or.elim hx (fun h => by rw [h]; exact Or.inr ⟨htm, Nat.le_refl _, hc⟩) (fun h => Or.inl h))
  refine lv_astore_n (lv' := [(2, .ref mm), (1, .ref x1), (0, .ref b)]) hx hb dL_law_15 rfl hl (by decide) rfl (fun ls hl => ?_)
  refine kx_iconst hx hb dL_law_16 ?_
  refine kx_newa (atype := .long) (ty := .long) (t := 2) (a0 := (1, .inr (.inl (fun _ => 0)))) (N' := 1) hx hb hts q2645 rfl hK rfl (fun _ h => by cases h) hS_31 (by first | rfl | omega) (by omega) (fun cA => rfl) (by first | decide | (simp only [componentBytes]; omega)) (by first | (dsimp only [lwR]; omega) | omega | exact Nat.le_of_ble_eq_true rfl) (by first | (dsimp only [lwR]; omega) | omega | exact Nat.le_of_ble_eq_true rfl) dL_law_17 (fun out H_50 hq_51 hz_52 hA_53 hE_54 hS_55 => ?_)
  have hge_out : s.heap.size ≤ out := by rw [hq_51]; exact hS_31.1
  refine W.widen (k := 13) (n := 3721) (Nat.le_of_ble_eq_true rfl) (Nat.le_of_ble_eq_true rfl) ?_
  refine lv_astore_n (lv' := [(3, .ref out), (2, .ref mm), (1, .ref x1), (0, .ref b)]) hx hb dL_law_19 rfl hl (by decide) rfl (fun ls hl => ?_)
  refine kx_iconst hx hb dL_law_20 ?_
  refine kx_newa (atype := .double) (ty := .double) (t := 3) (a0 := (1, .inr (.inr (.inr (.inl (fun _ => 0)))))) (N' := 1) hx hb hts q2646 rfl hK rfl (fun _ h => by cases h) hS_55 (by first | rfl | omega) (by omega) (fun cA => rfl) (by first | decide | (simp only [componentBytes]; omega)) (by first | (dsimp only [lwR]; omega) | omega | exact Nat.le_of_ble_eq_true rfl) (by first | (dsimp only [lwR]; omega) | omega | exact Nat.le_of_ble_eq_true rfl) dL_law_21 (fun outD H_56 hq_57 hz_58 hA_59 hE_60 hS_61 => ?_)
  have hge_outD : s.heap.size ≤ outD := by rw [hq_57]; exact hS_55.1
  refine W.widen (k := 14) (n := 3722) (Nat.le_of_ble_eq_true rfl) (Nat.le_of_ble_eq_true rfl) ?_
  refine lv_astore (lv' := [(4, .ref outD), (3, .ref out), (2, .ref mm), (1, .ref x1), (0, .ref b)]) hx hb dL_law_23 hl (by decide) rfl (fun ls hl => ?_)
  refine kx_iconst hx hb dL_law_25 ?_
  refine lv_istore (lv' := [(5, .int (kI (0))), (4, .ref outD), (3, .ref out), (2, .ref mm), (1, .ref x1), (0, .ref b)]) hx hb dL_law_26 hl (by decide) rfl (fun ls hl => ?_)
  have hWx_62 := fun c1 hc => (hWc c1 hc).ex hd9 hE_54
  have hWx_63 := fun c1 hc => (hWx_62 c1 hc).ex hd9 hE_60
  have h_64 := ho_45.ex hE_54
  have h_65 := h_64.ex hE_60
  have h_66 := ho_46.ex hE_54
  have h_67 := h_66.ex hE_60
  have h_68 := ho_47.ex hE_54
  have h_69 := h_68.ex hE_60
  have h_70 := ho_48.ex hE_54
  have h_71 := h_70.ex hE_60
  have h_72 := ho_49.ex hE_54
  have h_73 := h_72.ex hE_60
  have h_74 := hA_53.ex hE_60
  obtain ⟨nx1, nx2, nx3, nx4⟩ := hnw2
  have lt_mm := h_65.lt
  have lt_ra := h_67.lt
  have lt_sa := h_69.lt
  have lt_ka := h_71.lt
  have lt_ta := h_73.lt
  have lt_out := h_74.lt
  have lt_outD := hA_59.lt
  have hM9 : kM D H_56 mm out mm (([] : Ls), 2) none [] [] := ⟨ra, sa, ka, ta, 0, false, 0, 0, false, 0, 0, 0, g2, gs, gk, gt, h_65, h_67, h_69, h_71, h_73, hM29, ⟨rfl, Nat.zero_le _, fun i hi => absurd hi (Nat.not_lt_zero i)⟩, ⟨fun τ h => by cases h, fun _ => rfl⟩, fun i hi => absurd hi (Nat.not_lt_zero i), Nat.zero_le _, hds2, ⟨by omega, by omega, by omega, by omega, by omega⟩, ⟨⟨by omega, by omega⟩, ⟨by omega, by omega⟩, ⟨by omega, by omega⟩, ⟨by omega, by omega⟩, by omega, by omega⟩⟩
  have hC : lwC D p l s m meth c b L mm H_56.size out outD xs := ⟨hx, hb, hml, hown, hts, hlk, hK, hl9, hX, hbl, hbs, hL72, by omega, by omega, by omega, by omega⟩
  exact law_loop (x1 := x1) (mm := mm) hC (cells0 := 14) (slots0 := 3722) (by omega) (by omega) kend (L + 1) 0 (by omega) (by omega) (([] : Ls), 2) none [] [] _ _ _ ⟨hS_61, lv_sub hl [5, 4, 3, 2, 1, 0] rfl, hWx_63 _ (by omega), hM9, ⟨_, h_74⟩, ⟨_, hA_59⟩, Nat.le_refl _, Nat.zero_le _⟩

