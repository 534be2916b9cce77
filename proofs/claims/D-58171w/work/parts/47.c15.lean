/-! MATH 32: candidates' cells -/
section KX7
variable {p : Program} {l : Launch} {e : Env} {R : Room} {s : State} {m : MethodId} {args : Array Value} {below : List Frame} {meth : Method} {c : Code} {H : Heap} {locs : List Loc} {cells slots : Nat} {Q : State → Prop}
variable {cc : ByteArray} {pc : Nat} {ls : Array Slot} {rest : List Value}
theorem kI_iushr : ∀ n : Nat, n < 128 → ((kI (n : Int)).toUInt32 >>> ((kI 1).toUInt32 &&& Int32.toUInt32 31)).toInt32 = kI ((n / 2 : Nat) : Int) := by decide +kernel
theorem kx_iushr1 (hx : p.tables.exec = Jvm.exec) (hb : c.code = cc) {n : Nat} (hn : n < 128) (d : decode cc pc = .ok (.iushr, 1)) (k : W p l e R s m args below meth c H locs cells slots Q (F0 m (pc + 1) ls (.int (kI ((n / 2 : Nat) : Int)) :: rest))) : W p l e R s m args below meth c H locs cells slots Q (F0 m pc ls (.int (kI 1) :: .int (kI (n : Int)) :: rest)) :=
  lv_iushr hx hb d (kI_iushr n hn) k
end KX7
/-- a candidate's cell, its numbers in range -/
def kCd (D : kG) (H : Heap) (cv : Nat → Int × Int × Int) (a : Nat) : Prop := kO D H a 7 [.int (kI (cv a).1), .int (kI (cv a).2.1), .int (kI (cv a).2.2)] ∧ (-10000 ≤ (cv a).1 ∧ (cv a).1 ≤ 10000) ∧ (-10000 ≤ (cv a).2.1 ∧ (cv a).2.1 ≤ 10000) ∧ (-10000 ≤ (cv a).2.2 ∧ (cv a).2.2 ≤ 10000)
/-- all candidates of a set -/
def kCs (D : kG) (H : Heap) (cv : Nat → Int × Int × Int) (T : Nat → Prop) : Prop := ∀ y, T y → kCd D H cv y
theorem kCs.up {D : kG} {H H1 : Heap} {b : Nat} {cv : Nat → Int × Int × Int} {T : Nat → Prop} (h : kCs D H cv T) (q : kUp H b H1) (hn : ∀ y, T y → y ≠ b) : kCs D H1 cv T := fun y hy => ⟨(h y hy).1.up q (hn y hy), (h y hy).2⟩
theorem kCs.ex {D : kG} {H H1 : Heap} {cv : Nat → Int × Int × Int} {T : Nat → Prop} (h : kCs D H cv T) (q : kEx H H1) : kCs D H1 cv T := fun y hy => ⟨(h y hy).1.ex q, (h y hy).2⟩
theorem cd_cmp_rng (u v : Int × Int × Int) (a1 : -10000 ≤ u.1 ∧ u.1 ≤ 10000) (a2 : -10000 ≤ u.2.1 ∧ u.2.1 ≤ 10000) (a3 : -10000 ≤ u.2.2 ∧ u.2.2 ≤ 10000) (b1 : -10000 ≤ v.1 ∧ v.1 ≤ 10000) (b2 : -10000 ≤ v.2.1 ∧ v.2.1 ≤ 10000) (b3 : -10000 ≤ v.2.2 ∧ v.2.2 ≤ 10000) : -20000 ≤ cd_cmp u.1 u.2.1 u.2.2 v.1 v.2.1 v.2.2 ∧ cd_cmp u.1 u.2.1 u.2.2 v.1 v.2.1 v.2.2 ≤ 20000 := by
  unfold cd_cmp
  split
  · omega
  · split <;> omega
set_option maxHeartbeats 4000000 in
set_option maxRecDepth 100000 in
theorem m_J21_siftUpUsingComparator (l : Launch) (D : kG) (H : Heap) (k0 : Nat) (x : Nat) (es : Nat) (cm : Nat) (cv : Nat → Int × Int × Int) (T : Nat → Prop) (g : Nat → Option Nat) (q : Nat → Nat) (hA_es : kAq D H es 4 60 g) (hO_cm : kO D H cm 6 []) (hP_kCs_cv : kCs D H cv T) (hk0 : k0 < 60) (hgq : ∀ i, i < k0 → g i = some (q i)) (hqx : q k0 = x) (hH0 : HPk (cdle cv) q k0 k0) (hT0 : ∀ y, (∃ i, i ≤ k0 ∧ q i = y) ↔ T y) (hneT : ∀ y, T y → y ≠ es) (ne_cm_es : cm ≠ es) (bs_es : kBase D ≤ es) : Met l yJ21_siftUpUsingComparator (ws_ yJ21_siftUpUsingComparator cJ21_siftUpUsingComparator 6 none) ({ frames := 2, cells := 0, slots := 0, locals := 44 } : Room) (kPre D H [.int (kI ((k0 : Nat) : Int)), .ref x, .ref es, .ref cm]) (kQv (fun H' => ∃ (g2 : Nat → Option Nat) (q2 : Nat → Nat), (kAq D H' es 4 60 g2) ∧ (∀ i, i ≤ k0 → g2 i = some (q2 i)) ∧ (HP (cdle cv) q2 (k0 + 1)) ∧ (∀ y, (∃ i, i ≤ k0 ∧ q2 i = y) ↔ T y)) (fun q : Nat => q = es)) (0) (0) ((fun q : Nat => q = es)) := by
  refine Met.ofW (cc := cJ21_siftUpUsingComparator) (maxL := 6) (ret := none) (by decide) rfl ?_
  intro p e s m args below meth c s₁ B hml hv
  obtain ⟨rfl, hH, hK⟩ := hv
  subst hH
  have hx := B.exec
  have hb := B.bytes
  have hr := B.returns
  have hts := atoms_spec (ws := ws_ yJ21_siftUpUsingComparator cJ21_siftUpUsingComparator 6 none) B.pre
  have hts : ∀ w ∈ lw_all, w.before _ s = true := fun w h => hts w (List.mem_cons_of_mem _ h)
  have hown : s.vm.findClass RJ21 = some m.cls := findClass_of_methodNamed B.named
  have hlk := B.notSynchronized
  have hS : va_S (fun q : Nat => q = es) s.heap s.heap [] := va_S.rf
  have hB : ∀ q, (fun q : Nat => q = es) q → kBase D ≤ q := fun q h => by (try dsimp only at h); (try simp only [kNW] at h); have hks := hK.size; omega
  have hl := lv_entry ([.int (kI ((k0 : Nat) : Int)), .ref x, .ref es, .ref cm]) (n := 6) (Nat.le_of_ble_eq_true rfl)
  rw [lg_entry_eq]
  generalize (lg_sl ([.int (kI ((k0 : Nat) : Int)), .ref x, .ref es, .ref cm]) ++ List.replicate (6 - (lg_sl ([.int (kI ((k0 : Nat) : Int)), .ref x, .ref es, .ref cm])).length) Slot.unset).toArray = ls at hl ⊢
  have hl : lv_has ls 6 [(0, .int (kI ((k0 : Nat) : Int))), (1, .ref x), (2, .ref es), (3, .ref cm)] := hl
  have lp_0_x_1 : ∀ (n_0 : Nat) (k : Nat) (g1 : Nat → Option Nat) (q1 : Nat → Nat) (H : Heap) (hA_es : kAq D H es 4 60 g1) (hO_cm : kO D H cm 6 []) (hP_kCs_cv : kCs D H cv T) (hk : k ≤ k0) (hg1 : ∀ i, i ≤ k0 → i ≠ k → g1 i = some (q1 i)) (hq1k : q1 k = x) (hH1 : HPk (cdle cv) q1 k0 k) (hT1 : ∀ y, (∃ i, i ≤ k0 ∧ q1 i = y) ↔ T y) (locs : List Loc) (hS : va_S (fun q : Nat => q = es) s.heap H locs) (hm_0 : k < n_0) (ls : Array Slot), lv_has ls 6 [(0, .int (kI ((k : Nat) : Int))), (1, .ref x), (2, .ref es), (3, .ref cm)] → W p l e (headSpec (ws_ yJ21_siftUpUsingComparator cJ21_siftUpUsingComparator 6 none) ({ frames := 2, cells := 0, slots := 0, locals := 44 } : Room)).room s m ([.int (kI ((k0 : Nat) : Int)), .ref x, .ref es, .ref cm] : List Value).toArray below meth c H locs (0) (0) (MQ below (kQv (fun H' => ∃ (g2 : Nat → Option Nat) (q2 : Nat → Nat), (kAq D H' es 4 60 g2) ∧ (∀ i, i ≤ k0 → g2 i = some (q2 i)) ∧ (HP (cdle cv) q2 (k0 + 1)) ∧ (∀ y, (∃ i, i ≤ k0 ∧ q2 i = y) ↔ T y)) (fun q : Nat => q = es)) ([.int (kI ((k0 : Nat) : Int)), .ref x, .ref es, .ref cm] : List Value).toArray s (0) (0) ((fun q : Nat => q = es))) (F0 m 0 ls []) := by
    intro n_0
    induction n_0 with
    | zero => intro k g1 q1 H hA_es hO_cm hP_kCs_cv hk hg1 hq1k hH1 hT1 locs hS hm_0; exact absurd hm_0 (Nat.not_lt_zero _)
    | succ n_0 ih_0 =>
      intro k g1 q1 H hA_es hO_cm hP_kCs_cv hk hg1 hq1k hH1 hT1 locs hS hm_0 ls hl
      refine lv_iload_n hx hb dJ21_siftUpUsingComparator_0 rfl (lv_at hl 0 rfl) ?_
      refine kx_if_le (x := ((k : Nat) : Int)) (tgt := 43) hx hb dJ21_siftUpUsingComparator_1 (by decide) (by omega) (by omega) (fun c_1_2 => ?_) (fun c_1_2 => ?_)
      · -- taken at 1
        obtain ⟨hc_3, hv1_3, hv2_3, hv3_3⟩ := hP_kCs_cv x ((hT1 x).mp ⟨k, by omega, hq1k⟩)
        refine lv_aload_n hx hb dJ21_siftUpUsingComparator_43 rfl (lv_at hl 2 rfl) ?_
        refine lv_iload_n hx hb dJ21_siftUpUsingComparator_44 rfl (lv_at hl 0 rfl) ?_
        refine lv_aload_n hx hb dJ21_siftUpUsingComparator_45 rfl (lv_at hl 1 rfl) ?_
        refine kx_aast hx hb hK (t := 4) rfl hA_es hS (by first | rfl | exact Or.inl rfl | exact Or.inr rfl | exact Or.inr (Or.inl rfl) | exact Or.inr (Or.inr rfl) | exact Or.inr (Or.inr (Or.inl rfl)) | exact Or.inr (Or.inr (Or.inr rfl)) | ((try dsimp only); (try simp only [kNW]); omega)) k (rfl) (by omega) (by omega) (kx_rc hK hc_3 (C := RX8) (T := TX8) (N := 3) rfl) (vb_asgC (hK.w q2682 rfl)) dJ21_siftUpUsingComparator_46 (fun H_6 locs_7 hA_5 hU_4 hS_8 => ?_)
        have hzu_9 := hU_4.1
        exact kx_vret hx hb hr hlk (⟨(kupq g1 k (some x)), q1, hA_5, by intro i hi; unfold kupq; split; (rename_i z; rw [z, hq1k]); exact hg1 i hi (by assumption), by exact hH1.stop (by first | exact Or.inl (by omega) | exact Or.inr (by rw [hq1k]; exact cdle_of_ge (by unfold cdv; omega))), by exact hT1⟩) hS_8 dJ21_siftUpUsingComparator_47
      · -- not taken at 1
        refine lv_iload_n hx hb dJ21_siftUpUsingComparator_4 rfl (lv_at hl 0 rfl) ?_
        refine kx_iconst hx hb dJ21_siftUpUsingComparator_5 ?_
        refine kx_isub hx hb dJ21_siftUpUsingComparator_6 ?_
        refine kx_eqi (((k - 1 : Nat) : Int)) (by omega) ?_
        refine kx_iconst hx hb dJ21_siftUpUsingComparator_7 ?_
        refine kx_iushr1 (n := k - 1) hx hb (by omega) dJ21_siftUpUsingComparator_8 ?_
        refine lv_istore (lv' := [(4, .int (kI (((k - 1) / 2 : Nat) : Int))), (0, .int (kI ((k : Nat) : Int))), (1, .ref x), (2, .ref es), (3, .ref cm)]) hx hb dJ21_siftUpUsingComparator_9 hl (by decide) rfl (fun ls hl => ?_)
        refine lv_aload_n hx hb dJ21_siftUpUsingComparator_11 rfl (lv_at hl 3 rfl) ?_
        refine lv_iload hx hb dJ21_siftUpUsingComparator_12 (lv_at hl 0 rfl) ?_
        refine kx_aald hx hb hK (t := 4) rfl hA_es ((k - 1) / 2) (rfl) (by omega) (by omega) dJ21_siftUpUsingComparator_14 ?_
        refine kx_eqq hx hb (b := q1 ((k - 1) / 2)) (hg1 _ (by omega) (by omega)) ?_
        obtain ⟨hc_10, hv1_10, hv2_10, hv3_10⟩ := hP_kCs_cv x ((hT1 x).mp ⟨k, by omega, hq1k⟩)
        obtain ⟨hc_11, hv1_11, hv2_11, hv3_11⟩ := hP_kCs_cv (q1 ((k - 1) / 2)) ((hT1 _).mp ⟨(k - 1) / 2, by omega, rfl⟩)
        refine lv_astore (lv' := [(5, .ref (q1 ((k - 1) / 2))), (4, .int (kI (((k - 1) / 2 : Nat) : Int))), (0, .int (kI ((k : Nat) : Int))), (1, .ref x), (2, .ref es), (3, .ref cm)]) hx hb dJ21_siftUpUsingComparator_15 hl (by decide) rfl (fun ls hl => ?_)
        refine lv_aload_n hx hb dJ21_siftUpUsingComparator_17 rfl (lv_at hl 5 rfl) ?_
        refine lv_aload_n hx hb dJ21_siftUpUsingComparator_18 rfl (lv_at hl 3 rfl) ?_
        refine lv_aload hx hb dJ21_siftUpUsingComparator_19 (lv_at hl 0 rfl) ?_
        refine kx_cFi0 (va_runF (C := RX7) (As := [.ref x, .ref (q1 ((k - 1) / 2))]) (rest := []) (hK.at (ci := 6) rfl) ⟨hx, hb, hml, hown, hts⟩ (m_X7_compare l D H cm x (q1 ((k - 1) / 2)) ((cv x).1) ((cv x).2.1) ((cv x).2.2) ((cv (q1 ((k - 1) / 2))).1) ((cv (q1 ((k - 1) / 2))).2.1) ((cv (q1 ((k - 1) / 2))).2.2) hO_cm hc_10 hc_11 (by first | assumption | omega) (by first | assumption | omega) (by first | assumption | omega) (by first | assumption | omega) (by first | assumption | omega) (by first | assumption | omega)) (va_cwF (x := ({ cls := "java/util/Comparator", name := "compare", desc := "(Ljava/lang/Object;Ljava/lang/Object;)I" } : Jvm.MethodName)) 2 hts (lw_F q1221 q832 q834 q108 q836) rfl rfl rfl (hK.fw (by decide)) (by decide +kernel) ⟨Nat.le_of_ble_eq_true rfl, Nat.le_of_ble_eq_true rfl⟩) (kx_pv hK hS hB (kx_rc hK hO_cm (C := RX7) (T := kT0) (N := 0) rfl)) rfl rfl hl.1 rfl (lv_room (Nat.le_of_ble_eq_true rfl)) dJ21_siftUpUsingComparator_21 ⟨by first | exact Nat.le_of_ble_eq_true rfl | omega | (show _ ≤ _; omega) | (dsimp only [headSpec]; omega), by first | exact Nat.le_of_ble_eq_true rfl | omega | (show _ ≤ _; omega) | (dsimp only [headSpec]; omega)⟩) hS (fun z_15 locs_12 hz_14 hS_13 => ?_)
        subst z_15
        refine kx_if_lt (x := cd_cmp ((cv x).1) ((cv x).2.1) ((cv x).2.2) ((cv (q1 ((k - 1) / 2))).1) ((cv (q1 ((k - 1) / 2))).2.1) ((cv (q1 ((k - 1) / 2))).2.2)) (tgt := 32) hx hb dJ21_siftUpUsingComparator_26 (by decide) (by have hcr := cd_cmp_rng (cv x) (cv (q1 ((k - 1) / 2))) (by assumption) (by assumption) (by assumption) (by assumption) (by assumption) (by assumption); omega) (by have hcr := cd_cmp_rng (cv x) (cv (q1 ((k - 1) / 2))) (by assumption) (by assumption) (by assumption) (by assumption) (by assumption) (by assumption); omega) (fun c26 => ?_) (fun c26 => ?_)
        · -- taken at 26
          refine lv_aload_n hx hb dJ21_siftUpUsingComparator_32 rfl (lv_at hl 4 rfl) ?_
          refine lv_iload_n hx hb dJ21_siftUpUsingComparator_33 rfl (lv_at hl 2 rfl) ?_
          refine lv_aload hx hb dJ21_siftUpUsingComparator_34 (lv_at hl 0 rfl) ?_
          refine kx_aast hx hb hK (t := 4) rfl hA_es hS_13 (by first | rfl | exact Or.inl rfl | exact Or.inr rfl | exact Or.inr (Or.inl rfl) | exact Or.inr (Or.inr rfl) | exact Or.inr (Or.inr (Or.inl rfl)) | exact Or.inr (Or.inr (Or.inr rfl)) | ((try dsimp only); (try simp only [kNW]); omega)) k (rfl) (by omega) (by omega) (kx_rc hK hc_11 (C := RX8) (T := TX8) (N := 3) rfl) (vb_asgC (hK.w q2682 rfl)) dJ21_siftUpUsingComparator_36 (fun H_18 locs_19 hA_17 hU_16 hS_20 => ?_)
          have hzu_21 := hU_16.1
          refine lv_iload hx hb dJ21_siftUpUsingComparator_37 (lv_at hl 1 rfl) ?_
          refine lv_istore_n (lv' := [(0, .int (kI (((k - 1) / 2 : Nat) : Int))), (5, .ref (q1 ((k - 1) / 2))), (4, .int (kI (((k - 1) / 2 : Nat) : Int))), (1, .ref x), (2, .ref es), (3, .ref cm)]) hx hb dJ21_siftUpUsingComparator_39 rfl hl (by decide) rfl (fun ls hl => ?_)
          refine lv_goto (tgt := 0) hx hb dJ21_siftUpUsingComparator_40 (by decide) ?_
          have h_22 := hO_cm.up hU_16 (by first | assumption | exact Ne.symm (by assumption) | omega | (have h9 := hO_cm.lt; omega))
          have h_23 := hP_kCs_cv.up hU_16 (by first | assumption | exact Ne.symm (by assumption) | omega | (have h9 := hP_kCs_cv.lt; omega))
          exact ih_0  (((k - 1) / 2)) (kupq g1 k (some (q1 ((k - 1) / 2)))) ((hp_sw q1 k ((k - 1) / 2))) H_18 hA_17 h_22 h_23 (by first | assumption | omega | (simp_all; done) | grind) (fun i h1 h2 => by unfold kupq hp_sw; by_cases e9 : i = k; (rw [if_pos e9, if_neg (by omega), if_pos e9]); (rw [if_neg e9, if_neg h2, if_neg e9]; exact hg1 i h1 e9)) (by unfold hp_sw; rw [if_pos rfl]; exact hq1k) (hH1.step (cdle_tr cv) (by omega) hk rfl (by rw [hq1k]; unfold cdle cdv; omega)) (fun y => (hp_sw_mem hk (by omega) y).trans (hT1 y)) _ hS_20 (by omega) ls (lv_sub hl [0, 3, 4, 5] rfl)
        · -- not taken at 26
          refine lv_goto (tgt := 43) hx hb dJ21_siftUpUsingComparator_29 (by decide) ?_
          obtain ⟨hc_24, hv1_24, hv2_24, hv3_24⟩ := hP_kCs_cv x ((hT1 x).mp ⟨k, by omega, hq1k⟩)
          refine lv_aload_n hx hb dJ21_siftUpUsingComparator_43 rfl (lv_at hl 4 rfl) ?_
          refine lv_iload_n hx hb dJ21_siftUpUsingComparator_44 rfl (lv_at hl 2 rfl) ?_
          refine lv_aload_n hx hb dJ21_siftUpUsingComparator_45 rfl (lv_at hl 3 rfl) ?_
          refine kx_aast hx hb hK (t := 4) rfl hA_es hS_13 (by first | rfl | exact Or.inl rfl | exact Or.inr rfl | exact Or.inr (Or.inl rfl) | exact Or.inr (Or.inr rfl) | exact Or.inr (Or.inr (Or.inl rfl)) | exact Or.inr (Or.inr (Or.inr rfl)) | ((try dsimp only); (try simp only [kNW]); omega)) k (rfl) (by omega) (by omega) (kx_rc hK hc_24 (C := RX8) (T := TX8) (N := 3) rfl) (vb_asgC (hK.w q2682 rfl)) dJ21_siftUpUsingComparator_46 (fun H_27 locs_28 hA_26 hU_25 hS_29 => ?_)
          have hzu_30 := hU_25.1
          exact kx_vret hx hb hr hlk (⟨(kupq g1 k (some x)), q1, hA_26, by intro i hi; unfold kupq; split; (rename_i z; rw [z, hq1k]); exact hg1 i hi (by assumption), by exact hH1.stop (by first | exact Or.inl (by omega) | exact Or.inr (by rw [hq1k]; exact cdle_of_ge (by unfold cdv; omega))), by exact hT1⟩) hS_29 dJ21_siftUpUsingComparator_47
  exact lp_0_x_1 (k0 + 1) k0 g q s.heap hA_es hO_cm hP_kCs_cv (by first | assumption | omega | (simp_all; done) | grind) (fun i h1 h2 => hgq i (by omega)) (hqx) (hH0) (hT0) _ hS (Nat.lt_succ_self _) ls (lv_sub hl [0, 1, 2, 3] rfl)

