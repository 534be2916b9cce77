/-! MATH 23 -/
theorem kLs.push_r {D : kG} {H : Heap} {ea n a pa sa : Nat} {F : Fts} {g : Nat → Option Nat} (hA : kAq D H ea 4 10 (kupq g n (some a))) (hg : ∀ k, k < n → g k = some (fA F k)) (hF : F.length = n) (hb : kBase D ≤ ea) (hn : n < 10) : kLs D H ea (n + 1) (F ++ [(a, pa, sa)]) := by
  refine Or.inr ⟨hb, by omega, _, hA, fun k hk => ?_⟩
  by_cases e : k = n
  · rw [e, kupq_self, ((fA_app F (a, pa, sa) n).2 hF.symm).1]
  · rw [kupq_ne e, ((fA_app F (a, pa, sa) k).1 (by omega)).1]
    exact hg k (by omega)
theorem kLs.push_0 {D : kG} {H : Heap} {ea n a pa sa : Nat} {F : Fts} (hA : kAq D H ea 4 10 (kupq (fun _ => none) 0 (some a))) (hF : F.length = n) (hn : n = 0) (hb : kBase D ≤ ea) : kLs D H ea (n + 1) (F ++ [(a, pa, sa)]) := by
  subst hn
  exact kLs.push_r (g := fun _ => none) hA (fun k hk => absurd hk (Nat.not_lt_zero k)) hF hb (by omega)
theorem LnAt.new {D : kG} {H : Heap} {a pa sa ea : Nat} {gp gs : Nat → Int} {lv pt : Int} (ho : kO D H a 3 [.int (kI lv), .ref pa, .ref sa, .int (kI 0), .ref ea, .int (kI (-1))]) (hp : kAi D H pa 61 gp) (hs : kAi D H sa 60 gs) (he : kO D H ea 4 []) (hm : MLn gp gs (w_new lv pt)) : LnAt D H a pa sa (w_new lv pt) := by
  have hc : ln_cl (w_new lv pt) = false := by unfold ln_cl; rw [decide_eq_false (show ¬ 0 < ln_n (w_new lv pt) from Nat.lt_irrefl 0)]; rfl
  exact ⟨ea, gp, gs, ho, hp, hs, by rw [if_neg (by rw [hc]; decide)]; exact he, hm⟩
theorem kFr.exfr {A : Nat → Prop} {H H1 H2 : Heap} (h : kEx H H1) (h2 : kFr A H1 H2) : kFr (fun q => A q ∨ H.size ≤ q) H H2 :=
  ⟨Nat.le_trans h.1 h2.1, fun q hq hn => (h2.2 q (Nat.lt_of_lt_of_le hq h.1) (fun z => hn (Or.inl z))).trans (h.2 q hq)⟩
theorem kOwn_push {D : kG} {st la ea ea2 : Nat} {F : Fts} {n a pa sa q : Nat} (hF : F.length = n) (h : kOwn D st la ea2 (F ++ [(a, pa, sa)]) (n + 1) q) : (kOwn D st la ea F n q) ∨ (q = ea2 ∧ kBase D ≤ ea2) ∨ q = a ∨ q = pa ∨ q = sa := by
  rcases h with h | h | h | ⟨k, hk, h⟩
  · exact Or.inl (Or.inl h)
  · exact Or.inl (Or.inr (Or.inl h))
  · exact Or.inr (Or.inl h)
  · by_cases e : k = n
    · have e1 := (fA_app F (a, pa, sa) k).2 (by omega)
      rw [e1.1, e1.2.1, e1.2.2] at h
      exact Or.inr (Or.inr h)
    · have e1 := (fA_app F (a, pa, sa) k).1 (by omega)
      rw [e1.1, e1.2.1, e1.2.2] at h
      exact Or.inl (Or.inr (Or.inr (Or.inr ⟨k, by omega, h⟩)))
theorem take_push {S : Ls} {k : Nat} (hk : k < S.length) : S.take (k + 1) = S.take k ++ [st_ln S k] := by
  rw [List.take_add_one, List.getElem?_eq_getElem hk]
  unfold st_ln
  rw [List.getD_eq_getElem?_getD, List.getElem?_eq_getElem hk]
  rfl
set_option maxHeartbeats 4000000 in
set_option maxRecDepth 100000 in
theorem m_X2_begin (l : Launch) (D : kG) (H : Heap) (st : Nat) (la : Nat) (ea : Nat) (F : Fts) (S : Ls) (gap : Int) (lv : Int) (pt : Int) (hP_kState_st : kState D H st la ea gap S F) (hok : LsOK S gap) (hlv : 0 ≤ lv ∧ lv ≤ 99) (hpt : 0 ≤ pt ∧ pt ≤ 383) (hl8 : S.length < 8) (hno : st_owner S pt = -1) : Met l yX2_begin (ws_ yX2_begin cX2_begin 4 (some .boolean)) ({ frames := 5, cells := 5, slots := 137, locals := 117 } : Room) (kPre D H [.ref st, .int (kI (lv)), .int (kI (pt))]) (kQb (fun (r : Bool) H' => ∃ (ea2 : Nat) (a : Nat) (pa : Nat) (sa : Nat), (r = true) ∧ (kState D H' st la ea2 gap ((S ++ [w_new lv pt])) ((F ++ [(a, pa, sa)]))) ∧ (H.size ≤ a ∧ H.size ≤ pa ∧ H.size ≤ sa ∧ (ea2 = ea ∨ H.size ≤ ea2))) (fun q : Nat => q = la ∨ (q = ea ∧ kBase D ≤ ea) ∨ H.size ≤ q)) (5) (137) ((fun q : Nat => q = la ∨ (q = ea ∧ kBase D ≤ ea) ∨ H.size ≤ q)) := by
  refine Met.ofW (cc := cX2_begin) (maxL := 4) (ret := (some .boolean)) (by decide) rfl ?_
  intro p e s m args below meth c s₁ B hml hv
  obtain ⟨rfl, hH, hK⟩ := hv
  subst hH
  have hx := B.exec
  have hb := B.bytes
  have hr := B.returns
  have hts := atoms_spec (ws := ws_ yX2_begin cX2_begin 4 (some .boolean)) B.pre
  have hts : ∀ w ∈ lw_all, w.before _ s = true := fun w h => hts w (List.mem_cons_of_mem _ h)
  have hown : s.vm.findClass RX2 = some m.cls := findClass_of_methodNamed B.named
  have hlk := B.notSynchronized
  have hS : va_S (fun q : Nat => q = la ∨ (q = ea ∧ kBase D ≤ ea) ∨ s.heap.size ≤ q) s.heap s.heap [] := va_S.rf
  have hB : ∀ q, (fun q : Nat => q = la ∨ (q = ea ∧ kBase D ≤ ea) ∨ s.heap.size ≤ q) q → kBase D ≤ q := fun q h => by (have h1 := hP_kState_st.2.2.2.2.2.2.1; have h2 := hK.size; (try dsimp only at h); omega)
  have hl := lv_entry ([.ref st, .int (kI (lv)), .int (kI (pt))]) (n := 4) (Nat.le_of_ble_eq_true rfl)
  rw [lg_entry_eq]
  generalize (lg_sl ([.ref st, .int (kI (lv)), .int (kI (pt))]) ++ List.replicate (4 - (lg_sl ([.ref st, .int (kI (lv)), .int (kI (pt))])).length) Slot.unset).toArray = ls at hl ⊢
  have hl : lv_has ls 4 [(0, .ref st), (1, .int (kI (lv))), (2, .int (kI (pt)))] := hl
  have hL8 := hok.1
  have hks9 := hK.size
  have hltS := hP_kState_st.1.1.lt
  have hd9 := hK.dis
  have hx9 : ¬ kBase D ≤ D.2.2.2 2 := hK.tE.out
  obtain ⟨⟨hO_st, mc, hO_la⟩, hLs9, hLn9, hF9, hDs9, hb1, hb2, hb3⟩ := id hP_kState_st
  have hlt_ea : ea < s.heap.size := by rcases hLs9 with ⟨_, z⟩ | ⟨_, _, g, z, _⟩; (have := hK.size; have : ¬ kBase D ≤ D.2.2.2 2 := hx9; omega); exact z.lt
  have hlt_la := hO_la.lt
  refine lv_aload_n hx hb dX2_begin_0 rfl (lv_at hl 0 rfl) ?_
  refine kx_get (v := .ref la) (C := RX2) (T := TX2) (N := 2) hx hb hts in_X2 hown hK hO_st rfl 0 (by decide) q167 (fun _ h9 => h9) rfl dX2_begin_1 ?_
  refine kx_cFi0 (va_runF (C := RJ2) (As := []) (rest := []) (hK.at (ci := 9) rfl) ⟨hx, hb, hml, hown, hts⟩ (m_J2_size l D s.heap la mc ea S.length hO_la ) (va_cwF (x := ({ cls := "java/util/List", name := "size", desc := "()I" } : Jvm.MethodName)) 0 hts (lw_F q279 q283 q285 q83 q287) rfl rfl rfl (hK.fw (by decide)) (by decide +kernel) ⟨Nat.le_of_ble_eq_true rfl, Nat.le_of_ble_eq_true rfl⟩) (kx_pv hK hS hB (kx_rc hK hO_la (C := RJ2) (T := TJ2) (N := 3) rfl)) rfl rfl hl.1 rfl (lv_room (Nat.le_of_ble_eq_true rfl)) dX2_begin_4 ⟨by first | exact Nat.le_of_ble_eq_true rfl | omega | (show _ ≤ _; omega) | (dsimp only [headSpec]; omega), by first | exact Nat.le_of_ble_eq_true rfl | omega | (show _ ≤ _; omega) | (dsimp only [headSpec]; omega)⟩) hS (fun z_4 locs_1 hz_3 hS_2 => ?_)
  subst z_4
  refine kx_bipush hx hb (by decide) dX2_begin_9 ?_
  refine kx_icmp_ge (x := ((S.length : Nat) : Int)) (y := 8) (tgt := 27) hx hb dX2_begin_11 (by decide) (by omega) (by omega) (by omega) (by omega) (fun c_11_5 => ?_) (fun c_11_5 => ?_)
  · -- taken at 11
    exfalso; omega
  · -- not taken at 11
    refine lv_aload_n hx hb dX2_begin_14 rfl (lv_at hl 0 rfl) ?_
    refine lv_iload_n hx hb dX2_begin_15 rfl (lv_at hl 2 rfl) ?_
    refine kx_ci0 (va_runV (As := [.int (kI (pt))]) (rest := []) ⟨hx, hb, hml, hown, hts⟩ (m_X2_lineAt l D s.heap st la mc ea F S gap pt hO_st hO_la hLs9 hLn9 (by first | assumption | omega) (by first | assumption | omega)) (cwV 1 hts (lw_V q1655 q1656 q1657 q80 q1658) rfl rfl rfl (by decide +kernel) ⟨Nat.le_of_ble_eq_true rfl, Nat.le_of_ble_eq_true rfl⟩) (kx_pv hK hS_2 hB (kx_rc hK hO_st (C := RX2) (T := TX2) (N := 2) rfl)) rfl rfl hl.1 rfl (lv_room (Nat.le_of_ble_eq_true rfl)) dX2_begin_16 ⟨by first | exact Nat.le_of_ble_eq_true rfl | omega | (show _ ≤ _; omega) | (dsimp only [headSpec]; omega), by first | exact Nat.le_of_ble_eq_true rfl | omega | (show _ ≤ _; omega) | (dsimp only [headSpec]; omega)⟩) hS_2 (fun z_9 locs_6 hz_8 hS_7 => ?_)
    subst z_9
    refine kx_iconst hx hb dX2_begin_19 ?_
    refine kx_icmp_ne (x := st_owner S pt) (y := (-1)) (tgt := 27) hx hb dX2_begin_20 (by decide) (by omega) (by omega) (by omega) (by omega) (fun c_20_10 => ?_) (fun c_20_10 => ?_)
    · -- taken at 20
      exfalso; (exact absurd hno (by assumption))
    · -- not taken at 20
      refine kx_iconst hx hb dX2_begin_23 ?_
      refine lv_goto (tgt := 28) hx hb dX2_begin_24 (by decide) ?_
      refine lv_istore_n (lv' := [(3, .int (kI (1))), (0, .ref st), (1, .int (kI (lv))), (2, .int (kI (pt)))]) hx hb dX2_begin_28 rfl hl (by decide) rfl (fun ls hl => ?_)
      refine lv_iload_n hx hb dX2_begin_29 rfl (lv_at hl 0 rfl) ?_
      refine kx_if_eq (x := 1) (tgt := 52) hx hb dX2_begin_30 (by decide) (by omega) (by omega) (fun c_30_11 => ?_) (fun c_30_11 => ?_)
      · -- taken at 30
        exfalso; omega
      · -- not taken at 30
        refine lv_aload_n hx hb dX2_begin_33 rfl (lv_at hl 1 rfl) ?_
        refine kx_get (v := .ref la) (C := RX2) (T := TX2) (N := 2) hx hb hts in_X2 hown hK hO_st rfl 0 (by decide) q167 (fun _ h9 => h9) rfl dX2_begin_34 ?_
        refine kx_new (ci := 3) (fs := [.int (kI (0)), .null, .null, .int (kI (0)), .null, .int (kI (0))]) (C := RX4) (T := TX4) (N := 6) hx hb hts in_X4 hown hK tyX4 tyX4_ok q307 q313 q99 hS_7 rfl (fun j hj => by rcases (show j = 0 ∨ j = 1 ∨ j = 2 ∨ j = 3 ∨ j = 4 ∨ j = 5 by omega) with rfl | rfl | rfl | rfl | rfl | rfl <;> rfl) (by first | exact Nat.le_of_ble_eq_true rfl | omega | (show _ ≤ _; omega) | (dsimp only [headSpec]; omega)) (by first | exact Nat.le_of_ble_eq_true rfl | omega | (show _ ≤ _; omega) | (dsimp only [headSpec]; omega)) dX2_begin_37 (fun nw_12 H_13 hq_14 hz_15 hO_16 hE_17 hS_18 => ?_)
        have hge_nw_12 : s.heap.size ≤ nw_12 := by rw [hq_14]; exact hS_7.1
        refine W.widen (k := 1) (n := 6) (Nat.le_of_ble_eq_true rfl) (Nat.le_of_ble_eq_true rfl) ?_
        refine lv_dup hx hb dX2_begin_40 rfl ?_
        refine lv_iload_n hx hb dX2_begin_41 rfl (lv_at hl 2 rfl) ?_
        refine lv_iload_n hx hb dX2_begin_42 rfl (lv_at hl 3 rfl) ?_
        refine kx_cv (va_runI (As := [.int (kI (lv)), .int (kI (pt))]) (rest := [.ref nw_12, .ref la]) ⟨hx, hb, hml, hown, hts⟩ (m_X4_init_2 l D H_13 nw_12 lv pt hO_16 (by first | assumption | omega)) (cwI 2 hts (lw_meth q1665) rfl rfl rfl (hts _ q99) (hts _ q1663) (hts _ q1664) rfl (by decide +kernel) ⟨Nat.le_of_ble_eq_true rfl, Nat.le_of_ble_eq_true rfl⟩) (kx_ps hK hS_18 hB) rfl rfl hl.1 rfl (lv_room (Nat.le_of_ble_eq_true rfl)) dX2_begin_43 ⟨by first | exact Nat.le_of_ble_eq_true rfl | omega | (show _ ≤ _; omega) | (dsimp only [headSpec]; omega), by first | exact Nat.le_of_ble_eq_true rfl | omega | (show _ ≤ _; omega) | (dsimp only [headSpec]; omega)⟩) hS_18 (fun q _ h => by (try dsimp only at h); (try dsimp only); (try simp only [kNW] at h); (try simp only [kNW]); omega) (fun q h => by (try dsimp only at h); (try dsimp only); (try simp only [kNW] at h); (try simp only [kNW]); omega) (fun H_22 locs_19 hz_21 hF_23 hS_20 => ?_)
        have hzf_25 := hF_23.1
        refine W.widen (k := 4) (n := 127) (Nat.le_of_ble_eq_true rfl) (Nat.le_of_ble_eq_true rfl) ?_
        obtain ⟨pa_26, sa_27, ea_28, gp2_29, gs2_30, ho_31, ho_32, ho_33, ho_34, hM29, hnew_35, hdis_36⟩ := hz_21
        by_cases hcase : kBase D ≤ ea
        · -- hcase t
          have h_37 := hLs9.ex hE_17
          have h_38 := h_37.fr hF_23 (fun h => by (try dsimp only at h); (try simp only [kNW] at h); omega)
          obtain ⟨hbe9, h109, gq, hAq9, hgv9⟩ : kBase D ≤ ea ∧ S.length ≤ 10 ∧ ∃ g, kAq D H_22 ea 4 10 g ∧ ∀ k9, k9 < S.length → g k9 = some (fA F k9) := by rcases h_38 with z | z; (rw [z.2] at hcase; exact absurd hcase hx9); exact z
          have h_39 := hO_la.ex hE_17
          have h_40 := h_39.fr hF_23 (fun h => by have h9 := h_39.lt; (try dsimp only at h); (try simp only [kNW] at h); omega)
          have ne_la_ea : la ≠ ea := kOA_ne hd9 h_40 hAq9 (by decide) (by decide)
          refine kx_cFb (va_runF (C := RJ2) (As := [.ref nw_12]) (rest := []) (hK.at (ci := 9) rfl) ⟨hx, hb, hml, hown, hts⟩ (m_J2_add_r l D H_22 la mc ea S.length gq nw_12 ([.int (kI (lv)), .ref pa_26, .ref sa_27, .int (kI (0)), .ref ea_28, .int (kI ((-1)))]) h_40 hAq9 ho_31 (by first | assumption | omega) (by first | assumption | omega) (by first | assumption | omega) (by first | assumption | omega) (by first | assumption | omega)) (va_cwF (x := ({ cls := "java/util/List", name := "add", desc := "(Ljava/lang/Object;)Z" } : Jvm.MethodName)) 1 hts (lw_F q365 q368 q370 q83 q372) rfl rfl rfl (hK.fw (by decide)) (by decide +kernel) ⟨Nat.le_of_ble_eq_true rfl, Nat.le_of_ble_eq_true rfl⟩) (kx_pv hK hS_20 hB (kx_rc hK h_40 (C := RJ2) (T := TJ2) (N := 3) rfl)) rfl rfl hl.1 rfl (lv_room (Nat.le_of_ble_eq_true rfl)) dX2_begin_46 ⟨by first | exact Nat.le_of_ble_eq_true rfl | omega | (show _ ≤ _; omega) | (dsimp only [headSpec]; omega), by first | exact Nat.le_of_ble_eq_true rfl | omega | (show _ ≤ _; omega) | (dsimp only [headSpec]; omega)⟩) hS_20 (fun q _ h => by (try dsimp only at h); (try dsimp only); (try simp only [kNW] at h); (try simp only [kNW]); omega) (fun q h => by (try dsimp only at h); (try dsimp only); (try simp only [kNW] at h); (try simp only [kNW]); omega) (fun z_46 H_44 locs_41 hz_43 hF_45 hS_42 => ?_)
          have hzf_47 := hF_45.1
          refine W.widen (k := 4) (n := 127) (Nat.le_of_ble_eq_true rfl) (Nat.le_of_ble_eq_true rfl) ?_
          obtain ⟨hv_48, ho_49, ho_50⟩ := hz_43
          subst z_46
          refine lv_pop hx hb dX2_begin_51 rfl ?_
          have h_51 := ho_31.fr hF_45 (fun h => by have h9 := ho_31.lt; (try dsimp only at h); (try simp only [kNW] at h); omega)
          have h_52 := ho_32.fr hF_45 (fun h => by have h9 := ho_32.lt; (try dsimp only at h); (try simp only [kNW] at h); omega)
          have h_53 := ho_33.fr hF_45 (fun h => by have h9 := ho_33.lt; (try dsimp only at h); (try simp only [kNW] at h); omega)
          have h_54 := ho_34.fr hF_45 (fun h => by have h9 := ho_34.lt; (try dsimp only at h); (try simp only [kNW] at h); omega)
          have hSt_55 : kState D H_44 st la ea gap (S ++ [w_new lv pt]) (F ++ [(nw_12, pa_26, sa_27)]) := hP_kState_st.push hd9 hx9 (va_S.toFr hS_42) (fun x hx => by rcases hx with z | z | z; exact Or.inr (Or.inl z); exact Or.inr (Or.inr z); exact Or.inl z) ho_49 (kLs.push_r ho_50 hgv9 hF9 hbe9 (by omega)) (LnAt.new h_51 h_52 h_53 h_54 hM29) (by omega) (by omega) hks9
          refine lv_iload_n hx hb dX2_begin_52 rfl (lv_at hl 0 rfl) ?_
          refine W.widen (k := 5) (n := 137) (by omega) (by omega) ?_
          exact kx_zret (z := true) hx hb hr hlk (⟨ea, nw_12, pa_26, sa_27, by rfl, hSt_55, by first | assumption | rfl | omega | grind⟩) hS_42 dX2_begin_53
        · -- hcase f
          have h_56 := hLs9.ex hE_17
          have h_57 := h_56.fr hF_23 (fun h => by (try dsimp only at h); (try simp only [kNW] at h); omega)
          have h_58 := hO_la.ex hE_17
          have h_59 := h_58.fr hF_23 (fun h => by have h9 := h_58.lt; (try dsimp only at h); (try simp only [kNW] at h); omega)
          obtain ⟨hn09, hE9⟩ : S.length = 0 ∧ ea = D.2.2.2 2 := by rcases h_57 with z | z; exact z; exact absurd z.1 hcase
          have hOe9 : kO D H_22 la 9 [.int (kI mc), .ref (D.2.2.2 2), .int (kI 0)] := by have h9 := h_59; rw [hE9, hn09] at h9; exact h9
          refine kx_cFb (va_runF (C := RJ2) (As := [.ref nw_12]) (rest := []) (hK.at (ci := 9) rfl) ⟨hx, hb, hml, hown, hts⟩ (m_J2_add_0 l D H_22 la mc nw_12 ([.int (kI (lv)), .ref pa_26, .ref sa_27, .int (kI (0)), .ref ea_28, .int (kI ((-1)))]) hOe9 ho_31 (by first | assumption | omega) (by first | assumption | omega)) (va_cwF (x := ({ cls := "java/util/List", name := "add", desc := "(Ljava/lang/Object;)Z" } : Jvm.MethodName)) 1 hts (lw_F q365 q368 q370 q83 q372) rfl rfl rfl (hK.fw (by decide)) (by decide +kernel) ⟨Nat.le_of_ble_eq_true rfl, Nat.le_of_ble_eq_true rfl⟩) (kx_pv hK hS_20 hB (kx_rc hK hOe9 (C := RJ2) (T := TJ2) (N := 3) rfl)) rfl rfl hl.1 rfl (lv_room (Nat.le_of_ble_eq_true rfl)) dX2_begin_46 ⟨by first | exact Nat.le_of_ble_eq_true rfl | omega | (show _ ≤ _; omega) | (dsimp only [headSpec]; omega), by first | exact Nat.le_of_ble_eq_true rfl | omega | (show _ ≤ _; omega) | (dsimp only [headSpec]; omega)⟩) hS_20 (fun q _ h => by (try dsimp only at h); (try dsimp only); (try simp only [kNW] at h); (try simp only [kNW]); omega) (fun q h => by (try dsimp only at h); (try dsimp only); (try simp only [kNW] at h); (try simp only [kNW]); omega) (fun z_65 H_63 locs_60 hz_62 hF_64 hS_61 => ?_)
          have hzf_66 := hF_64.1
          refine W.widen (k := 5) (n := 137) (Nat.le_of_ble_eq_true rfl) (Nat.le_of_ble_eq_true rfl) ?_
          obtain ⟨eaN, hv_68, ho_69, ho_70, hnew_71⟩ := hz_62
          subst z_65
          refine lv_pop hx hb dX2_begin_51 rfl ?_
          have h_72 := ho_31.fr hF_64 (fun h => by have h9 := ho_31.lt; (try dsimp only at h); (try simp only [kNW] at h); omega)
          have h_73 := ho_32.fr hF_64 (fun h => by have h9 := ho_32.lt; (try dsimp only at h); (try simp only [kNW] at h); omega)
          have h_74 := ho_33.fr hF_64 (fun h => by have h9 := ho_33.lt; (try dsimp only at h); (try simp only [kNW] at h); omega)
          have h_75 := ho_34.fr hF_64 (fun h => by have h9 := ho_34.lt; (try dsimp only at h); (try simp only [kNW] at h); omega)
          have hSt_76 : kState D H_63 st la eaN gap (S ++ [w_new lv pt]) (F ++ [(nw_12, pa_26, sa_27)]) := hP_kState_st.push hd9 hx9 (va_S.toFr hS_61) (fun x hx => by rcases hx with z | z | z; exact Or.inr (Or.inl z); exact Or.inr (Or.inr z); exact Or.inl z) (by rw [hn09]; exact ho_69) (kLs.push_0 ho_70 hF9 hn09 (by omega)) (LnAt.new h_72 h_73 h_74 h_75 hM29) (by omega) (by omega) hks9
          refine lv_iload_n hx hb dX2_begin_52 rfl (lv_at hl 0 rfl) ?_
          exact kx_zret (z := true) hx hb hr hlk (⟨eaN, nw_12, pa_26, sa_27, by rfl, hSt_76, by first | assumption | rfl | omega | grind⟩) hS_61 dX2_begin_53

