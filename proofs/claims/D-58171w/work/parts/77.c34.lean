/-! MATH 49: the root of a tree seen from a place -/
theorem ZI.root {lf rt pr : Nat → Option Nat} {ro : Option Nat} {c : TC} {t : TT} {M : List Nat} (h : ZI lf rt pr ro c t M) (hc : c ≠ []) {a : Nat} (ha : ro = some a) : a ∈ tca c ∧ a ∉ tio t := by
  cases c with
  | nil => exact absurd rfl hc
  | cons f c =>
    obtain ⟨x, h1, h2⟩ := tA_pl f c
    have e : a = x := Option.some.inj (ha.symm.trans (h.2.2.2.1.trans (h2 t)))
    subst e
    exact ⟨h1, fun z => h.2.2.1.2.1 _ z h1⟩
theorem ZI.root2 {lf rt pr lf' rt' pr' : Nat → Option Nat} {ro ro' : Option Nat} {c : TC} {t t' : TT} {M M' : List Nat} (h : ZI lf rt pr ro c t M) (h' : ZI lf' rt' pr' ro' c t' M') (hc : c ≠ []) : ro = ro' := by
  cases c with
  | nil => exact absurd rfl hc
  | cons f c =>
    obtain ⟨x, -, h2⟩ := tA_pl f c
    rw [h.2.2.2.1, h'.2.2.2.1, h2, h2]
/-- colours after a rotation at the grandparent: the root is black still -/
theorem ZI.blk {lf rt pr lf' rt' pr' : Nat → Option Nat} {ro ro' : Option Nat} {c : TC} {t : TT} {y ng : Nat} {l r : TT} {M : List Nat} {co : Nat → Bool} (h0 : ZI lf rt pr ro c t M) (hng : ng ∈ tio t) (hy : y ∈ tio t) (h1 : ZI lf' rt' pr' ro' c (TN y l r) M) (hyg : y ≠ ng) (hbl : ∀ a, ro = some a → co a = true) : ∀ a, ro' = some a → kup (kup co y true) ng false a = true := by
  intro a ha
  by_cases e : c = []
  · subst e
    have e2 : a = y := Option.some.inj (ha.symm.trans h1.2.2.2.1)
    subst e2
    simp [kup, hyg]
  · have e2 := h0.root2 h1 e
    have h3 := (h0.root e (e2.trans ha)).2
    have e3 : a ≠ ng := fun z => h3 (by rw [z]; exact hng)
    have e4 : a ≠ y := fun z => h3 (by rw [z]; exact hy)
    simp [kup, e3, e4, hbl a (e2.trans ha)]
theorem ZI.top {lf rt pr : Nat → Option Nat} {ro : Option Nat} : ∀ {c : TC} {t : TT} {M : List Nat}, ZI lf rt pr ro c t M → ZI lf rt pr ro [] (tpl c t) M
  | [], _, _, h => h
  | (b, a, w) :: c, t, _, h => ZI.top (c := c) (t := if b = true then TN a t w else TN a w t) h.up
set_option maxHeartbeats 4000000 in
set_option maxRecDepth 100000 in
theorem m_J28_fixAfterInsertion (l : Launch) (D : kG) (H : Heap) (mp : Nat) (ro : Option Nat) (sz : Nat) (mc : Int) (ks : Option Nat) (M : List Nat) (kf : Nat → Nat) (vf : Nat → Nat) (lf : Nat → Option Nat) (rt : Nat → Option Nat) (pr : Nat → Option Nat) (co : Nat → Bool) (x : Nat) (c0 : TC) (hO_mp : kO D H mp 15 [.null, .null, .null, va_rf (ro), .int (kI ((sz : Nat) : Int)), .int (kI (mc)), .null, va_rf (ks), .null]) (hP_kTN_M : kTN D H M kf vf lf rt pr co) (hZ0 : ZI lf rt pr ro c0 (TN x .leaf .leaf) M) (hbl0 : c0 ≠ [] → ∀ a, ro = some a → co a = true) (bs_mp : kBase D ≤ mp) (hmpM : mp ∉ M) : Met l yJ28_fixAfterInsertion (ws_ yJ28_fixAfterInsertion cJ28_fixAfterInsertion 3 none) ({ frames := 1, cells := 0, slots := 0, locals := 22 } : Room) (kPre D H [.ref mp, .ref x]) (kQv (fun H' => ∃ (lf2 : Nat → Option Nat) (rt2 : Nat → Option Nat) (pr2 : Nat → Option Nat) (co2 : Nat → Bool) (ro2 : Option Nat) (t2 : TT), (kO D H' mp 15 [.null, .null, .null, va_rf (ro2), .int (kI ((sz : Nat) : Int)), .int (kI (mc)), .null, va_rf (ks), .null]) ∧ (kTN D H' M kf vf lf2 rt2 pr2 co2) ∧ (ZI lf2 rt2 pr2 ro2 [] t2 M) ∧ (tio t2 = tio (tpl c0 (TN x .leaf .leaf))) ∧ (∀ a, ro2 = some a → co2 a = true)) (fun q : Nat => q = mp ∨ q ∈ M)) (0) (0) ((fun q : Nat => q = mp ∨ q ∈ M)) := by
  refine Met.ofW (cc := cJ28_fixAfterInsertion) (maxL := 3) (ret := none) (by decide) rfl ?_
  intro p e s m args below meth c s₁ B hml hv
  obtain ⟨rfl, hH, hK⟩ := hv
  subst hH
  have hx := B.exec
  have hb := B.bytes
  have hr := B.returns
  have hts := atoms_spec (ws := ws_ yJ28_fixAfterInsertion cJ28_fixAfterInsertion 3 none) B.pre
  have hts : ∀ w ∈ lw_all, w.before _ s = true := fun w h => hts w (List.mem_cons_of_mem _ h)
  have hown : s.vm.findClass RJ28 = some m.cls := findClass_of_methodNamed B.named
  have hlk := B.notSynchronized
  have hS : va_S (fun q : Nat => q = mp ∨ q ∈ M) s.heap s.heap [] := va_S.rf
  have hB : ∀ q, (fun q : Nat => q = mp ∨ q ∈ M) q → kBase D ≤ q := fun q h => by (rcases h with h | h; (rw [h]; exact bs_mp); exact (hP_kTN_M q h).1)
  have hl := lv_entry ([.ref mp, .ref x]) (n := 3) (Nat.le_of_ble_eq_true rfl)
  rw [lg_entry_eq]
  generalize (lg_sl ([.ref mp, .ref x]) ++ List.replicate (3 - (lg_sl ([.ref mp, .ref x])).length) Slot.unset).toArray = ls at hl ⊢
  have hl : lv_has ls 3 [(0, .ref mp), (1, .ref x)] := hl
  have hxM : x ∈ M := hZ0.memT (by simp [tio])
  obtain ⟨ioz, hIO⟩ : ∃ z, z = tio (tpl c0 (TN x .leaf .leaf)) := ⟨_, rfl⟩
  obtain ⟨hBN_2, hN_1⟩ := hP_kTN_M x (hxM)
  refine lv_aload_n hx hb dJ28_fixAfterInsertion_0 rfl (lv_at hl 1 rfl) ?_
  refine kx_iconst hx hb dJ28_fixAfterInsertion_1 ?_
  refine kx_put (v := .int (kI (kb (false)))) (C := RJ29) (T := TJ29) (N := 6) hx hb hts in_J29 hown hK hN_1 rfl 5 (by decide) tyJ29 tyJ29_ok nmJ29 hS (Or.inr hxM) q858 (fun _ h9 => h9) rfl rfl (kb_narZ _) (kb_fitZ _) (Nat.le_of_ble_eq_true rfl) dJ28_fixAfterInsertion_2 (fun H_5 locs_6 hO_4 hU_3 hS_7 => ?_)
  have hO_4 : kO D H_5 x 16 [.ref (kf x), .ref (vf x), va_rf (lf x), va_rf (rt x), va_rf (pr x), .int (kI (kb (false)))] := hO_4
  have hzu_8 := hU_3.1
  have hTN_9 : kTN D H_5 M kf vf lf rt pr (kup co x false) := hP_kTN_M.co hU_3 hO_4
  have lp_5_x_10 : ∀ (n_5 : Nat) (y : Nat) (cz : TC) (tl : TT) (tr : TT) (lg : Nat → Option Nat) (rg : Nat → Option Nat) (pg : Nat → Option Nat) (cg : Nat → Bool) (rr : Option Nat) (H : Heap) (hO_mp : kO D H mp 15 [.null, .null, .null, va_rf (rr), .int (kI ((sz : Nat) : Int)), .int (kI (mc)), .null, va_rf (ks), .null]) (hP_kTN_M : kTN D H M kf vf lg rg pg cg) (hZ : ZI lg rg pg rr cz (TN y tl tr) M) (hio : tio (tpl cz (TN y tl tr)) = ioz) (hbl : cz ≠ [] → ∀ a, rr = some a → cg a = true) (locs : List Loc) (hS : va_S (fun q : Nat => q = mp ∨ q ∈ M) s.heap H locs) (hm_5 : cz.length < n_5) (ls : Array Slot), lv_has ls 3 [(0, .ref mp), (1, .ref y)] → W p l e (headSpec (ws_ yJ28_fixAfterInsertion cJ28_fixAfterInsertion 3 none) ({ frames := 1, cells := 0, slots := 0, locals := 22 } : Room)).room s m ([.ref mp, .ref x] : List Value).toArray below meth c H locs (0) (0) (MQ below (kQv (fun H' => ∃ (lf2 : Nat → Option Nat) (rt2 : Nat → Option Nat) (pr2 : Nat → Option Nat) (co2 : Nat → Bool) (ro2 : Option Nat) (t2 : TT), (kO D H' mp 15 [.null, .null, .null, va_rf (ro2), .int (kI ((sz : Nat) : Int)), .int (kI (mc)), .null, va_rf (ks), .null]) ∧ (kTN D H' M kf vf lf2 rt2 pr2 co2) ∧ (ZI lf2 rt2 pr2 ro2 [] t2 M) ∧ (tio t2 = tio (tpl c0 (TN x .leaf .leaf))) ∧ (∀ a, ro2 = some a → co2 a = true)) (fun q : Nat => q = mp ∨ q ∈ M)) ([.ref mp, .ref x] : List Value).toArray s (0) (0) ((fun q : Nat => q = mp ∨ q ∈ M))) (F0 m 5 ls []) := by
    intro n_5
    induction n_5 with
    | zero => intro y cz tl tr lg rg pg cg rr H hO_mp hP_kTN_M hZ hio hbl locs hS hm_5; exact absurd hm_5 (Nat.not_lt_zero _)
    | succ n_5 ih_5 =>
      intro y cz tl tr lg rg pg cg rr H hO_mp hP_kTN_M hZ hio hbl locs hS hm_5 ls hl
      rcases cz with _ | ⟨⟨b1, np, sp⟩, c1⟩
      · -- root
        have hyM : y ∈ M := hZ.memT (by simp [tio])
        have hro9 : rr = some y := hZ.2.2.2.1
        refine lv_aload_n hx hb dJ28_fixAfterInsertion_5 rfl (lv_at hl 1 rfl) ?_
        refine lv_ifnull hx hb dJ28_fixAfterInsertion_6 ?_
        refine lv_aload_n hx hb dJ28_fixAfterInsertion_9 rfl (lv_at hl 1 rfl) ?_
        refine lv_aload_n hx hb dJ28_fixAfterInsertion_10 rfl (lv_at hl 0 rfl) ?_
        refine kx_get (v := va_rf (rr)) (C := RJ28) (T := TJ28) (N := 9) hx hb hts in_J28 hown hK hO_mp rfl 3 (by decide) q543 (fun _ h9 => h9) rfl dJ28_fixAfterInsertion_11 ?_
        refine kx_eqq hx hb (b := y) (hro9) ?_
        refine lv_acmp_eq (rx := some y) (ry := some y) (tgt := 258) hx hb dJ28_fixAfterInsertion_14 (by decide) (fun ca_11 => ?_) (fun ca_11 => absurd (by rfl) ca_11)
        obtain ⟨hBN_13, hN_12⟩ := hP_kTN_M y (hyM)
        refine lv_aload_n hx hb dJ28_fixAfterInsertion_258 rfl (lv_at hl 0 rfl) ?_
        refine kx_get (v := va_rf (rr)) (C := RJ28) (T := TJ28) (N := 9) hx hb hts in_J28 hown hK hO_mp rfl 3 (by decide) q543 (fun _ h9 => h9) rfl dJ28_fixAfterInsertion_259 ?_
        refine kx_eqq hx hb (b := y) (hro9) ?_
        refine kx_iconst hx hb dJ28_fixAfterInsertion_262 ?_
        refine kx_put (v := .int (kI (kb (true)))) (C := RJ29) (T := TJ29) (N := 6) hx hb hts in_J29 hown hK hN_12 rfl 5 (by decide) tyJ29 tyJ29_ok nmJ29 hS (Or.inr hyM) q858 (fun _ h9 => h9) rfl rfl (kb_narZ _) (kb_fitZ _) (Nat.le_of_ble_eq_true rfl) dJ28_fixAfterInsertion_263 (fun H_16 locs_17 hO_15 hU_14 hS_18 => ?_)
        have hO_15 : kO D H_16 y 16 [.ref (kf y), .ref (vf y), va_rf (lg y), va_rf (rg y), va_rf (pg y), .int (kI (kb (true)))] := hO_15
        have hzu_19 := hU_14.1
        have hTN_20 : kTN D H_16 M kf vf lg rg pg (kup cg y true) := hP_kTN_M.co hU_14 hO_15
        have h_21 := hO_mp.up hU_14 (by first | assumption | exact Ne.symm (by assumption) | exact fun e9 => hmpM (by rw [e9]; assumption) | omega | (have h9 := hO_mp.lt; omega))
        exact kx_vret hx hb hr hlk (⟨lg, rg, pg, ((kup cg y true)), rr, ((tpl [] (TN y tl tr))), h_21, hTN_20, by exact hZ.top, by exact hio.trans hIO, by intro a ha; simp [kup, Option.some.inj (ha.symm.trans hro9)]⟩) hS_18 dJ28_fixAfterInsertion_266
      · -- below
        have hyM : y ∈ M := hZ.memT (by simp [tio])
        have npM : np ∈ M := hZ.memC (by simp [tca])
        obtain ⟨⟨hb1, hp1, hs1, hc1⟩, ⟨hl1, hr1, hpy, hl2, hr2⟩, hn1, hr0, hm1⟩ := id hZ
        have hpy : pg y = some np := hpy
        obtain ⟨a9, ha9, hra9⟩ := tA_pl (b1, np, sp) c1
        have hro9 : rr = some a9 := hr0.trans (hra9 _)
        have ha9M : a9 ∈ M := hZ.memC ha9
        have hya9 : y ≠ a9 := fun z => hn1.2.1 y (by simp [tio]) (by rw [z]; exact ha9)
        refine lv_aload_n hx hb dJ28_fixAfterInsertion_5 rfl (lv_at hl 1 rfl) ?_
        refine lv_ifnull hx hb dJ28_fixAfterInsertion_6 ?_
        refine lv_aload_n hx hb dJ28_fixAfterInsertion_9 rfl (lv_at hl 1 rfl) ?_
        refine lv_aload_n hx hb dJ28_fixAfterInsertion_10 rfl (lv_at hl 0 rfl) ?_
        refine kx_get (v := va_rf (rr)) (C := RJ28) (T := TJ28) (N := 9) hx hb hts in_J28 hown hK hO_mp rfl 3 (by decide) q543 (fun _ h9 => h9) rfl dJ28_fixAfterInsertion_11 ?_
        refine kx_eqq hx hb (b := a9) (hro9) ?_
        refine lv_acmp_eq (rx := some y) (ry := some a9) (tgt := 258) hx hb dJ28_fixAfterInsertion_14 (by decide) (fun ca_22 => absurd ca_22 (by exact fun z => hya9 (Option.some.inj z))) (fun ca_22 => ?_)
        obtain ⟨hBN_24, hN_23⟩ := hP_kTN_M y (hyM)
        obtain ⟨hBN_26, hN_25⟩ := hP_kTN_M np (npM)
        refine lv_aload_n hx hb dJ28_fixAfterInsertion_17 rfl (lv_at hl 1 rfl) ?_
        refine kx_get (v := va_rf (pg y)) (C := RJ29) (T := TJ29) (N := 6) hx hb hts in_J29 hown hK hN_23 rfl 4 (by decide) q856 (fun _ h9 => h9) rfl dJ28_fixAfterInsertion_18 ?_
        refine kx_eqq hx hb (b := np) (hpy) ?_
        refine kx_get (v := .int (kI (kb (cg np)))) (C := RJ29) (T := TJ29) (N := 6) hx hb hts in_J29 hown hK hN_25 rfl 5 (by decide) q858 (fun _ h9 => h9) rfl dJ28_fixAfterInsertion_21 ?_
        refine kx_ifnz (tgt := 258) hx hb dJ28_fixAfterInsertion_24 (by decide) (fun c_24_27 => ?_) (fun c_24_27 => ?_)
        · -- taken at 24
          obtain ⟨hBN_29, hN_28⟩ := hP_kTN_M a9 (ha9M)
          refine lv_aload_n hx hb dJ28_fixAfterInsertion_258 rfl (lv_at hl 0 rfl) ?_
          refine kx_get (v := va_rf (rr)) (C := RJ28) (T := TJ28) (N := 9) hx hb hts in_J28 hown hK hO_mp rfl 3 (by decide) q543 (fun _ h9 => h9) rfl dJ28_fixAfterInsertion_259 ?_
          refine kx_eqq hx hb (b := a9) (hro9) ?_
          refine kx_iconst hx hb dJ28_fixAfterInsertion_262 ?_
          refine kx_put (v := .int (kI (kb (true)))) (C := RJ29) (T := TJ29) (N := 6) hx hb hts in_J29 hown hK hN_28 rfl 5 (by decide) tyJ29 tyJ29_ok nmJ29 hS (Or.inr ha9M) q858 (fun _ h9 => h9) rfl rfl (kb_narZ _) (kb_fitZ _) (Nat.le_of_ble_eq_true rfl) dJ28_fixAfterInsertion_263 (fun H_32 locs_33 hO_31 hU_30 hS_34 => ?_)
          have hO_31 : kO D H_32 a9 16 [.ref (kf a9), .ref (vf a9), va_rf (lg a9), va_rf (rg a9), va_rf (pg a9), .int (kI (kb (true)))] := hO_31
          have hzu_35 := hU_30.1
          have hTN_36 : kTN D H_32 M kf vf lg rg pg (kup cg a9 true) := hP_kTN_M.co hU_30 hO_31
          have h_37 := hO_mp.up hU_30 (by first | assumption | exact Ne.symm (by assumption) | exact fun e9 => hmpM (by rw [e9]; assumption) | omega | (have h9 := hO_mp.lt; omega))
          exact kx_vret hx hb hr hlk (⟨lg, rg, pg, ((kup cg a9 true)), rr, ((tpl ((b1, np, sp) :: c1) (TN y tl tr))), h_37, hTN_36, by exact hZ.top, by exact hio.trans hIO, by intro a ha; simp [kup, Option.some.inj (ha.symm.trans hro9)]⟩) hS_34 dJ28_fixAfterInsertion_266
        · -- not taken at 24
          rcases c1 with _ | ⟨⟨b2, ng, u⟩, c2⟩
          · exact absurd (hbl (by simp) np (hZ.2.2.2.1.trans (by cases b1 <;> rfl))) (by rw [c_24_27]; exact Bool.false_ne_true)
          · -- grandparent
            obtain ⟨hg1, hg2, hg3, hg4⟩ := hc1
            have hp1 : pg np = some ng := hp1
            have ngM : ng ∈ M := hZ.memC (by simp [tca])
            have hD := hn1
            simp only [tND, tio, tca, List.nodup_append, List.nodup_cons, List.mem_append, List.mem_cons] at hD
            have d1 : y ≠ np := by grind
            have d2 : np ≠ ng := by grind
            have d3 : y ≠ ng := by grind
            have d4 : y ∉ tio sp := by grind
            have d5 : np ∉ tio u := by grind
            have d6 : ∀ x, x ∈ tio tl ∨ x ∈ tio tr ∨ x ∈ tio sp → x ∈ M ∧ x ≠ np ∧ x ≠ ng := fun x hx => ⟨by rcases hx with h | h | h; exact hZ.memT (by simp [tio, h]); exact hZ.memT (by simp [tio, h]); exact hZ.memC (by simp [tca, h]), by grind, by grind⟩
            have d7 : ∀ x, tup c2 = some x → x ∈ M := fun x hx => hZ.memC (by cases c2 with | nil => cases hx | cons f c => cases hx; simp [tca])
            clear hD
            rcases b2 with _ | _
            · -- right
              have hgn : rg ng = some np := hg1.2
              have hgo : lg ng = tA u := hg1.1
              rcases u with ⟨su, ny, uu, ul, ur⟩ | _
              · -- uncle i
                have hgo : lg ng = some ny := hgo
                have nyM : ny ∈ M := hZ.memC (by simp [tca, tio])
                have d8 : np ≠ ny := fun z => d5 (by rw [z]; simp [tio])
                refine lv_aload_n hx hb dJ28_fixAfterInsertion_27 rfl (lv_at hl 1 rfl) ?_
                refine kx_cq0 (va_runS (As := [.ref y]) (rest := []) ⟨hx, hb, hml, hown, hts⟩ (m_J28_parentOf l D H M kf vf lg rg pg cg y hP_kTN_M (by first | assumption | omega)) (va_cwS 1 hts (lw_S q883 q884 q117 q885) rfl rfl rfl (by decide +kernel) ⟨Nat.le_of_ble_eq_true rfl, Nat.le_of_ble_eq_true rfl⟩) (kx_ps hK hS hB) rfl rfl hl.1 rfl (lv_room (Nat.le_of_ble_eq_true rfl)) dJ28_fixAfterInsertion_28 ⟨by first | exact Nat.le_of_ble_eq_true rfl | omega | (show _ ≤ _; omega) | (dsimp only [headSpec]; omega), by first | exact Nat.le_of_ble_eq_true rfl | omega | (show _ ≤ _; omega) | (dsimp only [headSpec]; omega)⟩) hS (fun z_41 locs_38 hz_40 hS_39 => ?_)
                subst z_41
                refine kx_eqq hx hb (b := np) (hpy) ?_
                refine lv_aload_n hx hb dJ28_fixAfterInsertion_31 rfl (lv_at hl 1 rfl) ?_
                refine kx_cq0 (va_runS (As := [.ref y]) (rest := [.ref np]) ⟨hx, hb, hml, hown, hts⟩ (m_J28_parentOf l D H M kf vf lg rg pg cg y hP_kTN_M (by first | assumption | omega)) (va_cwS 1 hts (lw_S q883 q884 q117 q885) rfl rfl rfl (by decide +kernel) ⟨Nat.le_of_ble_eq_true rfl, Nat.le_of_ble_eq_true rfl⟩) (kx_ps hK hS_39 hB) rfl rfl hl.1 rfl (lv_room (Nat.le_of_ble_eq_true rfl)) dJ28_fixAfterInsertion_32 ⟨by first | exact Nat.le_of_ble_eq_true rfl | omega | (show _ ≤ _; omega) | (dsimp only [headSpec]; omega), by first | exact Nat.le_of_ble_eq_true rfl | omega | (show _ ≤ _; omega) | (dsimp only [headSpec]; omega)⟩) hS_39 (fun z_45 locs_42 hz_44 hS_43 => ?_)
                subst z_45
                refine kx_eqq hx hb (b := np) (hpy) ?_
                refine kx_cq0 (va_runS (As := [.ref np]) (rest := [.ref np]) ⟨hx, hb, hml, hown, hts⟩ (m_J28_parentOf l D H M kf vf lg rg pg cg np hP_kTN_M (by first | assumption | omega)) (va_cwS 1 hts (lw_S q883 q884 q117 q885) rfl rfl rfl (by decide +kernel) ⟨Nat.le_of_ble_eq_true rfl, Nat.le_of_ble_eq_true rfl⟩) (kx_ps hK hS_43 hB) rfl rfl hl.1 rfl (lv_room (Nat.le_of_ble_eq_true rfl)) dJ28_fixAfterInsertion_35 ⟨by first | exact Nat.le_of_ble_eq_true rfl | omega | (show _ ≤ _; omega) | (dsimp only [headSpec]; omega), by first | exact Nat.le_of_ble_eq_true rfl | omega | (show _ ≤ _; omega) | (dsimp only [headSpec]; omega)⟩) hS_43 (fun z_49 locs_46 hz_48 hS_47 => ?_)
                subst z_49
                refine kx_eqq hx hb (b := ng) (hp1) ?_
                refine kx_cq0 (va_runS (As := [.ref ng]) (rest := [.ref np]) ⟨hx, hb, hml, hown, hts⟩ (m_J28_leftOf l D H M kf vf lg rg pg cg ng hP_kTN_M (by first | assumption | omega)) (va_cwS 1 hts (lw_S q886 q887 q117 q888) rfl rfl rfl (by decide +kernel) ⟨Nat.le_of_ble_eq_true rfl, Nat.le_of_ble_eq_true rfl⟩) (kx_ps hK hS_47 hB) rfl rfl hl.1 rfl (lv_room (Nat.le_of_ble_eq_true rfl)) dJ28_fixAfterInsertion_38 ⟨by first | exact Nat.le_of_ble_eq_true rfl | omega | (show _ ≤ _; omega) | (dsimp only [headSpec]; omega), by first | exact Nat.le_of_ble_eq_true rfl | omega | (show _ ≤ _; omega) | (dsimp only [headSpec]; omega)⟩) hS_47 (fun z_53 locs_50 hz_52 hS_51 => ?_)
                subst z_53
                refine kx_eqq hx hb (b := ny) (hgo) ?_
                refine lv_acmp_ne (rx := some np) (ry := some ny) (tgt := 151) hx hb dJ28_fixAfterInsertion_41 (by decide) (fun ca_54 => ?_) (fun ca_54 => absurd ca_54 (by exact fun z => d8 (Option.some.inj z)))
                refine lv_aload_n hx hb dJ28_fixAfterInsertion_151 rfl (lv_at hl 1 rfl) ?_
                refine kx_cq0 (va_runS (As := [.ref y]) (rest := []) ⟨hx, hb, hml, hown, hts⟩ (m_J28_parentOf l D H M kf vf lg rg pg cg y hP_kTN_M (by first | assumption | omega)) (va_cwS 1 hts (lw_S q883 q884 q117 q885) rfl rfl rfl (by decide +kernel) ⟨Nat.le_of_ble_eq_true rfl, Nat.le_of_ble_eq_true rfl⟩) (kx_ps hK hS_51 hB) rfl rfl hl.1 rfl (lv_room (Nat.le_of_ble_eq_true rfl)) dJ28_fixAfterInsertion_152 ⟨by first | exact Nat.le_of_ble_eq_true rfl | omega | (show _ ≤ _; omega) | (dsimp only [headSpec]; omega), by first | exact Nat.le_of_ble_eq_true rfl | omega | (show _ ≤ _; omega) | (dsimp only [headSpec]; omega)⟩) hS_51 (fun z_58 locs_55 hz_57 hS_56 => ?_)
                subst z_58
                refine kx_eqq hx hb (b := np) (hpy) ?_
                refine kx_cq0 (va_runS (As := [.ref np]) (rest := []) ⟨hx, hb, hml, hown, hts⟩ (m_J28_parentOf l D H M kf vf lg rg pg cg np hP_kTN_M (by first | assumption | omega)) (va_cwS 1 hts (lw_S q883 q884 q117 q885) rfl rfl rfl (by decide +kernel) ⟨Nat.le_of_ble_eq_true rfl, Nat.le_of_ble_eq_true rfl⟩) (kx_ps hK hS_56 hB) rfl rfl hl.1 rfl (lv_room (Nat.le_of_ble_eq_true rfl)) dJ28_fixAfterInsertion_155 ⟨by first | exact Nat.le_of_ble_eq_true rfl | omega | (show _ ≤ _; omega) | (dsimp only [headSpec]; omega), by first | exact Nat.le_of_ble_eq_true rfl | omega | (show _ ≤ _; omega) | (dsimp only [headSpec]; omega)⟩) hS_56 (fun z_62 locs_59 hz_61 hS_60 => ?_)
                subst z_62
                refine kx_eqq hx hb (b := ng) (hp1) ?_
                refine kx_cq0 (va_runS (As := [.ref ng]) (rest := []) ⟨hx, hb, hml, hown, hts⟩ (m_J28_leftOf l D H M kf vf lg rg pg cg ng hP_kTN_M (by first | assumption | omega)) (va_cwS 1 hts (lw_S q886 q887 q117 q888) rfl rfl rfl (by decide +kernel) ⟨Nat.le_of_ble_eq_true rfl, Nat.le_of_ble_eq_true rfl⟩) (kx_ps hK hS_60 hB) rfl rfl hl.1 rfl (lv_room (Nat.le_of_ble_eq_true rfl)) dJ28_fixAfterInsertion_158 ⟨by first | exact Nat.le_of_ble_eq_true rfl | omega | (show _ ≤ _; omega) | (dsimp only [headSpec]; omega), by first | exact Nat.le_of_ble_eq_true rfl | omega | (show _ ≤ _; omega) | (dsimp only [headSpec]; omega)⟩) hS_60 (fun z_66 locs_63 hz_65 hS_64 => ?_)
                subst z_66
                refine kx_eqq hx hb (b := ny) (hgo) ?_
                refine lv_astore_n (lv' := [(2, .ref ny), (0, .ref mp), (1, .ref y)]) hx hb dJ28_fixAfterInsertion_161 rfl hl (by decide) rfl (fun ls hl => ?_)
                refine lv_aload_n hx hb dJ28_fixAfterInsertion_162 rfl (lv_at hl 0 rfl) ?_
                refine kx_cb0 (va_runS (As := [.ref ny]) (rest := []) ⟨hx, hb, hml, hown, hts⟩ (m_J28_colorOf l D H M kf vf lg rg pg cg ny hP_kTN_M (by first | assumption | omega)) (va_cwS 1 hts (lw_S q892 q893 q117 q894) rfl rfl rfl (by decide +kernel) ⟨Nat.le_of_ble_eq_true rfl, Nat.le_of_ble_eq_true rfl⟩) (kx_ps hK hS_64 hB) rfl rfl hl.1 rfl (lv_room (Nat.le_of_ble_eq_true rfl)) dJ28_fixAfterInsertion_163 ⟨by first | exact Nat.le_of_ble_eq_true rfl | omega | (show _ ≤ _; omega) | (dsimp only [headSpec]; omega), by first | exact Nat.le_of_ble_eq_true rfl | omega | (show _ ≤ _; omega) | (dsimp only [headSpec]; omega)⟩) hS_64 (fun z_70 locs_67 hz_69 hS_68 => ?_)
                subst z_70
                refine kx_ifnz (tgt := 204) hx hb dJ28_fixAfterInsertion_166 (by decide) (fun c_166_71 => ?_) (fun c_166_71 => ?_)
                · -- taken at 166
                  rcases b1 with _ | _
                  · -- child right
                    have hpn : rg np = some y := hb1.2
                    have hpo : lg np = tA sp := hb1.1
                    refine lv_aload_n hx hb dJ28_fixAfterInsertion_204 rfl (lv_at hl 2 rfl) ?_
                    refine lv_aload_n hx hb dJ28_fixAfterInsertion_205 rfl (lv_at hl 2 rfl) ?_
                    refine kx_cq0 (va_runS (As := [.ref y]) (rest := [.ref y]) ⟨hx, hb, hml, hown, hts⟩ (m_J28_parentOf l D H M kf vf lg rg pg cg y hP_kTN_M (by first | assumption | omega)) (va_cwS 1 hts (lw_S q883 q884 q117 q885) rfl rfl rfl (by decide +kernel) ⟨Nat.le_of_ble_eq_true rfl, Nat.le_of_ble_eq_true rfl⟩) (kx_ps hK hS_68 hB) rfl rfl hl.1 rfl (lv_room (Nat.le_of_ble_eq_true rfl)) dJ28_fixAfterInsertion_206 ⟨by first | exact Nat.le_of_ble_eq_true rfl | omega | (show _ ≤ _; omega) | (dsimp only [headSpec]; omega), by first | exact Nat.le_of_ble_eq_true rfl | omega | (show _ ≤ _; omega) | (dsimp only [headSpec]; omega)⟩) hS_68 (fun z_75 locs_72 hz_74 hS_73 => ?_)
                    subst z_75
                    refine kx_eqq hx hb (b := np) (hpy) ?_
                    refine kx_cq0 (va_runS (As := [.ref np]) (rest := [.ref y]) ⟨hx, hb, hml, hown, hts⟩ (m_J28_leftOf l D H M kf vf lg rg pg cg np hP_kTN_M (by first | assumption | omega)) (va_cwS 1 hts (lw_S q886 q887 q117 q888) rfl rfl rfl (by decide +kernel) ⟨Nat.le_of_ble_eq_true rfl, Nat.le_of_ble_eq_true rfl⟩) (kx_ps hK hS_73 hB) rfl rfl hl.1 rfl (lv_room (Nat.le_of_ble_eq_true rfl)) dJ28_fixAfterInsertion_209 ⟨by first | exact Nat.le_of_ble_eq_true rfl | omega | (show _ ≤ _; omega) | (dsimp only [headSpec]; omega), by first | exact Nat.le_of_ble_eq_true rfl | omega | (show _ ≤ _; omega) | (dsimp only [headSpec]; omega)⟩) hS_73 (fun z_79 locs_76 hz_78 hS_77 => ?_)
                    subst z_79
                    refine lv_acmp_ne (rx := some y) (ry := lg np) (tgt := 225) hx hb dJ28_fixAfterInsertion_212 (by decide) (fun ca_80 => ?_) (fun ca_80 => absurd ca_80 (by exact fun z => d4 (tA_mem (hpo.symm.trans z.symm))))
                    refine lv_aload_n hx hb dJ28_fixAfterInsertion_225 rfl (lv_at hl 2 rfl) ?_
                    refine kx_cq0 (va_runS (As := [.ref y]) (rest := []) ⟨hx, hb, hml, hown, hts⟩ (m_J28_parentOf l D H M kf vf lg rg pg cg y hP_kTN_M (by first | assumption | omega)) (va_cwS 1 hts (lw_S q883 q884 q117 q885) rfl rfl rfl (by decide +kernel) ⟨Nat.le_of_ble_eq_true rfl, Nat.le_of_ble_eq_true rfl⟩) (kx_ps hK hS_77 hB) rfl rfl hl.1 rfl (lv_room (Nat.le_of_ble_eq_true rfl)) dJ28_fixAfterInsertion_226 ⟨by first | exact Nat.le_of_ble_eq_true rfl | omega | (show _ ≤ _; omega) | (dsimp only [headSpec]; omega), by first | exact Nat.le_of_ble_eq_true rfl | omega | (show _ ≤ _; omega) | (dsimp only [headSpec]; omega)⟩) hS_77 (fun z_84 locs_81 hz_83 hS_82 => ?_)
                    subst z_84
                    refine kx_eqq hx hb (b := np) (hpy) ?_
                    refine kx_iconst hx hb dJ28_fixAfterInsertion_229 ?_
                    refine kx_cv (va_runS (As := [.ref np, .int (kI (1))]) (rest := []) ⟨hx, hb, hml, hown, hts⟩ (m_J28_setColor l D H M kf vf lg rg pg cg np true hP_kTN_M (by first | assumption | omega)) (va_cwS 2 hts (lw_S q895 q896 q117 q897) rfl rfl rfl (by decide +kernel) ⟨Nat.le_of_ble_eq_true rfl, Nat.le_of_ble_eq_true rfl⟩) (kx_ps hK hS_82 hB) rfl rfl hl.1 rfl (lv_room (Nat.le_of_ble_eq_true rfl)) dJ28_fixAfterInsertion_230 ⟨by first | exact Nat.le_of_ble_eq_true rfl | omega | (show _ ≤ _; omega) | (dsimp only [headSpec]; omega), by first | exact Nat.le_of_ble_eq_true rfl | omega | (show _ ≤ _; omega) | (dsimp only [headSpec]; omega)⟩) hS_82 (fun q _ h => Or.inr (by rw [show q = _ from h]; assumption)) (fun q h => Or.inr (by rw [show q = _ from h]; assumption)) (fun H_88 locs_85 hz_87 hF_89 hS_86 => ?_)
                    have hzf_91 := hF_89.1
                    refine W.widen (k := 0) (n := 0) (Nat.le_of_ble_eq_true rfl) (Nat.le_of_ble_eq_true rfl) ?_
                    have ho_92 := hz_87
                    refine lv_aload_n hx hb dJ28_fixAfterInsertion_233 rfl (lv_at hl 2 rfl) ?_
                    refine kx_cq0 (va_runS (As := [.ref y]) (rest := []) ⟨hx, hb, hml, hown, hts⟩ (m_J28_parentOf l D H_88 M kf vf lg rg pg (kup cg np true) y ho_92 (by first | assumption | omega)) (va_cwS 1 hts (lw_S q883 q884 q117 q885) rfl rfl rfl (by decide +kernel) ⟨Nat.le_of_ble_eq_true rfl, Nat.le_of_ble_eq_true rfl⟩) (kx_ps hK hS_86 hB) rfl rfl hl.1 rfl (lv_room (Nat.le_of_ble_eq_true rfl)) dJ28_fixAfterInsertion_234 ⟨by first | exact Nat.le_of_ble_eq_true rfl | omega | (show _ ≤ _; omega) | (dsimp only [headSpec]; omega), by first | exact Nat.le_of_ble_eq_true rfl | omega | (show _ ≤ _; omega) | (dsimp only [headSpec]; omega)⟩) hS_86 (fun z_96 locs_93 hz_95 hS_94 => ?_)
                    subst z_96
                    refine kx_eqq hx hb (b := np) (hpy) ?_
                    refine kx_cq0 (va_runS (As := [.ref np]) (rest := []) ⟨hx, hb, hml, hown, hts⟩ (m_J28_parentOf l D H_88 M kf vf lg rg pg (kup cg np true) np ho_92 (by first | assumption | omega)) (va_cwS 1 hts (lw_S q883 q884 q117 q885) rfl rfl rfl (by decide +kernel) ⟨Nat.le_of_ble_eq_true rfl, Nat.le_of_ble_eq_true rfl⟩) (kx_ps hK hS_94 hB) rfl rfl hl.1 rfl (lv_room (Nat.le_of_ble_eq_true rfl)) dJ28_fixAfterInsertion_237 ⟨by first | exact Nat.le_of_ble_eq_true rfl | omega | (show _ ≤ _; omega) | (dsimp only [headSpec]; omega), by first | exact Nat.le_of_ble_eq_true rfl | omega | (show _ ≤ _; omega) | (dsimp only [headSpec]; omega)⟩) hS_94 (fun z_100 locs_97 hz_99 hS_98 => ?_)
                    subst z_100
                    refine kx_eqq hx hb (b := ng) (hp1) ?_
                    refine kx_iconst hx hb dJ28_fixAfterInsertion_240 ?_
                    refine kx_cv (va_runS (As := [.ref ng, .int (kI (0))]) (rest := []) ⟨hx, hb, hml, hown, hts⟩ (m_J28_setColor l D H_88 M kf vf lg rg pg (kup cg np true) ng false ho_92 (by first | assumption | omega)) (va_cwS 2 hts (lw_S q895 q896 q117 q897) rfl rfl rfl (by decide +kernel) ⟨Nat.le_of_ble_eq_true rfl, Nat.le_of_ble_eq_true rfl⟩) (kx_ps hK hS_98 hB) rfl rfl hl.1 rfl (lv_room (Nat.le_of_ble_eq_true rfl)) dJ28_fixAfterInsertion_241 ⟨by first | exact Nat.le_of_ble_eq_true rfl | omega | (show _ ≤ _; omega) | (dsimp only [headSpec]; omega), by first | exact Nat.le_of_ble_eq_true rfl | omega | (show _ ≤ _; omega) | (dsimp only [headSpec]; omega)⟩) hS_98 (fun q _ h => Or.inr (by rw [show q = _ from h]; assumption)) (fun q h => Or.inr (by rw [show q = _ from h]; assumption)) (fun H_104 locs_101 hz_103 hF_105 hS_102 => ?_)
                    have hzf_107 := hF_105.1
                    refine W.widen (k := 0) (n := 0) (Nat.le_of_ble_eq_true rfl) (Nat.le_of_ble_eq_true rfl) ?_
                    have ho_108 := hz_103
                    refine lv_aload_n hx hb dJ28_fixAfterInsertion_244 rfl (lv_at hl 1 rfl) ?_
                    refine lv_aload_n hx hb dJ28_fixAfterInsertion_245 rfl (lv_at hl 2 rfl) ?_
                    refine kx_cq0 (va_runS (As := [.ref y]) (rest := [.ref mp]) ⟨hx, hb, hml, hown, hts⟩ (m_J28_parentOf l D H_104 M kf vf lg rg pg ((kup (kup cg np true) ng false)) y ho_108 (by first | assumption | omega)) (va_cwS 1 hts (lw_S q883 q884 q117 q885) rfl rfl rfl (by decide +kernel) ⟨Nat.le_of_ble_eq_true rfl, Nat.le_of_ble_eq_true rfl⟩) (kx_ps hK hS_102 hB) rfl rfl hl.1 rfl (lv_room (Nat.le_of_ble_eq_true rfl)) dJ28_fixAfterInsertion_246 ⟨by first | exact Nat.le_of_ble_eq_true rfl | omega | (show _ ≤ _; omega) | (dsimp only [headSpec]; omega), by first | exact Nat.le_of_ble_eq_true rfl | omega | (show _ ≤ _; omega) | (dsimp only [headSpec]; omega)⟩) hS_102 (fun z_112 locs_109 hz_111 hS_110 => ?_)
                    subst z_112
                    refine kx_eqq hx hb (b := np) (hpy) ?_
                    refine kx_cq0 (va_runS (As := [.ref np]) (rest := [.ref mp]) ⟨hx, hb, hml, hown, hts⟩ (m_J28_parentOf l D H_104 M kf vf lg rg pg ((kup (kup cg np true) ng false)) np ho_108 (by first | assumption | omega)) (va_cwS 1 hts (lw_S q883 q884 q117 q885) rfl rfl rfl (by decide +kernel) ⟨Nat.le_of_ble_eq_true rfl, Nat.le_of_ble_eq_true rfl⟩) (kx_ps hK hS_110 hB) rfl rfl hl.1 rfl (lv_room (Nat.le_of_ble_eq_true rfl)) dJ28_fixAfterInsertion_249 ⟨by first | exact Nat.le_of_ble_eq_true rfl | omega | (show _ ≤ _; omega) | (dsimp only [headSpec]; omega), by first | exact Nat.le_of_ble_eq_true rfl | omega | (show _ ≤ _; omega) | (dsimp only [headSpec]; omega)⟩) hS_110 (fun z_116 locs_113 hz_115 hS_114 => ?_)
                    subst z_116
                    refine kx_eqq hx hb (b := ng) (hp1) ?_
                    have h_117 := hO_mp.fr hF_89 (fun h => hmpM (by rw [show mp = _ from h]; assumption))
                    have h_118 := h_117.fr hF_105 (fun h => hmpM (by rw [show mp = _ from h]; assumption))
                    refine kx_cv (va_runV (As := [.ref ng]) (rest := []) ⟨hx, hb, hml, hown, hts⟩ (m_J28_rotateLeft l D H_104 mp rr sz mc ks M kf vf lg rg pg ((kup (kup cg np true) ng false)) ng np h_118 ho_108 ngM npM ((Ne.symm d2)) hgn ((fun q h => by have h9 : tA sp = some q := (hpo.symm.trans h); exact (d6 q (Or.inr (Or.inr (tA_mem h9)))).1)) ((fun q h => d7 q (hg2.symm.trans h))) ((fun q h => by have h9 : tA sp = some q := (hpo.symm.trans h); exact (d6 q (Or.inr (Or.inr (tA_mem h9)))).2.2)) bs_mp hmpM) (cwV 1 hts (lw_V q898 q900 qs12 q117 q901) rfl rfl rfl (by decide +kernel) ⟨Nat.le_of_ble_eq_true rfl, Nat.le_of_ble_eq_true rfl⟩) (kx_pv hK hS_114 hB (kx_rc hK h_118 (C := RJ28) (T := TJ28) (N := 9) rfl)) rfl rfl hl.1 rfl (lv_room (Nat.le_of_ble_eq_true rfl)) dJ28_fixAfterInsertion_252 ⟨by first | exact Nat.le_of_ble_eq_true rfl | omega | (show _ ≤ _; omega) | (dsimp only [headSpec]; omega), by first | exact Nat.le_of_ble_eq_true rfl | omega | (show _ ≤ _; omega) | (dsimp only [headSpec]; omega)⟩) hS_114 (fun q _ h => h) (fun q h => h) (fun H_122 locs_119 hz_121 hF_123 hS_120 => ?_)
                    have hzf_125 := hF_123.1
                    refine W.widen (k := 0) (n := 0) (Nat.le_of_ble_eq_true rfl) (Nat.le_of_ble_eq_true rfl) ?_
                    obtain ⟨lB, rB, pB, roB, ho_130, ho_131, hRB⟩ := hz_121
                    have hZB := ZI.rotL hZ.up.up hRB
                    refine lv_goto (tgt := 5) hx hb dJ28_fixAfterInsertion_255 (by decide) ?_
                    exact ih_5  y (((false, np, (TN ng (.inner su ny uu ul ur : TT) sp)) :: c2)) tl tr lB rB pB ((((kup (kup cg np true) ng false)))) roB H_122 ho_130 ho_131 (ZI.dnR hZB.1) (hZB.2.trans hio) (fun _ => ZI.blk hZ.up.up (by simp [tio]) (by simp [tio]) hZB.1 d2 (hbl (by simp))) _ hS_120 (by (try simp only [List.length_cons] at hm_5); (try simp only [List.length_cons]); omega) ls (lv_sub hl [1, 2] rfl)
                  · -- child left
                    have hpn : lg np = some y := hb1.1
                    have hpo : rg np = tA sp := hb1.2
                    refine lv_aload_n hx hb dJ28_fixAfterInsertion_204 rfl (lv_at hl 2 rfl) ?_
                    refine lv_aload_n hx hb dJ28_fixAfterInsertion_205 rfl (lv_at hl 2 rfl) ?_
                    refine kx_cq0 (va_runS (As := [.ref y]) (rest := [.ref y]) ⟨hx, hb, hml, hown, hts⟩ (m_J28_parentOf l D H M kf vf lg rg pg cg y hP_kTN_M (by first | assumption | omega)) (va_cwS 1 hts (lw_S q883 q884 q117 q885) rfl rfl rfl (by decide +kernel) ⟨Nat.le_of_ble_eq_true rfl, Nat.le_of_ble_eq_true rfl⟩) (kx_ps hK hS_68 hB) rfl rfl hl.1 rfl (lv_room (Nat.le_of_ble_eq_true rfl)) dJ28_fixAfterInsertion_206 ⟨by first | exact Nat.le_of_ble_eq_true rfl | omega | (show _ ≤ _; omega) | (dsimp only [headSpec]; omega), by first | exact Nat.le_of_ble_eq_true rfl | omega | (show _ ≤ _; omega) | (dsimp only [headSpec]; omega)⟩) hS_68 (fun z_135 locs_132 hz_134 hS_133 => ?_)
                    subst z_135
                    refine kx_eqq hx hb (b := np) (hpy) ?_
                    refine kx_cq0 (va_runS (As := [.ref np]) (rest := [.ref y]) ⟨hx, hb, hml, hown, hts⟩ (m_J28_leftOf l D H M kf vf lg rg pg cg np hP_kTN_M (by first | assumption | omega)) (va_cwS 1 hts (lw_S q886 q887 q117 q888) rfl rfl rfl (by decide +kernel) ⟨Nat.le_of_ble_eq_true rfl, Nat.le_of_ble_eq_true rfl⟩) (kx_ps hK hS_133 hB) rfl rfl hl.1 rfl (lv_room (Nat.le_of_ble_eq_true rfl)) dJ28_fixAfterInsertion_209 ⟨by first | exact Nat.le_of_ble_eq_true rfl | omega | (show _ ≤ _; omega) | (dsimp only [headSpec]; omega), by first | exact Nat.le_of_ble_eq_true rfl | omega | (show _ ≤ _; omega) | (dsimp only [headSpec]; omega)⟩) hS_133 (fun z_139 locs_136 hz_138 hS_137 => ?_)
                    subst z_139
                    refine kx_eqq hx hb (b := y) (hpn) ?_
                    refine lv_acmp_ne (rx := some y) (ry := some y) (tgt := 225) hx hb dJ28_fixAfterInsertion_212 (by decide) (fun ca_140 => absurd (by rfl) ca_140) (fun ca_140 => ?_)
                    refine lv_aload_n hx hb dJ28_fixAfterInsertion_215 rfl (lv_at hl 2 rfl) ?_
                    refine kx_cq0 (va_runS (As := [.ref y]) (rest := []) ⟨hx, hb, hml, hown, hts⟩ (m_J28_parentOf l D H M kf vf lg rg pg cg y hP_kTN_M (by first | assumption | omega)) (va_cwS 1 hts (lw_S q883 q884 q117 q885) rfl rfl rfl (by decide +kernel) ⟨Nat.le_of_ble_eq_true rfl, Nat.le_of_ble_eq_true rfl⟩) (kx_ps hK hS_137 hB) rfl rfl hl.1 rfl (lv_room (Nat.le_of_ble_eq_true rfl)) dJ28_fixAfterInsertion_216 ⟨by first | exact Nat.le_of_ble_eq_true rfl | omega | (show _ ≤ _; omega) | (dsimp only [headSpec]; omega), by first | exact Nat.le_of_ble_eq_true rfl | omega | (show _ ≤ _; omega) | (dsimp only [headSpec]; omega)⟩) hS_137 (fun z_144 locs_141 hz_143 hS_142 => ?_)
                    subst z_144
                    refine kx_eqq hx hb (b := np) (hpy) ?_
                    refine lv_astore_n (lv' := [(1, .ref np), (2, .ref ny), (0, .ref mp)]) hx hb dJ28_fixAfterInsertion_219 rfl hl (by decide) rfl (fun ls hl => ?_)
                    refine lv_aload_n hx hb dJ28_fixAfterInsertion_220 rfl (lv_at hl 2 rfl) ?_
                    refine lv_aload_n hx hb dJ28_fixAfterInsertion_221 rfl (lv_at hl 0 rfl) ?_
                    refine kx_cv (va_runV (As := [.ref np]) (rest := []) ⟨hx, hb, hml, hown, hts⟩ (m_J28_rotateRight l D H mp rr sz mc ks M kf vf lg rg pg cg np y hO_mp hP_kTN_M npM hyM ((Ne.symm d1)) hpn ((fun q h => by have h9 : tA tr = some q := (hr1.symm.trans h); exact (d6 q (Or.inr (Or.inl (tA_mem h9)))).1)) ((fun q h => by rw [hp1] at h; cases h; exact ngM)) ((fun q h => by have h9 : tA tr = some q := (hr1.symm.trans h); exact (d6 q (Or.inr (Or.inl (tA_mem h9)))).2.1)) bs_mp hmpM) (cwV 1 hts (lw_V q902 q904 qs13 q117 q905) rfl rfl rfl (by decide +kernel) ⟨Nat.le_of_ble_eq_true rfl, Nat.le_of_ble_eq_true rfl⟩) (kx_pv hK hS_142 hB (kx_rc hK hO_mp (C := RJ28) (T := TJ28) (N := 9) rfl)) rfl rfl hl.1 rfl (lv_room (Nat.le_of_ble_eq_true rfl)) dJ28_fixAfterInsertion_222 ⟨by first | exact Nat.le_of_ble_eq_true rfl | omega | (show _ ≤ _; omega) | (dsimp only [headSpec]; omega), by first | exact Nat.le_of_ble_eq_true rfl | omega | (show _ ≤ _; omega) | (dsimp only [headSpec]; omega)⟩) hS_142 (fun q _ h => h) (fun q h => h) (fun H_148 locs_145 hz_147 hF_149 hS_146 => ?_)
                    have hzf_151 := hF_149.1
                    refine W.widen (k := 0) (n := 0) (Nat.le_of_ble_eq_true rfl) (Nat.le_of_ble_eq_true rfl) ?_
                    obtain ⟨lA, rA, pA, roA, ho_156, ho_157, hRA⟩ := hz_147
                    have hZA := ZI.rotR hZ.up hRA
                    obtain ⟨⟨hA1, hA2, hA3, hA4⟩, ⟨hA5, hA6, hA7, hA13, ⟨hA8, hA9, hA10, hA11, hA12⟩⟩, -⟩ := id hZA.1
                    have hAy : pA y = some ng := hA7
                    have hAg : pA ng = tup c2 := hA2
                    have hAn : rA ng = some y := hA1.2
                    refine lv_aload_n hx hb dJ28_fixAfterInsertion_225 rfl (lv_at hl 0 rfl) ?_
                    refine kx_cq0 (va_runS (As := [.ref np]) (rest := []) ⟨hx, hb, hml, hown, hts⟩ (m_J28_parentOf l D H_148 M kf vf lA rA pA cg np ho_157 (by first | assumption | omega)) (va_cwS 1 hts (lw_S q883 q884 q117 q885) rfl rfl rfl (by decide +kernel) ⟨Nat.le_of_ble_eq_true rfl, Nat.le_of_ble_eq_true rfl⟩) (kx_ps hK hS_146 hB) rfl rfl hl.1 rfl (lv_room (Nat.le_of_ble_eq_true rfl)) dJ28_fixAfterInsertion_226 ⟨by first | exact Nat.le_of_ble_eq_true rfl | omega | (show _ ≤ _; omega) | (dsimp only [headSpec]; omega), by first | exact Nat.le_of_ble_eq_true rfl | omega | (show _ ≤ _; omega) | (dsimp only [headSpec]; omega)⟩) hS_146 (fun z_161 locs_158 hz_160 hS_159 => ?_)
                    subst z_161
                    refine kx_eqq hx hb (b := y) (hA10) ?_
                    refine kx_iconst hx hb dJ28_fixAfterInsertion_229 ?_
                    refine kx_cv (va_runS (As := [.ref y, .int (kI (1))]) (rest := []) ⟨hx, hb, hml, hown, hts⟩ (m_J28_setColor l D H_148 M kf vf lA rA pA cg y true ho_157 (by first | assumption | omega)) (va_cwS 2 hts (lw_S q895 q896 q117 q897) rfl rfl rfl (by decide +kernel) ⟨Nat.le_of_ble_eq_true rfl, Nat.le_of_ble_eq_true rfl⟩) (kx_ps hK hS_159 hB) rfl rfl hl.1 rfl (lv_room (Nat.le_of_ble_eq_true rfl)) dJ28_fixAfterInsertion_230 ⟨by first | exact Nat.le_of_ble_eq_true rfl | omega | (show _ ≤ _; omega) | (dsimp only [headSpec]; omega), by first | exact Nat.le_of_ble_eq_true rfl | omega | (show _ ≤ _; omega) | (dsimp only [headSpec]; omega)⟩) hS_159 (fun q _ h => Or.inr (by rw [show q = _ from h]; assumption)) (fun q h => Or.inr (by rw [show q = _ from h]; assumption)) (fun H_165 locs_162 hz_164 hF_166 hS_163 => ?_)
                    have hzf_168 := hF_166.1
                    refine W.widen (k := 0) (n := 0) (Nat.le_of_ble_eq_true rfl) (Nat.le_of_ble_eq_true rfl) ?_
                    have ho_169 := hz_164
                    refine lv_aload_n hx hb dJ28_fixAfterInsertion_233 rfl (lv_at hl 0 rfl) ?_
                    refine kx_cq0 (va_runS (As := [.ref np]) (rest := []) ⟨hx, hb, hml, hown, hts⟩ (m_J28_parentOf l D H_165 M kf vf lA rA pA (kup cg y true) np ho_169 (by first | assumption | omega)) (va_cwS 1 hts (lw_S q883 q884 q117 q885) rfl rfl rfl (by decide +kernel) ⟨Nat.le_of_ble_eq_true rfl, Nat.le_of_ble_eq_true rfl⟩) (kx_ps hK hS_163 hB) rfl rfl hl.1 rfl (lv_room (Nat.le_of_ble_eq_true rfl)) dJ28_fixAfterInsertion_234 ⟨by first | exact Nat.le_of_ble_eq_true rfl | omega | (show _ ≤ _; omega) | (dsimp only [headSpec]; omega), by first | exact Nat.le_of_ble_eq_true rfl | omega | (show _ ≤ _; omega) | (dsimp only [headSpec]; omega)⟩) hS_163 (fun z_173 locs_170 hz_172 hS_171 => ?_)
                    subst z_173
                    refine kx_eqq hx hb (b := y) (hA10) ?_
                    refine kx_cq0 (va_runS (As := [.ref y]) (rest := []) ⟨hx, hb, hml, hown, hts⟩ (m_J28_parentOf l D H_165 M kf vf lA rA pA (kup cg y true) y ho_169 (by first | assumption | omega)) (va_cwS 1 hts (lw_S q883 q884 q117 q885) rfl rfl rfl (by decide +kernel) ⟨Nat.le_of_ble_eq_true rfl, Nat.le_of_ble_eq_true rfl⟩) (kx_ps hK hS_171 hB) rfl rfl hl.1 rfl (lv_room (Nat.le_of_ble_eq_true rfl)) dJ28_fixAfterInsertion_237 ⟨by first | exact Nat.le_of_ble_eq_true rfl | omega | (show _ ≤ _; omega) | (dsimp only [headSpec]; omega), by first | exact Nat.le_of_ble_eq_true rfl | omega | (show _ ≤ _; omega) | (dsimp only [headSpec]; omega)⟩) hS_171 (fun z_177 locs_174 hz_176 hS_175 => ?_)
                    subst z_177
                    refine kx_eqq hx hb (b := ng) (hAy) ?_
                    refine kx_iconst hx hb dJ28_fixAfterInsertion_240 ?_
                    refine kx_cv (va_runS (As := [.ref ng, .int (kI (0))]) (rest := []) ⟨hx, hb, hml, hown, hts⟩ (m_J28_setColor l D H_165 M kf vf lA rA pA (kup cg y true) ng false ho_169 (by first | assumption | omega)) (va_cwS 2 hts (lw_S q895 q896 q117 q897) rfl rfl rfl (by decide +kernel) ⟨Nat.le_of_ble_eq_true rfl, Nat.le_of_ble_eq_true rfl⟩) (kx_ps hK hS_175 hB) rfl rfl hl.1 rfl (lv_room (Nat.le_of_ble_eq_true rfl)) dJ28_fixAfterInsertion_241 ⟨by first | exact Nat.le_of_ble_eq_true rfl | omega | (show _ ≤ _; omega) | (dsimp only [headSpec]; omega), by first | exact Nat.le_of_ble_eq_true rfl | omega | (show _ ≤ _; omega) | (dsimp only [headSpec]; omega)⟩) hS_175 (fun q _ h => Or.inr (by rw [show q = _ from h]; assumption)) (fun q h => Or.inr (by rw [show q = _ from h]; assumption)) (fun H_181 locs_178 hz_180 hF_182 hS_179 => ?_)
                    have hzf_184 := hF_182.1
                    refine W.widen (k := 0) (n := 0) (Nat.le_of_ble_eq_true rfl) (Nat.le_of_ble_eq_true rfl) ?_
                    have ho_185 := hz_180
                    refine lv_aload_n hx hb dJ28_fixAfterInsertion_244 rfl (lv_at hl 2 rfl) ?_
                    refine lv_aload_n hx hb dJ28_fixAfterInsertion_245 rfl (lv_at hl 0 rfl) ?_
                    refine kx_cq0 (va_runS (As := [.ref np]) (rest := [.ref mp]) ⟨hx, hb, hml, hown, hts⟩ (m_J28_parentOf l D H_181 M kf vf lA rA pA ((kup (kup cg y true) ng false)) np ho_185 (by first | assumption | omega)) (va_cwS 1 hts (lw_S q883 q884 q117 q885) rfl rfl rfl (by decide +kernel) ⟨Nat.le_of_ble_eq_true rfl, Nat.le_of_ble_eq_true rfl⟩) (kx_ps hK hS_179 hB) rfl rfl hl.1 rfl (lv_room (Nat.le_of_ble_eq_true rfl)) dJ28_fixAfterInsertion_246 ⟨by first | exact Nat.le_of_ble_eq_true rfl | omega | (show _ ≤ _; omega) | (dsimp only [headSpec]; omega), by first | exact Nat.le_of_ble_eq_true rfl | omega | (show _ ≤ _; omega) | (dsimp only [headSpec]; omega)⟩) hS_179 (fun z_189 locs_186 hz_188 hS_187 => ?_)
                    subst z_189
                    refine kx_eqq hx hb (b := y) (hA10) ?_
                    refine kx_cq0 (va_runS (As := [.ref y]) (rest := [.ref mp]) ⟨hx, hb, hml, hown, hts⟩ (m_J28_parentOf l D H_181 M kf vf lA rA pA ((kup (kup cg y true) ng false)) y ho_185 (by first | assumption | omega)) (va_cwS 1 hts (lw_S q883 q884 q117 q885) rfl rfl rfl (by decide +kernel) ⟨Nat.le_of_ble_eq_true rfl, Nat.le_of_ble_eq_true rfl⟩) (kx_ps hK hS_187 hB) rfl rfl hl.1 rfl (lv_room (Nat.le_of_ble_eq_true rfl)) dJ28_fixAfterInsertion_249 ⟨by first | exact Nat.le_of_ble_eq_true rfl | omega | (show _ ≤ _; omega) | (dsimp only [headSpec]; omega), by first | exact Nat.le_of_ble_eq_true rfl | omega | (show _ ≤ _; omega) | (dsimp only [headSpec]; omega)⟩) hS_187 (fun z_193 locs_190 hz_192 hS_191 => ?_)
                    subst z_193
                    refine kx_eqq hx hb (b := ng) (hAy) ?_
                    have h_194 := ho_156.fr hF_166 (fun h => hmpM (by rw [show mp = _ from h]; assumption))
                    have h_195 := h_194.fr hF_182 (fun h => hmpM (by rw [show mp = _ from h]; assumption))
                    refine kx_cv (va_runV (As := [.ref ng]) (rest := []) ⟨hx, hb, hml, hown, hts⟩ (m_J28_rotateLeft l D H_181 mp roA sz mc ks M kf vf lA rA pA ((kup (kup cg y true) ng false)) ng y h_195 ho_185 ngM hyM ((Ne.symm d3)) hAn ((fun q h => by have h9 : tA tl = some q := (hA5.symm.trans h); exact (d6 q (Or.inl (tA_mem h9))).1)) ((fun q h => d7 q (hAg.symm.trans h))) ((fun q h => by have h9 : tA tl = some q := (hA5.symm.trans h); exact (d6 q (Or.inl (tA_mem h9))).2.2)) bs_mp hmpM) (cwV 1 hts (lw_V q898 q900 qs12 q117 q901) rfl rfl rfl (by decide +kernel) ⟨Nat.le_of_ble_eq_true rfl, Nat.le_of_ble_eq_true rfl⟩) (kx_pv hK hS_191 hB (kx_rc hK h_195 (C := RJ28) (T := TJ28) (N := 9) rfl)) rfl rfl hl.1 rfl (lv_room (Nat.le_of_ble_eq_true rfl)) dJ28_fixAfterInsertion_252 ⟨by first | exact Nat.le_of_ble_eq_true rfl | omega | (show _ ≤ _; omega) | (dsimp only [headSpec]; omega), by first | exact Nat.le_of_ble_eq_true rfl | omega | (show _ ≤ _; omega) | (dsimp only [headSpec]; omega)⟩) hS_191 (fun q _ h => h) (fun q h => h) (fun H_199 locs_196 hz_198 hF_200 hS_197 => ?_)
                    have hzf_202 := hF_200.1
                    refine W.widen (k := 0) (n := 0) (Nat.le_of_ble_eq_true rfl) (Nat.le_of_ble_eq_true rfl) ?_
                    obtain ⟨lB, rB, pB, roB, ho_207, ho_208, hRB⟩ := hz_198
                    have hZB := ZI.rotL hZA.1.up hRB
                    refine lv_goto (tgt := 5) hx hb dJ28_fixAfterInsertion_255 (by decide) ?_
                    exact ih_5  np (((false, y, (TN ng (.inner su ny uu ul ur : TT) tl)) :: c2)) tr sp lB rB pB ((((kup (kup cg y true) ng false)))) roB H_199 ho_207 ho_208 (ZI.dnR hZB.1) (hZB.2.trans (hZA.2.trans hio)) (fun _ => ZI.blk hZ.up.up (by simp [tio]) (by simp [tio]) hZB.1 d3 (hbl (by simp))) _ hS_197 (by (try simp only [List.length_cons] at hm_5); (try simp only [List.length_cons]); omega) ls (lv_sub hl [2, 0] rfl)
                · -- not taken at 166
                  refine lv_aload_n hx hb dJ28_fixAfterInsertion_169 rfl (lv_at hl 2 rfl) ?_
                  refine kx_cq0 (va_runS (As := [.ref y]) (rest := []) ⟨hx, hb, hml, hown, hts⟩ (m_J28_parentOf l D H M kf vf lg rg pg cg y hP_kTN_M (by first | assumption | omega)) (va_cwS 1 hts (lw_S q883 q884 q117 q885) rfl rfl rfl (by decide +kernel) ⟨Nat.le_of_ble_eq_true rfl, Nat.le_of_ble_eq_true rfl⟩) (kx_ps hK hS_68 hB) rfl rfl hl.1 rfl (lv_room (Nat.le_of_ble_eq_true rfl)) dJ28_fixAfterInsertion_170 ⟨by first | exact Nat.le_of_ble_eq_true rfl | omega | (show _ ≤ _; omega) | (dsimp only [headSpec]; omega), by first | exact Nat.le_of_ble_eq_true rfl | omega | (show _ ≤ _; omega) | (dsimp only [headSpec]; omega)⟩) hS_68 (fun z_212 locs_209 hz_211 hS_210 => ?_)
                  subst z_212
                  refine kx_eqq hx hb (b := np) (hpy) ?_
                  refine kx_iconst hx hb dJ28_fixAfterInsertion_173 ?_
                  refine kx_cv (va_runS (As := [.ref np, .int (kI (1))]) (rest := []) ⟨hx, hb, hml, hown, hts⟩ (m_J28_setColor l D H M kf vf lg rg pg cg np true hP_kTN_M (by first | assumption | omega)) (va_cwS 2 hts (lw_S q895 q896 q117 q897) rfl rfl rfl (by decide +kernel) ⟨Nat.le_of_ble_eq_true rfl, Nat.le_of_ble_eq_true rfl⟩) (kx_ps hK hS_210 hB) rfl rfl hl.1 rfl (lv_room (Nat.le_of_ble_eq_true rfl)) dJ28_fixAfterInsertion_174 ⟨by first | exact Nat.le_of_ble_eq_true rfl | omega | (show _ ≤ _; omega) | (dsimp only [headSpec]; omega), by first | exact Nat.le_of_ble_eq_true rfl | omega | (show _ ≤ _; omega) | (dsimp only [headSpec]; omega)⟩) hS_210 (fun q _ h => Or.inr (by rw [show q = _ from h]; assumption)) (fun q h => Or.inr (by rw [show q = _ from h]; assumption)) (fun H_216 locs_213 hz_215 hF_217 hS_214 => ?_)
                  have hzf_219 := hF_217.1
                  refine W.widen (k := 0) (n := 0) (Nat.le_of_ble_eq_true rfl) (Nat.le_of_ble_eq_true rfl) ?_
                  have ho_220 := hz_215
                  refine lv_aload_n hx hb dJ28_fixAfterInsertion_177 rfl (lv_at hl 0 rfl) ?_
                  refine kx_iconst hx hb dJ28_fixAfterInsertion_178 ?_
                  refine kx_cv (va_runS (As := [.ref ny, .int (kI (1))]) (rest := []) ⟨hx, hb, hml, hown, hts⟩ (m_J28_setColor l D H_216 M kf vf lg rg pg (kup cg np true) ny true ho_220 (by first | assumption | omega)) (va_cwS 2 hts (lw_S q895 q896 q117 q897) rfl rfl rfl (by decide +kernel) ⟨Nat.le_of_ble_eq_true rfl, Nat.le_of_ble_eq_true rfl⟩) (kx_ps hK hS_214 hB) rfl rfl hl.1 rfl (lv_room (Nat.le_of_ble_eq_true rfl)) dJ28_fixAfterInsertion_179 ⟨by first | exact Nat.le_of_ble_eq_true rfl | omega | (show _ ≤ _; omega) | (dsimp only [headSpec]; omega), by first | exact Nat.le_of_ble_eq_true rfl | omega | (show _ ≤ _; omega) | (dsimp only [headSpec]; omega)⟩) hS_214 (fun q _ h => Or.inr (by rw [show q = _ from h]; assumption)) (fun q h => Or.inr (by rw [show q = _ from h]; assumption)) (fun H_224 locs_221 hz_223 hF_225 hS_222 => ?_)
                  have hzf_227 := hF_225.1
                  refine W.widen (k := 0) (n := 0) (Nat.le_of_ble_eq_true rfl) (Nat.le_of_ble_eq_true rfl) ?_
                  have ho_228 := hz_223
                  refine lv_aload_n hx hb dJ28_fixAfterInsertion_182 rfl (lv_at hl 2 rfl) ?_
                  refine kx_cq0 (va_runS (As := [.ref y]) (rest := []) ⟨hx, hb, hml, hown, hts⟩ (m_J28_parentOf l D H_224 M kf vf lg rg pg ((kup (kup cg np true) ny true)) y ho_228 (by first | assumption | omega)) (va_cwS 1 hts (lw_S q883 q884 q117 q885) rfl rfl rfl (by decide +kernel) ⟨Nat.le_of_ble_eq_true rfl, Nat.le_of_ble_eq_true rfl⟩) (kx_ps hK hS_222 hB) rfl rfl hl.1 rfl (lv_room (Nat.le_of_ble_eq_true rfl)) dJ28_fixAfterInsertion_183 ⟨by first | exact Nat.le_of_ble_eq_true rfl | omega | (show _ ≤ _; omega) | (dsimp only [headSpec]; omega), by first | exact Nat.le_of_ble_eq_true rfl | omega | (show _ ≤ _; omega) | (dsimp only [headSpec]; omega)⟩) hS_222 (fun z_232 locs_229 hz_231 hS_230 => ?_)
                  subst z_232
                  refine kx_eqq hx hb (b := np) (hpy) ?_
                  refine kx_cq0 (va_runS (As := [.ref np]) (rest := []) ⟨hx, hb, hml, hown, hts⟩ (m_J28_parentOf l D H_224 M kf vf lg rg pg ((kup (kup cg np true) ny true)) np ho_228 (by first | assumption | omega)) (va_cwS 1 hts (lw_S q883 q884 q117 q885) rfl rfl rfl (by decide +kernel) ⟨Nat.le_of_ble_eq_true rfl, Nat.le_of_ble_eq_true rfl⟩) (kx_ps hK hS_230 hB) rfl rfl hl.1 rfl (lv_room (Nat.le_of_ble_eq_true rfl)) dJ28_fixAfterInsertion_186 ⟨by first | exact Nat.le_of_ble_eq_true rfl | omega | (show _ ≤ _; omega) | (dsimp only [headSpec]; omega), by first | exact Nat.le_of_ble_eq_true rfl | omega | (show _ ≤ _; omega) | (dsimp only [headSpec]; omega)⟩) hS_230 (fun z_236 locs_233 hz_235 hS_234 => ?_)
                  subst z_236
                  refine kx_eqq hx hb (b := ng) (hp1) ?_
                  refine kx_iconst hx hb dJ28_fixAfterInsertion_189 ?_
                  refine kx_cv (va_runS (As := [.ref ng, .int (kI (0))]) (rest := []) ⟨hx, hb, hml, hown, hts⟩ (m_J28_setColor l D H_224 M kf vf lg rg pg ((kup (kup cg np true) ny true)) ng false ho_228 (by first | assumption | omega)) (va_cwS 2 hts (lw_S q895 q896 q117 q897) rfl rfl rfl (by decide +kernel) ⟨Nat.le_of_ble_eq_true rfl, Nat.le_of_ble_eq_true rfl⟩) (kx_ps hK hS_234 hB) rfl rfl hl.1 rfl (lv_room (Nat.le_of_ble_eq_true rfl)) dJ28_fixAfterInsertion_190 ⟨by first | exact Nat.le_of_ble_eq_true rfl | omega | (show _ ≤ _; omega) | (dsimp only [headSpec]; omega), by first | exact Nat.le_of_ble_eq_true rfl | omega | (show _ ≤ _; omega) | (dsimp only [headSpec]; omega)⟩) hS_234 (fun q _ h => Or.inr (by rw [show q = _ from h]; assumption)) (fun q h => Or.inr (by rw [show q = _ from h]; assumption)) (fun H_240 locs_237 hz_239 hF_241 hS_238 => ?_)
                  have hzf_243 := hF_241.1
                  refine W.widen (k := 0) (n := 0) (Nat.le_of_ble_eq_true rfl) (Nat.le_of_ble_eq_true rfl) ?_
                  have ho_244 := hz_239
                  refine lv_aload_n hx hb dJ28_fixAfterInsertion_193 rfl (lv_at hl 2 rfl) ?_
                  refine kx_cq0 (va_runS (As := [.ref y]) (rest := []) ⟨hx, hb, hml, hown, hts⟩ (m_J28_parentOf l D H_240 M kf vf lg rg pg ((kup (((kup (kup cg np true) ny true))) ng false)) y ho_244 (by first | assumption | omega)) (va_cwS 1 hts (lw_S q883 q884 q117 q885) rfl rfl rfl (by decide +kernel) ⟨Nat.le_of_ble_eq_true rfl, Nat.le_of_ble_eq_true rfl⟩) (kx_ps hK hS_238 hB) rfl rfl hl.1 rfl (lv_room (Nat.le_of_ble_eq_true rfl)) dJ28_fixAfterInsertion_194 ⟨by first | exact Nat.le_of_ble_eq_true rfl | omega | (show _ ≤ _; omega) | (dsimp only [headSpec]; omega), by first | exact Nat.le_of_ble_eq_true rfl | omega | (show _ ≤ _; omega) | (dsimp only [headSpec]; omega)⟩) hS_238 (fun z_248 locs_245 hz_247 hS_246 => ?_)
                  subst z_248
                  refine kx_eqq hx hb (b := np) (hpy) ?_
                  refine kx_cq0 (va_runS (As := [.ref np]) (rest := []) ⟨hx, hb, hml, hown, hts⟩ (m_J28_parentOf l D H_240 M kf vf lg rg pg ((kup (((kup (kup cg np true) ny true))) ng false)) np ho_244 (by first | assumption | omega)) (va_cwS 1 hts (lw_S q883 q884 q117 q885) rfl rfl rfl (by decide +kernel) ⟨Nat.le_of_ble_eq_true rfl, Nat.le_of_ble_eq_true rfl⟩) (kx_ps hK hS_246 hB) rfl rfl hl.1 rfl (lv_room (Nat.le_of_ble_eq_true rfl)) dJ28_fixAfterInsertion_197 ⟨by first | exact Nat.le_of_ble_eq_true rfl | omega | (show _ ≤ _; omega) | (dsimp only [headSpec]; omega), by first | exact Nat.le_of_ble_eq_true rfl | omega | (show _ ≤ _; omega) | (dsimp only [headSpec]; omega)⟩) hS_246 (fun z_252 locs_249 hz_251 hS_250 => ?_)
                  subst z_252
                  refine kx_eqq hx hb (b := ng) (hp1) ?_
                  refine lv_astore_n (lv' := [(1, .ref ng), (2, .ref ny), (0, .ref mp)]) hx hb dJ28_fixAfterInsertion_200 rfl hl (by decide) rfl (fun ls hl => ?_)
                  refine lv_goto (tgt := 255) hx hb dJ28_fixAfterInsertion_201 (by decide) ?_
                  refine lv_goto (tgt := 5) hx hb dJ28_fixAfterInsertion_255 (by decide) ?_
                  have h_253 := hO_mp.fr hF_217 (fun h => hmpM (by rw [show mp = _ from h]; assumption))
                  have h_254 := h_253.fr hF_225 (fun h => hmpM (by rw [show mp = _ from h]; assumption))
                  have h_255 := h_254.fr hF_241 (fun h => hmpM (by rw [show mp = _ from h]; assumption))
                  exact ih_5  ng c2 ((.inner su ny uu ul ur : TT)) ((if b1 = true then TN np (TN y tl tr) sp else TN np sp (TN y tl tr))) lg rg pg ((kup (((kup (kup cg np true) ny true))) ng false)) rr H_240 h_255 ho_244 (hZ.up.up) (hio) (by intro hne a ha; have h0 := hbl (by simp) a ha; have h1 := (hZ.up.up.root hne ha).2; have h2 : a ≠ ng := fun e => h1 (by rw [e]; simp [tio]); simp [kup, h2, h0]) _ hS_250 (by (try simp only [List.length_cons] at hm_5); (try simp only [List.length_cons]); omega) ls (lv_sub hl [2, 0] rfl)
              · -- uncle l
                have hgo : lg ng = none := hgo
                refine lv_aload_n hx hb dJ28_fixAfterInsertion_27 rfl (lv_at hl 1 rfl) ?_
                refine kx_cq0 (va_runS (As := [.ref y]) (rest := []) ⟨hx, hb, hml, hown, hts⟩ (m_J28_parentOf l D H M kf vf lg rg pg cg y hP_kTN_M (by first | assumption | omega)) (va_cwS 1 hts (lw_S q883 q884 q117 q885) rfl rfl rfl (by decide +kernel) ⟨Nat.le_of_ble_eq_true rfl, Nat.le_of_ble_eq_true rfl⟩) (kx_ps hK hS hB) rfl rfl hl.1 rfl (lv_room (Nat.le_of_ble_eq_true rfl)) dJ28_fixAfterInsertion_28 ⟨by first | exact Nat.le_of_ble_eq_true rfl | omega | (show _ ≤ _; omega) | (dsimp only [headSpec]; omega), by first | exact Nat.le_of_ble_eq_true rfl | omega | (show _ ≤ _; omega) | (dsimp only [headSpec]; omega)⟩) hS (fun z_259 locs_256 hz_258 hS_257 => ?_)
                subst z_259
                refine kx_eqq hx hb (b := np) (hpy) ?_
                refine lv_aload_n hx hb dJ28_fixAfterInsertion_31 rfl (lv_at hl 1 rfl) ?_
                refine kx_cq0 (va_runS (As := [.ref y]) (rest := [.ref np]) ⟨hx, hb, hml, hown, hts⟩ (m_J28_parentOf l D H M kf vf lg rg pg cg y hP_kTN_M (by first | assumption | omega)) (va_cwS 1 hts (lw_S q883 q884 q117 q885) rfl rfl rfl (by decide +kernel) ⟨Nat.le_of_ble_eq_true rfl, Nat.le_of_ble_eq_true rfl⟩) (kx_ps hK hS_257 hB) rfl rfl hl.1 rfl (lv_room (Nat.le_of_ble_eq_true rfl)) dJ28_fixAfterInsertion_32 ⟨by first | exact Nat.le_of_ble_eq_true rfl | omega | (show _ ≤ _; omega) | (dsimp only [headSpec]; omega), by first | exact Nat.le_of_ble_eq_true rfl | omega | (show _ ≤ _; omega) | (dsimp only [headSpec]; omega)⟩) hS_257 (fun z_263 locs_260 hz_262 hS_261 => ?_)
                subst z_263
                refine kx_eqq hx hb (b := np) (hpy) ?_
                refine kx_cq0 (va_runS (As := [.ref np]) (rest := [.ref np]) ⟨hx, hb, hml, hown, hts⟩ (m_J28_parentOf l D H M kf vf lg rg pg cg np hP_kTN_M (by first | assumption | omega)) (va_cwS 1 hts (lw_S q883 q884 q117 q885) rfl rfl rfl (by decide +kernel) ⟨Nat.le_of_ble_eq_true rfl, Nat.le_of_ble_eq_true rfl⟩) (kx_ps hK hS_261 hB) rfl rfl hl.1 rfl (lv_room (Nat.le_of_ble_eq_true rfl)) dJ28_fixAfterInsertion_35 ⟨by first | exact Nat.le_of_ble_eq_true rfl | omega | (show _ ≤ _; omega) | (dsimp only [headSpec]; omega), by first | exact Nat.le_of_ble_eq_true rfl | omega | (show _ ≤ _; omega) | (dsimp only [headSpec]; omega)⟩) hS_261 (fun z_267 locs_264 hz_266 hS_265 => ?_)
                subst z_267
                refine kx_eqq hx hb (b := ng) (hp1) ?_
                refine kx_cq0 (va_runS (As := [.ref ng]) (rest := [.ref np]) ⟨hx, hb, hml, hown, hts⟩ (m_J28_leftOf l D H M kf vf lg rg pg cg ng hP_kTN_M (by first | assumption | omega)) (va_cwS 1 hts (lw_S q886 q887 q117 q888) rfl rfl rfl (by decide +kernel) ⟨Nat.le_of_ble_eq_true rfl, Nat.le_of_ble_eq_true rfl⟩) (kx_ps hK hS_265 hB) rfl rfl hl.1 rfl (lv_room (Nat.le_of_ble_eq_true rfl)) dJ28_fixAfterInsertion_38 ⟨by first | exact Nat.le_of_ble_eq_true rfl | omega | (show _ ≤ _; omega) | (dsimp only [headSpec]; omega), by first | exact Nat.le_of_ble_eq_true rfl | omega | (show _ ≤ _; omega) | (dsimp only [headSpec]; omega)⟩) hS_265 (fun z_271 locs_268 hz_270 hS_269 => ?_)
                subst z_271
                refine kx_eqqN hx hb (hgo) ?_
                refine lv_acmp_ne (rx := some np) (ry := none) (tgt := 151) hx hb dJ28_fixAfterInsertion_41 (by decide) (fun ca_272 => ?_) (fun ca_272 => absurd ca_272 (by exact fun z => by cases z))
                refine lv_aload_n hx hb dJ28_fixAfterInsertion_151 rfl (lv_at hl 1 rfl) ?_
                refine kx_cq0 (va_runS (As := [.ref y]) (rest := []) ⟨hx, hb, hml, hown, hts⟩ (m_J28_parentOf l D H M kf vf lg rg pg cg y hP_kTN_M (by first | assumption | omega)) (va_cwS 1 hts (lw_S q883 q884 q117 q885) rfl rfl rfl (by decide +kernel) ⟨Nat.le_of_ble_eq_true rfl, Nat.le_of_ble_eq_true rfl⟩) (kx_ps hK hS_269 hB) rfl rfl hl.1 rfl (lv_room (Nat.le_of_ble_eq_true rfl)) dJ28_fixAfterInsertion_152 ⟨by first | exact Nat.le_of_ble_eq_true rfl | omega | (show _ ≤ _; omega) | (dsimp only [headSpec]; omega), by first | exact Nat.le_of_ble_eq_true rfl | omega | (show _ ≤ _; omega) | (dsimp only [headSpec]; omega)⟩) hS_269 (fun z_276 locs_273 hz_275 hS_274 => ?_)
                subst z_276
                refine kx_eqq hx hb (b := np) (hpy) ?_
                refine kx_cq0 (va_runS (As := [.ref np]) (rest := []) ⟨hx, hb, hml, hown, hts⟩ (m_J28_parentOf l D H M kf vf lg rg pg cg np hP_kTN_M (by first | assumption | omega)) (va_cwS 1 hts (lw_S q883 q884 q117 q885) rfl rfl rfl (by decide +kernel) ⟨Nat.le_of_ble_eq_true rfl, Nat.le_of_ble_eq_true rfl⟩) (kx_ps hK hS_274 hB) rfl rfl hl.1 rfl (lv_room (Nat.le_of_ble_eq_true rfl)) dJ28_fixAfterInsertion_155 ⟨by first | exact Nat.le_of_ble_eq_true rfl | omega | (show _ ≤ _; omega) | (dsimp only [headSpec]; omega), by first | exact Nat.le_of_ble_eq_true rfl | omega | (show _ ≤ _; omega) | (dsimp only [headSpec]; omega)⟩) hS_274 (fun z_280 locs_277 hz_279 hS_278 => ?_)
                subst z_280
                refine kx_eqq hx hb (b := ng) (hp1) ?_
                refine kx_cq0 (va_runS (As := [.ref ng]) (rest := []) ⟨hx, hb, hml, hown, hts⟩ (m_J28_leftOf l D H M kf vf lg rg pg cg ng hP_kTN_M (by first | assumption | omega)) (va_cwS 1 hts (lw_S q886 q887 q117 q888) rfl rfl rfl (by decide +kernel) ⟨Nat.le_of_ble_eq_true rfl, Nat.le_of_ble_eq_true rfl⟩) (kx_ps hK hS_278 hB) rfl rfl hl.1 rfl (lv_room (Nat.le_of_ble_eq_true rfl)) dJ28_fixAfterInsertion_158 ⟨by first | exact Nat.le_of_ble_eq_true rfl | omega | (show _ ≤ _; omega) | (dsimp only [headSpec]; omega), by first | exact Nat.le_of_ble_eq_true rfl | omega | (show _ ≤ _; omega) | (dsimp only [headSpec]; omega)⟩) hS_278 (fun z_284 locs_281 hz_283 hS_282 => ?_)
                subst z_284
                refine kx_eqqN hx hb (hgo) ?_
                refine lv_astore_nN (lv' := [(2, .null), (0, .ref mp), (1, .ref y)]) hx hb dJ28_fixAfterInsertion_161 rfl hl (by decide) rfl (fun ls hl => ?_)
                refine lv_aload_nN hx hb dJ28_fixAfterInsertion_162 rfl (lv_at hl 0 rfl) ?_
                refine kx_cb0 (va_runS (As := [.null]) (rest := []) ⟨hx, hb, hml, hown, hts⟩ (m_J28_colorOf_n l D H   ) (va_cwS 1 hts (lw_S q892 q893 q117 q894) rfl rfl rfl (by decide +kernel) ⟨Nat.le_of_ble_eq_true rfl, Nat.le_of_ble_eq_true rfl⟩) (kx_ps hK hS_282 hB) rfl rfl hl.1 rfl (lv_room (Nat.le_of_ble_eq_true rfl)) dJ28_fixAfterInsertion_163 ⟨by first | exact Nat.le_of_ble_eq_true rfl | omega | (show _ ≤ _; omega) | (dsimp only [headSpec]; omega), by first | exact Nat.le_of_ble_eq_true rfl | omega | (show _ ≤ _; omega) | (dsimp only [headSpec]; omega)⟩) hS_282 (fun z_288 locs_285 hz_287 hS_286 => ?_)
                subst z_288
                refine kx_ifnz (tgt := 204) hx hb dJ28_fixAfterInsertion_166 (by decide) (fun c_166_289 => ?_) (fun c_166_289 => ?_)
                · -- taken at 166
                  rcases b1 with _ | _
                  · -- child right
                    have hpn : rg np = some y := hb1.2
                    have hpo : lg np = tA sp := hb1.1
                    refine lv_aload_n hx hb dJ28_fixAfterInsertion_204 rfl (lv_at hl 2 rfl) ?_
                    refine lv_aload_n hx hb dJ28_fixAfterInsertion_205 rfl (lv_at hl 2 rfl) ?_
                    refine kx_cq0 (va_runS (As := [.ref y]) (rest := [.ref y]) ⟨hx, hb, hml, hown, hts⟩ (m_J28_parentOf l D H M kf vf lg rg pg cg y hP_kTN_M (by first | assumption | omega)) (va_cwS 1 hts (lw_S q883 q884 q117 q885) rfl rfl rfl (by decide +kernel) ⟨Nat.le_of_ble_eq_true rfl, Nat.le_of_ble_eq_true rfl⟩) (kx_ps hK hS_286 hB) rfl rfl hl.1 rfl (lv_room (Nat.le_of_ble_eq_true rfl)) dJ28_fixAfterInsertion_206 ⟨by first | exact Nat.le_of_ble_eq_true rfl | omega | (show _ ≤ _; omega) | (dsimp only [headSpec]; omega), by first | exact Nat.le_of_ble_eq_true rfl | omega | (show _ ≤ _; omega) | (dsimp only [headSpec]; omega)⟩) hS_286 (fun z_293 locs_290 hz_292 hS_291 => ?_)
                    subst z_293
                    refine kx_eqq hx hb (b := np) (hpy) ?_
                    refine kx_cq0 (va_runS (As := [.ref np]) (rest := [.ref y]) ⟨hx, hb, hml, hown, hts⟩ (m_J28_leftOf l D H M kf vf lg rg pg cg np hP_kTN_M (by first | assumption | omega)) (va_cwS 1 hts (lw_S q886 q887 q117 q888) rfl rfl rfl (by decide +kernel) ⟨Nat.le_of_ble_eq_true rfl, Nat.le_of_ble_eq_true rfl⟩) (kx_ps hK hS_291 hB) rfl rfl hl.1 rfl (lv_room (Nat.le_of_ble_eq_true rfl)) dJ28_fixAfterInsertion_209 ⟨by first | exact Nat.le_of_ble_eq_true rfl | omega | (show _ ≤ _; omega) | (dsimp only [headSpec]; omega), by first | exact Nat.le_of_ble_eq_true rfl | omega | (show _ ≤ _; omega) | (dsimp only [headSpec]; omega)⟩) hS_291 (fun z_297 locs_294 hz_296 hS_295 => ?_)
                    subst z_297
                    refine lv_acmp_ne (rx := some y) (ry := lg np) (tgt := 225) hx hb dJ28_fixAfterInsertion_212 (by decide) (fun ca_298 => ?_) (fun ca_298 => absurd ca_298 (by exact fun z => d4 (tA_mem (hpo.symm.trans z.symm))))
                    refine lv_aload_n hx hb dJ28_fixAfterInsertion_225 rfl (lv_at hl 2 rfl) ?_
                    refine kx_cq0 (va_runS (As := [.ref y]) (rest := []) ⟨hx, hb, hml, hown, hts⟩ (m_J28_parentOf l D H M kf vf lg rg pg cg y hP_kTN_M (by first | assumption | omega)) (va_cwS 1 hts (lw_S q883 q884 q117 q885) rfl rfl rfl (by decide +kernel) ⟨Nat.le_of_ble_eq_true rfl, Nat.le_of_ble_eq_true rfl⟩) (kx_ps hK hS_295 hB) rfl rfl hl.1 rfl (lv_room (Nat.le_of_ble_eq_true rfl)) dJ28_fixAfterInsertion_226 ⟨by first | exact Nat.le_of_ble_eq_true rfl | omega | (show _ ≤ _; omega) | (dsimp only [headSpec]; omega), by first | exact Nat.le_of_ble_eq_true rfl | omega | (show _ ≤ _; omega) | (dsimp only [headSpec]; omega)⟩) hS_295 (fun z_302 locs_299 hz_301 hS_300 => ?_)
                    subst z_302
                    refine kx_eqq hx hb (b := np) (hpy) ?_
                    refine kx_iconst hx hb dJ28_fixAfterInsertion_229 ?_
                    refine kx_cv (va_runS (As := [.ref np, .int (kI (1))]) (rest := []) ⟨hx, hb, hml, hown, hts⟩ (m_J28_setColor l D H M kf vf lg rg pg cg np true hP_kTN_M (by first | assumption | omega)) (va_cwS 2 hts (lw_S q895 q896 q117 q897) rfl rfl rfl (by decide +kernel) ⟨Nat.le_of_ble_eq_true rfl, Nat.le_of_ble_eq_true rfl⟩) (kx_ps hK hS_300 hB) rfl rfl hl.1 rfl (lv_room (Nat.le_of_ble_eq_true rfl)) dJ28_fixAfterInsertion_230 ⟨by first | exact Nat.le_of_ble_eq_true rfl | omega | (show _ ≤ _; omega) | (dsimp only [headSpec]; omega), by first | exact Nat.le_of_ble_eq_true rfl | omega | (show _ ≤ _; omega) | (dsimp only [headSpec]; omega)⟩) hS_300 (fun q _ h => Or.inr (by rw [show q = _ from h]; assumption)) (fun q h => Or.inr (by rw [show q = _ from h]; assumption)) (fun H_306 locs_303 hz_305 hF_307 hS_304 => ?_)
                    have hzf_309 := hF_307.1
                    refine W.widen (k := 0) (n := 0) (Nat.le_of_ble_eq_true rfl) (Nat.le_of_ble_eq_true rfl) ?_
                    have ho_310 := hz_305
                    refine lv_aload_n hx hb dJ28_fixAfterInsertion_233 rfl (lv_at hl 2 rfl) ?_
                    refine kx_cq0 (va_runS (As := [.ref y]) (rest := []) ⟨hx, hb, hml, hown, hts⟩ (m_J28_parentOf l D H_306 M kf vf lg rg pg (kup cg np true) y ho_310 (by first | assumption | omega)) (va_cwS 1 hts (lw_S q883 q884 q117 q885) rfl rfl rfl (by decide +kernel) ⟨Nat.le_of_ble_eq_true rfl, Nat.le_of_ble_eq_true rfl⟩) (kx_ps hK hS_304 hB) rfl rfl hl.1 rfl (lv_room (Nat.le_of_ble_eq_true rfl)) dJ28_fixAfterInsertion_234 ⟨by first | exact Nat.le_of_ble_eq_true rfl | omega | (show _ ≤ _; omega) | (dsimp only [headSpec]; omega), by first | exact Nat.le_of_ble_eq_true rfl | omega | (show _ ≤ _; omega) | (dsimp only [headSpec]; omega)⟩) hS_304 (fun z_314 locs_311 hz_313 hS_312 => ?_)
                    subst z_314
                    refine kx_eqq hx hb (b := np) (hpy) ?_
                    refine kx_cq0 (va_runS (As := [.ref np]) (rest := []) ⟨hx, hb, hml, hown, hts⟩ (m_J28_parentOf l D H_306 M kf vf lg rg pg (kup cg np true) np ho_310 (by first | assumption | omega)) (va_cwS 1 hts (lw_S q883 q884 q117 q885) rfl rfl rfl (by decide +kernel) ⟨Nat.le_of_ble_eq_true rfl, Nat.le_of_ble_eq_true rfl⟩) (kx_ps hK hS_312 hB) rfl rfl hl.1 rfl (lv_room (Nat.le_of_ble_eq_true rfl)) dJ28_fixAfterInsertion_237 ⟨by first | exact Nat.le_of_ble_eq_true rfl | omega | (show _ ≤ _; omega) | (dsimp only [headSpec]; omega), by first | exact Nat.le_of_ble_eq_true rfl | omega | (show _ ≤ _; omega) | (dsimp only [headSpec]; omega)⟩) hS_312 (fun z_318 locs_315 hz_317 hS_316 => ?_)
                    subst z_318
                    refine kx_eqq hx hb (b := ng) (hp1) ?_
                    refine kx_iconst hx hb dJ28_fixAfterInsertion_240 ?_
                    refine kx_cv (va_runS (As := [.ref ng, .int (kI (0))]) (rest := []) ⟨hx, hb, hml, hown, hts⟩ (m_J28_setColor l D H_306 M kf vf lg rg pg (kup cg np true) ng false ho_310 (by first | assumption | omega)) (va_cwS 2 hts (lw_S q895 q896 q117 q897) rfl rfl rfl (by decide +kernel) ⟨Nat.le_of_ble_eq_true rfl, Nat.le_of_ble_eq_true rfl⟩) (kx_ps hK hS_316 hB) rfl rfl hl.1 rfl (lv_room (Nat.le_of_ble_eq_true rfl)) dJ28_fixAfterInsertion_241 ⟨by first | exact Nat.le_of_ble_eq_true rfl | omega | (show _ ≤ _; omega) | (dsimp only [headSpec]; omega), by first | exact Nat.le_of_ble_eq_true rfl | omega | (show _ ≤ _; omega) | (dsimp only [headSpec]; omega)⟩) hS_316 (fun q _ h => Or.inr (by rw [show q = _ from h]; assumption)) (fun q h => Or.inr (by rw [show q = _ from h]; assumption)) (fun H_322 locs_319 hz_321 hF_323 hS_320 => ?_)
                    have hzf_325 := hF_323.1
                    refine W.widen (k := 0) (n := 0) (Nat.le_of_ble_eq_true rfl) (Nat.le_of_ble_eq_true rfl) ?_
                    have ho_326 := hz_321
                    refine lv_aload_n hx hb dJ28_fixAfterInsertion_244 rfl (lv_at hl 1 rfl) ?_
                    refine lv_aload_n hx hb dJ28_fixAfterInsertion_245 rfl (lv_at hl 2 rfl) ?_
                    refine kx_cq0 (va_runS (As := [.ref y]) (rest := [.ref mp]) ⟨hx, hb, hml, hown, hts⟩ (m_J28_parentOf l D H_322 M kf vf lg rg pg ((kup (kup cg np true) ng false)) y ho_326 (by first | assumption | omega)) (va_cwS 1 hts (lw_S q883 q884 q117 q885) rfl rfl rfl (by decide +kernel) ⟨Nat.le_of_ble_eq_true rfl, Nat.le_of_ble_eq_true rfl⟩) (kx_ps hK hS_320 hB) rfl rfl hl.1 rfl (lv_room (Nat.le_of_ble_eq_true rfl)) dJ28_fixAfterInsertion_246 ⟨by first | exact Nat.le_of_ble_eq_true rfl | omega | (show _ ≤ _; omega) | (dsimp only [headSpec]; omega), by first | exact Nat.le_of_ble_eq_true rfl | omega | (show _ ≤ _; omega) | (dsimp only [headSpec]; omega)⟩) hS_320 (fun z_330 locs_327 hz_329 hS_328 => ?_)
                    subst z_330
                    refine kx_eqq hx hb (b := np) (hpy) ?_
                    refine kx_cq0 (va_runS (As := [.ref np]) (rest := [.ref mp]) ⟨hx, hb, hml, hown, hts⟩ (m_J28_parentOf l D H_322 M kf vf lg rg pg ((kup (kup cg np true) ng false)) np ho_326 (by first | assumption | omega)) (va_cwS 1 hts (lw_S q883 q884 q117 q885) rfl rfl rfl (by decide +kernel) ⟨Nat.le_of_ble_eq_true rfl, Nat.le_of_ble_eq_true rfl⟩) (kx_ps hK hS_328 hB) rfl rfl hl.1 rfl (lv_room (Nat.le_of_ble_eq_true rfl)) dJ28_fixAfterInsertion_249 ⟨by first | exact Nat.le_of_ble_eq_true rfl | omega | (show _ ≤ _; omega) | (dsimp only [headSpec]; omega), by first | exact Nat.le_of_ble_eq_true rfl | omega | (show _ ≤ _; omega) | (dsimp only [headSpec]; omega)⟩) hS_328 (fun z_334 locs_331 hz_333 hS_332 => ?_)
                    subst z_334
                    refine kx_eqq hx hb (b := ng) (hp1) ?_
                    have h_335 := hO_mp.fr hF_307 (fun h => hmpM (by rw [show mp = _ from h]; assumption))
                    have h_336 := h_335.fr hF_323 (fun h => hmpM (by rw [show mp = _ from h]; assumption))
                    refine kx_cv (va_runV (As := [.ref ng]) (rest := []) ⟨hx, hb, hml, hown, hts⟩ (m_J28_rotateLeft l D H_322 mp rr sz mc ks M kf vf lg rg pg ((kup (kup cg np true) ng false)) ng np h_336 ho_326 ngM npM ((Ne.symm d2)) hgn ((fun q h => by have h9 : tA sp = some q := (hpo.symm.trans h); exact (d6 q (Or.inr (Or.inr (tA_mem h9)))).1)) ((fun q h => d7 q (hg2.symm.trans h))) ((fun q h => by have h9 : tA sp = some q := (hpo.symm.trans h); exact (d6 q (Or.inr (Or.inr (tA_mem h9)))).2.2)) bs_mp hmpM) (cwV 1 hts (lw_V q898 q900 qs12 q117 q901) rfl rfl rfl (by decide +kernel) ⟨Nat.le_of_ble_eq_true rfl, Nat.le_of_ble_eq_true rfl⟩) (kx_pv hK hS_332 hB (kx_rc hK h_336 (C := RJ28) (T := TJ28) (N := 9) rfl)) rfl rfl hl.1 rfl (lv_room (Nat.le_of_ble_eq_true rfl)) dJ28_fixAfterInsertion_252 ⟨by first | exact Nat.le_of_ble_eq_true rfl | omega | (show _ ≤ _; omega) | (dsimp only [headSpec]; omega), by first | exact Nat.le_of_ble_eq_true rfl | omega | (show _ ≤ _; omega) | (dsimp only [headSpec]; omega)⟩) hS_332 (fun q _ h => h) (fun q h => h) (fun H_340 locs_337 hz_339 hF_341 hS_338 => ?_)
                    have hzf_343 := hF_341.1
                    refine W.widen (k := 0) (n := 0) (Nat.le_of_ble_eq_true rfl) (Nat.le_of_ble_eq_true rfl) ?_
                    obtain ⟨lB, rB, pB, roB, ho_348, ho_349, hRB⟩ := hz_339
                    have hZB := ZI.rotL hZ.up.up hRB
                    refine lv_goto (tgt := 5) hx hb dJ28_fixAfterInsertion_255 (by decide) ?_
                    exact ih_5  y (((false, np, (TN ng (.leaf : TT) sp)) :: c2)) tl tr lB rB pB ((((kup (kup cg np true) ng false)))) roB H_340 ho_348 ho_349 (ZI.dnR hZB.1) (hZB.2.trans hio) (fun _ => ZI.blk hZ.up.up (by simp [tio]) (by simp [tio]) hZB.1 d2 (hbl (by simp))) _ hS_338 (by (try simp only [List.length_cons] at hm_5); (try simp only [List.length_cons]); omega) ls (lv_sub hl [1, 2] rfl)
                  · -- child left
                    have hpn : lg np = some y := hb1.1
                    have hpo : rg np = tA sp := hb1.2
                    refine lv_aload_n hx hb dJ28_fixAfterInsertion_204 rfl (lv_at hl 2 rfl) ?_
                    refine lv_aload_n hx hb dJ28_fixAfterInsertion_205 rfl (lv_at hl 2 rfl) ?_
                    refine kx_cq0 (va_runS (As := [.ref y]) (rest := [.ref y]) ⟨hx, hb, hml, hown, hts⟩ (m_J28_parentOf l D H M kf vf lg rg pg cg y hP_kTN_M (by first | assumption | omega)) (va_cwS 1 hts (lw_S q883 q884 q117 q885) rfl rfl rfl (by decide +kernel) ⟨Nat.le_of_ble_eq_true rfl, Nat.le_of_ble_eq_true rfl⟩) (kx_ps hK hS_286 hB) rfl rfl hl.1 rfl (lv_room (Nat.le_of_ble_eq_true rfl)) dJ28_fixAfterInsertion_206 ⟨by first | exact Nat.le_of_ble_eq_true rfl | omega | (show _ ≤ _; omega) | (dsimp only [headSpec]; omega), by first | exact Nat.le_of_ble_eq_true rfl | omega | (show _ ≤ _; omega) | (dsimp only [headSpec]; omega)⟩) hS_286 (fun z_353 locs_350 hz_352 hS_351 => ?_)
                    subst z_353
                    refine kx_eqq hx hb (b := np) (hpy) ?_
                    refine kx_cq0 (va_runS (As := [.ref np]) (rest := [.ref y]) ⟨hx, hb, hml, hown, hts⟩ (m_J28_leftOf l D H M kf vf lg rg pg cg np hP_kTN_M (by first | assumption | omega)) (va_cwS 1 hts (lw_S q886 q887 q117 q888) rfl rfl rfl (by decide +kernel) ⟨Nat.le_of_ble_eq_true rfl, Nat.le_of_ble_eq_true rfl⟩) (kx_ps hK hS_351 hB) rfl rfl hl.1 rfl (lv_room (Nat.le_of_ble_eq_true rfl)) dJ28_fixAfterInsertion_209 ⟨by first | exact Nat.le_of_ble_eq_true rfl | omega | (show _ ≤ _; omega) | (dsimp only [headSpec]; omega), by first | exact Nat.le_of_ble_eq_true rfl | omega | (show _ ≤ _; omega) | (dsimp only [headSpec]; omega)⟩) hS_351 (fun z_357 locs_354 hz_356 hS_355 => ?_)
                    subst z_357
                    refine kx_eqq hx hb (b := y) (hpn) ?_
                    refine lv_acmp_ne (rx := some y) (ry := some y) (tgt := 225) hx hb dJ28_fixAfterInsertion_212 (by decide) (fun ca_358 => absurd (by rfl) ca_358) (fun ca_358 => ?_)
                    refine lv_aload_n hx hb dJ28_fixAfterInsertion_215 rfl (lv_at hl 2 rfl) ?_
                    refine kx_cq0 (va_runS (As := [.ref y]) (rest := []) ⟨hx, hb, hml, hown, hts⟩ (m_J28_parentOf l D H M kf vf lg rg pg cg y hP_kTN_M (by first | assumption | omega)) (va_cwS 1 hts (lw_S q883 q884 q117 q885) rfl rfl rfl (by decide +kernel) ⟨Nat.le_of_ble_eq_true rfl, Nat.le_of_ble_eq_true rfl⟩) (kx_ps hK hS_355 hB) rfl rfl hl.1 rfl (lv_room (Nat.le_of_ble_eq_true rfl)) dJ28_fixAfterInsertion_216 ⟨by first | exact Nat.le_of_ble_eq_true rfl | omega | (show _ ≤ _; omega) | (dsimp only [headSpec]; omega), by first | exact Nat.le_of_ble_eq_true rfl | omega | (show _ ≤ _; omega) | (dsimp only [headSpec]; omega)⟩) hS_355 (fun z_362 locs_359 hz_361 hS_360 => ?_)
                    subst z_362
                    refine kx_eqq hx hb (b := np) (hpy) ?_
                    refine lv_astore_n (lv' := [(1, .ref np), (2, .null), (0, .ref mp)]) hx hb dJ28_fixAfterInsertion_219 rfl hl (by decide) rfl (fun ls hl => ?_)
                    refine lv_aload_n hx hb dJ28_fixAfterInsertion_220 rfl (lv_at hl 2 rfl) ?_
                    refine lv_aload_n hx hb dJ28_fixAfterInsertion_221 rfl (lv_at hl 0 rfl) ?_
                    refine kx_cv (va_runV (As := [.ref np]) (rest := []) ⟨hx, hb, hml, hown, hts⟩ (m_J28_rotateRight l D H mp rr sz mc ks M kf vf lg rg pg cg np y hO_mp hP_kTN_M npM hyM ((Ne.symm d1)) hpn ((fun q h => by have h9 : tA tr = some q := (hr1.symm.trans h); exact (d6 q (Or.inr (Or.inl (tA_mem h9)))).1)) ((fun q h => by rw [hp1] at h; cases h; exact ngM)) ((fun q h => by have h9 : tA tr = some q := (hr1.symm.trans h); exact (d6 q (Or.inr (Or.inl (tA_mem h9)))).2.1)) bs_mp hmpM) (cwV 1 hts (lw_V q902 q904 qs13 q117 q905) rfl rfl rfl (by decide +kernel) ⟨Nat.le_of_ble_eq_true rfl, Nat.le_of_ble_eq_true rfl⟩) (kx_pv hK hS_360 hB (kx_rc hK hO_mp (C := RJ28) (T := TJ28) (N := 9) rfl)) rfl rfl hl.1 rfl (lv_room (Nat.le_of_ble_eq_true rfl)) dJ28_fixAfterInsertion_222 ⟨by first | exact Nat.le_of_ble_eq_true rfl | omega | (show _ ≤ _; omega) | (dsimp only [headSpec]; omega), by first | exact Nat.le_of_ble_eq_true rfl | omega | (show _ ≤ _; omega) | (dsimp only [headSpec]; omega)⟩) hS_360 (fun q _ h => h) (fun q h => h) (fun H_366 locs_363 hz_365 hF_367 hS_364 => ?_)
                    have hzf_369 := hF_367.1
                    refine W.widen (k := 0) (n := 0) (Nat.le_of_ble_eq_true rfl) (Nat.le_of_ble_eq_true rfl) ?_
                    obtain ⟨lA, rA, pA, roA, ho_374, ho_375, hRA⟩ := hz_365
                    have hZA := ZI.rotR hZ.up hRA
                    obtain ⟨⟨hA1, hA2, hA3, hA4⟩, ⟨hA5, hA6, hA7, hA13, ⟨hA8, hA9, hA10, hA11, hA12⟩⟩, -⟩ := id hZA.1
                    have hAy : pA y = some ng := hA7
                    have hAg : pA ng = tup c2 := hA2
                    have hAn : rA ng = some y := hA1.2
                    refine lv_aload_n hx hb dJ28_fixAfterInsertion_225 rfl (lv_at hl 0 rfl) ?_
                    refine kx_cq0 (va_runS (As := [.ref np]) (rest := []) ⟨hx, hb, hml, hown, hts⟩ (m_J28_parentOf l D H_366 M kf vf lA rA pA cg np ho_375 (by first | assumption | omega)) (va_cwS 1 hts (lw_S q883 q884 q117 q885) rfl rfl rfl (by decide +kernel) ⟨Nat.le_of_ble_eq_true rfl, Nat.le_of_ble_eq_true rfl⟩) (kx_ps hK hS_364 hB) rfl rfl hl.1 rfl (lv_room (Nat.le_of_ble_eq_true rfl)) dJ28_fixAfterInsertion_226 ⟨by first | exact Nat.le_of_ble_eq_true rfl | omega | (show _ ≤ _; omega) | (dsimp only [headSpec]; omega), by first | exact Nat.le_of_ble_eq_true rfl | omega | (show _ ≤ _; omega) | (dsimp only [headSpec]; omega)⟩) hS_364 (fun z_379 locs_376 hz_378 hS_377 => ?_)
                    subst z_379
                    refine kx_eqq hx hb (b := y) (hA10) ?_
                    refine kx_iconst hx hb dJ28_fixAfterInsertion_229 ?_
                    refine kx_cv (va_runS (As := [.ref y, .int (kI (1))]) (rest := []) ⟨hx, hb, hml, hown, hts⟩ (m_J28_setColor l D H_366 M kf vf lA rA pA cg y true ho_375 (by first | assumption | omega)) (va_cwS 2 hts (lw_S q895 q896 q117 q897) rfl rfl rfl (by decide +kernel) ⟨Nat.le_of_ble_eq_true rfl, Nat.le_of_ble_eq_true rfl⟩) (kx_ps hK hS_377 hB) rfl rfl hl.1 rfl (lv_room (Nat.le_of_ble_eq_true rfl)) dJ28_fixAfterInsertion_230 ⟨by first | exact Nat.le_of_ble_eq_true rfl | omega | (show _ ≤ _; omega) | (dsimp only [headSpec]; omega), by first | exact Nat.le_of_ble_eq_true rfl | omega | (show _ ≤ _; omega) | (dsimp only [headSpec]; omega)⟩) hS_377 (fun q _ h => Or.inr (by rw [show q = _ from h]; assumption)) (fun q h => Or.inr (by rw [show q = _ from h]; assumption)) (fun H_383 locs_380 hz_382 hF_384 hS_381 => ?_)
                    have hzf_386 := hF_384.1
                    refine W.widen (k := 0) (n := 0) (Nat.le_of_ble_eq_true rfl) (Nat.le_of_ble_eq_true rfl) ?_
                    have ho_387 := hz_382
                    refine lv_aload_n hx hb dJ28_fixAfterInsertion_233 rfl (lv_at hl 0 rfl) ?_
                    refine kx_cq0 (va_runS (As := [.ref np]) (rest := []) ⟨hx, hb, hml, hown, hts⟩ (m_J28_parentOf l D H_383 M kf vf lA rA pA (kup cg y true) np ho_387 (by first | assumption | omega)) (va_cwS 1 hts (lw_S q883 q884 q117 q885) rfl rfl rfl (by decide +kernel) ⟨Nat.le_of_ble_eq_true rfl, Nat.le_of_ble_eq_true rfl⟩) (kx_ps hK hS_381 hB) rfl rfl hl.1 rfl (lv_room (Nat.le_of_ble_eq_true rfl)) dJ28_fixAfterInsertion_234 ⟨by first | exact Nat.le_of_ble_eq_true rfl | omega | (show _ ≤ _; omega) | (dsimp only [headSpec]; omega), by first | exact Nat.le_of_ble_eq_true rfl | omega | (show _ ≤ _; omega) | (dsimp only [headSpec]; omega)⟩) hS_381 (fun z_391 locs_388 hz_390 hS_389 => ?_)
                    subst z_391
                    refine kx_eqq hx hb (b := y) (hA10) ?_
                    refine kx_cq0 (va_runS (As := [.ref y]) (rest := []) ⟨hx, hb, hml, hown, hts⟩ (m_J28_parentOf l D H_383 M kf vf lA rA pA (kup cg y true) y ho_387 (by first | assumption | omega)) (va_cwS 1 hts (lw_S q883 q884 q117 q885) rfl rfl rfl (by decide +kernel) ⟨Nat.le_of_ble_eq_true rfl, Nat.le_of_ble_eq_true rfl⟩) (kx_ps hK hS_389 hB) rfl rfl hl.1 rfl (lv_room (Nat.le_of_ble_eq_true rfl)) dJ28_fixAfterInsertion_237 ⟨by first | exact Nat.le_of_ble_eq_true rfl | omega | (show _ ≤ _; omega) | (dsimp only [headSpec]; omega), by first | exact Nat.le_of_ble_eq_true rfl | omega | (show _ ≤ _; omega) | (dsimp only [headSpec]; omega)⟩) hS_389 (fun z_395 locs_392 hz_394 hS_393 => ?_)
                    subst z_395
                    refine kx_eqq hx hb (b := ng) (hAy) ?_
                    refine kx_iconst hx hb dJ28_fixAfterInsertion_240 ?_
                    refine kx_cv (va_runS (As := [.ref ng, .int (kI (0))]) (rest := []) ⟨hx, hb, hml, hown, hts⟩ (m_J28_setColor l D H_383 M kf vf lA rA pA (kup cg y true) ng false ho_387 (by first | assumption | omega)) (va_cwS 2 hts (lw_S q895 q896 q117 q897) rfl rfl rfl (by decide +kernel) ⟨Nat.le_of_ble_eq_true rfl, Nat.le_of_ble_eq_true rfl⟩) (kx_ps hK hS_393 hB) rfl rfl hl.1 rfl (lv_room (Nat.le_of_ble_eq_true rfl)) dJ28_fixAfterInsertion_241 ⟨by first | exact Nat.le_of_ble_eq_true rfl | omega | (show _ ≤ _; omega) | (dsimp only [headSpec]; omega), by first | exact Nat.le_of_ble_eq_true rfl | omega | (show _ ≤ _; omega) | (dsimp only [headSpec]; omega)⟩) hS_393 (fun q _ h => Or.inr (by rw [show q = _ from h]; assumption)) (fun q h => Or.inr (by rw [show q = _ from h]; assumption)) (fun H_399 locs_396 hz_398 hF_400 hS_397 => ?_)
                    have hzf_402 := hF_400.1
                    refine W.widen (k := 0) (n := 0) (Nat.le_of_ble_eq_true rfl) (Nat.le_of_ble_eq_true rfl) ?_
                    have ho_403 := hz_398
                    refine lv_aload_n hx hb dJ28_fixAfterInsertion_244 rfl (lv_at hl 2 rfl) ?_
                    refine lv_aload_n hx hb dJ28_fixAfterInsertion_245 rfl (lv_at hl 0 rfl) ?_
                    refine kx_cq0 (va_runS (As := [.ref np]) (rest := [.ref mp]) ⟨hx, hb, hml, hown, hts⟩ (m_J28_parentOf l D H_399 M kf vf lA rA pA ((kup (kup cg y true) ng false)) np ho_403 (by first | assumption | omega)) (va_cwS 1 hts (lw_S q883 q884 q117 q885) rfl rfl rfl (by decide +kernel) ⟨Nat.le_of_ble_eq_true rfl, Nat.le_of_ble_eq_true rfl⟩) (kx_ps hK hS_397 hB) rfl rfl hl.1 rfl (lv_room (Nat.le_of_ble_eq_true rfl)) dJ28_fixAfterInsertion_246 ⟨by first | exact Nat.le_of_ble_eq_true rfl | omega | (show _ ≤ _; omega) | (dsimp only [headSpec]; omega), by first | exact Nat.le_of_ble_eq_true rfl | omega | (show _ ≤ _; omega) | (dsimp only [headSpec]; omega)⟩) hS_397 (fun z_407 locs_404 hz_406 hS_405 => ?_)
                    subst z_407
                    refine kx_eqq hx hb (b := y) (hA10) ?_
                    refine kx_cq0 (va_runS (As := [.ref y]) (rest := [.ref mp]) ⟨hx, hb, hml, hown, hts⟩ (m_J28_parentOf l D H_399 M kf vf lA rA pA ((kup (kup cg y true) ng false)) y ho_403 (by first | assumption | omega)) (va_cwS 1 hts (lw_S q883 q884 q117 q885) rfl rfl rfl (by decide +kernel) ⟨Nat.le_of_ble_eq_true rfl, Nat.le_of_ble_eq_true rfl⟩) (kx_ps hK hS_405 hB) rfl rfl hl.1 rfl (lv_room (Nat.le_of_ble_eq_true rfl)) dJ28_fixAfterInsertion_249 ⟨by first | exact Nat.le_of_ble_eq_true rfl | omega | (show _ ≤ _; omega) | (dsimp only [headSpec]; omega), by first | exact Nat.le_of_ble_eq_true rfl | omega | (show _ ≤ _; omega) | (dsimp only [headSpec]; omega)⟩) hS_405 (fun z_411 locs_408 hz_410 hS_409 => ?_)
                    subst z_411
                    refine kx_eqq hx hb (b := ng) (hAy) ?_
                    have h_412 := ho_374.fr hF_384 (fun h => hmpM (by rw [show mp = _ from h]; assumption))
                    have h_413 := h_412.fr hF_400 (fun h => hmpM (by rw [show mp = _ from h]; assumption))
                    refine kx_cv (va_runV (As := [.ref ng]) (rest := []) ⟨hx, hb, hml, hown, hts⟩ (m_J28_rotateLeft l D H_399 mp roA sz mc ks M kf vf lA rA pA ((kup (kup cg y true) ng false)) ng y h_413 ho_403 ngM hyM ((Ne.symm d3)) hAn ((fun q h => by have h9 : tA tl = some q := (hA5.symm.trans h); exact (d6 q (Or.inl (tA_mem h9))).1)) ((fun q h => d7 q (hAg.symm.trans h))) ((fun q h => by have h9 : tA tl = some q := (hA5.symm.trans h); exact (d6 q (Or.inl (tA_mem h9))).2.2)) bs_mp hmpM) (cwV 1 hts (lw_V q898 q900 qs12 q117 q901) rfl rfl rfl (by decide +kernel) ⟨Nat.le_of_ble_eq_true rfl, Nat.le_of_ble_eq_true rfl⟩) (kx_pv hK hS_409 hB (kx_rc hK h_413 (C := RJ28) (T := TJ28) (N := 9) rfl)) rfl rfl hl.1 rfl (lv_room (Nat.le_of_ble_eq_true rfl)) dJ28_fixAfterInsertion_252 ⟨by first | exact Nat.le_of_ble_eq_true rfl | omega | (show _ ≤ _; omega) | (dsimp only [headSpec]; omega), by first | exact Nat.le_of_ble_eq_true rfl | omega | (show _ ≤ _; omega) | (dsimp only [headSpec]; omega)⟩) hS_409 (fun q _ h => h) (fun q h => h) (fun H_417 locs_414 hz_416 hF_418 hS_415 => ?_)
                    have hzf_420 := hF_418.1
                    refine W.widen (k := 0) (n := 0) (Nat.le_of_ble_eq_true rfl) (Nat.le_of_ble_eq_true rfl) ?_
                    obtain ⟨lB, rB, pB, roB, ho_425, ho_426, hRB⟩ := hz_416
                    have hZB := ZI.rotL hZA.1.up hRB
                    refine lv_goto (tgt := 5) hx hb dJ28_fixAfterInsertion_255 (by decide) ?_
                    exact ih_5  np (((false, y, (TN ng (.leaf : TT) tl)) :: c2)) tr sp lB rB pB ((((kup (kup cg y true) ng false)))) roB H_417 ho_425 ho_426 (ZI.dnR hZB.1) (hZB.2.trans (hZA.2.trans hio)) (fun _ => ZI.blk hZ.up.up (by simp [tio]) (by simp [tio]) hZB.1 d3 (hbl (by simp))) _ hS_415 (by (try simp only [List.length_cons] at hm_5); (try simp only [List.length_cons]); omega) ls (lv_sub hl [2, 0] rfl)
                · -- not taken at 166
                  exact absurd c_166_289 (by decide)
            · -- left
              have hgn : lg ng = some np := hg1.1
              have hgo : rg ng = tA u := hg1.2
              rcases u with ⟨su, ny, uu, ul, ur⟩ | _
              · -- uncle i
                have hgo : rg ng = some ny := hgo
                have nyM : ny ∈ M := hZ.memC (by simp [tca, tio])
                have d8 : np ≠ ny := fun z => d5 (by rw [z]; simp [tio])
                refine lv_aload_n hx hb dJ28_fixAfterInsertion_27 rfl (lv_at hl 1 rfl) ?_
                refine kx_cq0 (va_runS (As := [.ref y]) (rest := []) ⟨hx, hb, hml, hown, hts⟩ (m_J28_parentOf l D H M kf vf lg rg pg cg y hP_kTN_M (by first | assumption | omega)) (va_cwS 1 hts (lw_S q883 q884 q117 q885) rfl rfl rfl (by decide +kernel) ⟨Nat.le_of_ble_eq_true rfl, Nat.le_of_ble_eq_true rfl⟩) (kx_ps hK hS hB) rfl rfl hl.1 rfl (lv_room (Nat.le_of_ble_eq_true rfl)) dJ28_fixAfterInsertion_28 ⟨by first | exact Nat.le_of_ble_eq_true rfl | omega | (show _ ≤ _; omega) | (dsimp only [headSpec]; omega), by first | exact Nat.le_of_ble_eq_true rfl | omega | (show _ ≤ _; omega) | (dsimp only [headSpec]; omega)⟩) hS (fun z_430 locs_427 hz_429 hS_428 => ?_)
                subst z_430
                refine kx_eqq hx hb (b := np) (hpy) ?_
                refine lv_aload_n hx hb dJ28_fixAfterInsertion_31 rfl (lv_at hl 1 rfl) ?_
                refine kx_cq0 (va_runS (As := [.ref y]) (rest := [.ref np]) ⟨hx, hb, hml, hown, hts⟩ (m_J28_parentOf l D H M kf vf lg rg pg cg y hP_kTN_M (by first | assumption | omega)) (va_cwS 1 hts (lw_S q883 q884 q117 q885) rfl rfl rfl (by decide +kernel) ⟨Nat.le_of_ble_eq_true rfl, Nat.le_of_ble_eq_true rfl⟩) (kx_ps hK hS_428 hB) rfl rfl hl.1 rfl (lv_room (Nat.le_of_ble_eq_true rfl)) dJ28_fixAfterInsertion_32 ⟨by first | exact Nat.le_of_ble_eq_true rfl | omega | (show _ ≤ _; omega) | (dsimp only [headSpec]; omega), by first | exact Nat.le_of_ble_eq_true rfl | omega | (show _ ≤ _; omega) | (dsimp only [headSpec]; omega)⟩) hS_428 (fun z_434 locs_431 hz_433 hS_432 => ?_)
                subst z_434
                refine kx_eqq hx hb (b := np) (hpy) ?_
                refine kx_cq0 (va_runS (As := [.ref np]) (rest := [.ref np]) ⟨hx, hb, hml, hown, hts⟩ (m_J28_parentOf l D H M kf vf lg rg pg cg np hP_kTN_M (by first | assumption | omega)) (va_cwS 1 hts (lw_S q883 q884 q117 q885) rfl rfl rfl (by decide +kernel) ⟨Nat.le_of_ble_eq_true rfl, Nat.le_of_ble_eq_true rfl⟩) (kx_ps hK hS_432 hB) rfl rfl hl.1 rfl (lv_room (Nat.le_of_ble_eq_true rfl)) dJ28_fixAfterInsertion_35 ⟨by first | exact Nat.le_of_ble_eq_true rfl | omega | (show _ ≤ _; omega) | (dsimp only [headSpec]; omega), by first | exact Nat.le_of_ble_eq_true rfl | omega | (show _ ≤ _; omega) | (dsimp only [headSpec]; omega)⟩) hS_432 (fun z_438 locs_435 hz_437 hS_436 => ?_)
                subst z_438
                refine kx_eqq hx hb (b := ng) (hp1) ?_
                refine kx_cq0 (va_runS (As := [.ref ng]) (rest := [.ref np]) ⟨hx, hb, hml, hown, hts⟩ (m_J28_leftOf l D H M kf vf lg rg pg cg ng hP_kTN_M (by first | assumption | omega)) (va_cwS 1 hts (lw_S q886 q887 q117 q888) rfl rfl rfl (by decide +kernel) ⟨Nat.le_of_ble_eq_true rfl, Nat.le_of_ble_eq_true rfl⟩) (kx_ps hK hS_436 hB) rfl rfl hl.1 rfl (lv_room (Nat.le_of_ble_eq_true rfl)) dJ28_fixAfterInsertion_38 ⟨by first | exact Nat.le_of_ble_eq_true rfl | omega | (show _ ≤ _; omega) | (dsimp only [headSpec]; omega), by first | exact Nat.le_of_ble_eq_true rfl | omega | (show _ ≤ _; omega) | (dsimp only [headSpec]; omega)⟩) hS_436 (fun z_442 locs_439 hz_441 hS_440 => ?_)
                subst z_442
                refine kx_eqq hx hb (b := np) (hgn) ?_
                refine lv_acmp_ne (rx := some np) (ry := some np) (tgt := 151) hx hb dJ28_fixAfterInsertion_41 (by decide) (fun ca_443 => absurd (by rfl) ca_443) (fun ca_443 => ?_)
                refine lv_aload_n hx hb dJ28_fixAfterInsertion_44 rfl (lv_at hl 1 rfl) ?_
                refine kx_cq0 (va_runS (As := [.ref y]) (rest := []) ⟨hx, hb, hml, hown, hts⟩ (m_J28_parentOf l D H M kf vf lg rg pg cg y hP_kTN_M (by first | assumption | omega)) (va_cwS 1 hts (lw_S q883 q884 q117 q885) rfl rfl rfl (by decide +kernel) ⟨Nat.le_of_ble_eq_true rfl, Nat.le_of_ble_eq_true rfl⟩) (kx_ps hK hS_440 hB) rfl rfl hl.1 rfl (lv_room (Nat.le_of_ble_eq_true rfl)) dJ28_fixAfterInsertion_45 ⟨by first | exact Nat.le_of_ble_eq_true rfl | omega | (show _ ≤ _; omega) | (dsimp only [headSpec]; omega), by first | exact Nat.le_of_ble_eq_true rfl | omega | (show _ ≤ _; omega) | (dsimp only [headSpec]; omega)⟩) hS_440 (fun z_447 locs_444 hz_446 hS_445 => ?_)
                subst z_447
                refine kx_eqq hx hb (b := np) (hpy) ?_
                refine kx_cq0 (va_runS (As := [.ref np]) (rest := []) ⟨hx, hb, hml, hown, hts⟩ (m_J28_parentOf l D H M kf vf lg rg pg cg np hP_kTN_M (by first | assumption | omega)) (va_cwS 1 hts (lw_S q883 q884 q117 q885) rfl rfl rfl (by decide +kernel) ⟨Nat.le_of_ble_eq_true rfl, Nat.le_of_ble_eq_true rfl⟩) (kx_ps hK hS_445 hB) rfl rfl hl.1 rfl (lv_room (Nat.le_of_ble_eq_true rfl)) dJ28_fixAfterInsertion_48 ⟨by first | exact Nat.le_of_ble_eq_true rfl | omega | (show _ ≤ _; omega) | (dsimp only [headSpec]; omega), by first | exact Nat.le_of_ble_eq_true rfl | omega | (show _ ≤ _; omega) | (dsimp only [headSpec]; omega)⟩) hS_445 (fun z_451 locs_448 hz_450 hS_449 => ?_)
                subst z_451
                refine kx_eqq hx hb (b := ng) (hp1) ?_
                refine kx_cq0 (va_runS (As := [.ref ng]) (rest := []) ⟨hx, hb, hml, hown, hts⟩ (m_J28_rightOf l D H M kf vf lg rg pg cg ng hP_kTN_M (by first | assumption | omega)) (va_cwS 1 hts (lw_S q889 q890 q117 q891) rfl rfl rfl (by decide +kernel) ⟨Nat.le_of_ble_eq_true rfl, Nat.le_of_ble_eq_true rfl⟩) (kx_ps hK hS_449 hB) rfl rfl hl.1 rfl (lv_room (Nat.le_of_ble_eq_true rfl)) dJ28_fixAfterInsertion_51 ⟨by first | exact Nat.le_of_ble_eq_true rfl | omega | (show _ ≤ _; omega) | (dsimp only [headSpec]; omega), by first | exact Nat.le_of_ble_eq_true rfl | omega | (show _ ≤ _; omega) | (dsimp only [headSpec]; omega)⟩) hS_449 (fun z_455 locs_452 hz_454 hS_453 => ?_)
                subst z_455
                refine kx_eqq hx hb (b := ny) (hgo) ?_
                refine lv_astore_n (lv' := [(2, .ref ny), (0, .ref mp), (1, .ref y)]) hx hb dJ28_fixAfterInsertion_54 rfl hl (by decide) rfl (fun ls hl => ?_)
                refine lv_aload_n hx hb dJ28_fixAfterInsertion_55 rfl (lv_at hl 0 rfl) ?_
                refine kx_cb0 (va_runS (As := [.ref ny]) (rest := []) ⟨hx, hb, hml, hown, hts⟩ (m_J28_colorOf l D H M kf vf lg rg pg cg ny hP_kTN_M (by first | assumption | omega)) (va_cwS 1 hts (lw_S q892 q893 q117 q894) rfl rfl rfl (by decide +kernel) ⟨Nat.le_of_ble_eq_true rfl, Nat.le_of_ble_eq_true rfl⟩) (kx_ps hK hS_453 hB) rfl rfl hl.1 rfl (lv_room (Nat.le_of_ble_eq_true rfl)) dJ28_fixAfterInsertion_56 ⟨by first | exact Nat.le_of_ble_eq_true rfl | omega | (show _ ≤ _; omega) | (dsimp only [headSpec]; omega), by first | exact Nat.le_of_ble_eq_true rfl | omega | (show _ ≤ _; omega) | (dsimp only [headSpec]; omega)⟩) hS_453 (fun z_459 locs_456 hz_458 hS_457 => ?_)
                subst z_459
                refine kx_ifnz (tgt := 97) hx hb dJ28_fixAfterInsertion_59 (by decide) (fun c_59_460 => ?_) (fun c_59_460 => ?_)
                · -- taken at 59
                  rcases b1 with _ | _
                  · -- child right
                    have hpn : rg np = some y := hb1.2
                    have hpo : lg np = tA sp := hb1.1
                    refine lv_aload_n hx hb dJ28_fixAfterInsertion_97 rfl (lv_at hl 2 rfl) ?_
                    refine lv_aload_n hx hb dJ28_fixAfterInsertion_98 rfl (lv_at hl 2 rfl) ?_
                    refine kx_cq0 (va_runS (As := [.ref y]) (rest := [.ref y]) ⟨hx, hb, hml, hown, hts⟩ (m_J28_parentOf l D H M kf vf lg rg pg cg y hP_kTN_M (by first | assumption | omega)) (va_cwS 1 hts (lw_S q883 q884 q117 q885) rfl rfl rfl (by decide +kernel) ⟨Nat.le_of_ble_eq_true rfl, Nat.le_of_ble_eq_true rfl⟩) (kx_ps hK hS_457 hB) rfl rfl hl.1 rfl (lv_room (Nat.le_of_ble_eq_true rfl)) dJ28_fixAfterInsertion_99 ⟨by first | exact Nat.le_of_ble_eq_true rfl | omega | (show _ ≤ _; omega) | (dsimp only [headSpec]; omega), by first | exact Nat.le_of_ble_eq_true rfl | omega | (show _ ≤ _; omega) | (dsimp only [headSpec]; omega)⟩) hS_457 (fun z_464 locs_461 hz_463 hS_462 => ?_)
                    subst z_464
                    refine kx_eqq hx hb (b := np) (hpy) ?_
                    refine kx_cq0 (va_runS (As := [.ref np]) (rest := [.ref y]) ⟨hx, hb, hml, hown, hts⟩ (m_J28_rightOf l D H M kf vf lg rg pg cg np hP_kTN_M (by first | assumption | omega)) (va_cwS 1 hts (lw_S q889 q890 q117 q891) rfl rfl rfl (by decide +kernel) ⟨Nat.le_of_ble_eq_true rfl, Nat.le_of_ble_eq_true rfl⟩) (kx_ps hK hS_462 hB) rfl rfl hl.1 rfl (lv_room (Nat.le_of_ble_eq_true rfl)) dJ28_fixAfterInsertion_102 ⟨by first | exact Nat.le_of_ble_eq_true rfl | omega | (show _ ≤ _; omega) | (dsimp only [headSpec]; omega), by first | exact Nat.le_of_ble_eq_true rfl | omega | (show _ ≤ _; omega) | (dsimp only [headSpec]; omega)⟩) hS_462 (fun z_468 locs_465 hz_467 hS_466 => ?_)
                    subst z_468
                    refine kx_eqq hx hb (b := y) (hpn) ?_
                    refine lv_acmp_ne (rx := some y) (ry := some y) (tgt := 118) hx hb dJ28_fixAfterInsertion_105 (by decide) (fun ca_469 => absurd (by rfl) ca_469) (fun ca_469 => ?_)
                    refine lv_aload_n hx hb dJ28_fixAfterInsertion_108 rfl (lv_at hl 2 rfl) ?_
                    refine kx_cq0 (va_runS (As := [.ref y]) (rest := []) ⟨hx, hb, hml, hown, hts⟩ (m_J28_parentOf l D H M kf vf lg rg pg cg y hP_kTN_M (by first | assumption | omega)) (va_cwS 1 hts (lw_S q883 q884 q117 q885) rfl rfl rfl (by decide +kernel) ⟨Nat.le_of_ble_eq_true rfl, Nat.le_of_ble_eq_true rfl⟩) (kx_ps hK hS_466 hB) rfl rfl hl.1 rfl (lv_room (Nat.le_of_ble_eq_true rfl)) dJ28_fixAfterInsertion_109 ⟨by first | exact Nat.le_of_ble_eq_true rfl | omega | (show _ ≤ _; omega) | (dsimp only [headSpec]; omega), by first | exact Nat.le_of_ble_eq_true rfl | omega | (show _ ≤ _; omega) | (dsimp only [headSpec]; omega)⟩) hS_466 (fun z_473 locs_470 hz_472 hS_471 => ?_)
                    subst z_473
                    refine kx_eqq hx hb (b := np) (hpy) ?_
                    refine lv_astore_n (lv' := [(1, .ref np), (2, .ref ny), (0, .ref mp)]) hx hb dJ28_fixAfterInsertion_112 rfl hl (by decide) rfl (fun ls hl => ?_)
                    refine lv_aload_n hx hb dJ28_fixAfterInsertion_113 rfl (lv_at hl 2 rfl) ?_
                    refine lv_aload_n hx hb dJ28_fixAfterInsertion_114 rfl (lv_at hl 0 rfl) ?_
                    refine kx_cv (va_runV (As := [.ref np]) (rest := []) ⟨hx, hb, hml, hown, hts⟩ (m_J28_rotateLeft l D H mp rr sz mc ks M kf vf lg rg pg cg np y hO_mp hP_kTN_M npM hyM ((Ne.symm d1)) hpn ((fun q h => by have h9 : tA tl = some q := (hl1.symm.trans h); exact (d6 q (Or.inl (tA_mem h9))).1)) ((fun q h => by rw [hp1] at h; cases h; exact ngM)) ((fun q h => by have h9 : tA tl = some q := (hl1.symm.trans h); exact (d6 q (Or.inl (tA_mem h9))).2.1)) bs_mp hmpM) (cwV 1 hts (lw_V q898 q900 qs12 q117 q901) rfl rfl rfl (by decide +kernel) ⟨Nat.le_of_ble_eq_true rfl, Nat.le_of_ble_eq_true rfl⟩) (kx_pv hK hS_471 hB (kx_rc hK hO_mp (C := RJ28) (T := TJ28) (N := 9) rfl)) rfl rfl hl.1 rfl (lv_room (Nat.le_of_ble_eq_true rfl)) dJ28_fixAfterInsertion_115 ⟨by first | exact Nat.le_of_ble_eq_true rfl | omega | (show _ ≤ _; omega) | (dsimp only [headSpec]; omega), by first | exact Nat.le_of_ble_eq_true rfl | omega | (show _ ≤ _; omega) | (dsimp only [headSpec]; omega)⟩) hS_471 (fun q _ h => h) (fun q h => h) (fun H_477 locs_474 hz_476 hF_478 hS_475 => ?_)
                    have hzf_480 := hF_478.1
                    refine W.widen (k := 0) (n := 0) (Nat.le_of_ble_eq_true rfl) (Nat.le_of_ble_eq_true rfl) ?_
                    obtain ⟨lA, rA, pA, roA, ho_485, ho_486, hRA⟩ := hz_476
                    have hZA := ZI.rotL hZ.up hRA
                    obtain ⟨⟨hA1, hA2, hA3, hA4⟩, ⟨hA5, hA6, hA7, ⟨hA8, hA9, hA10, hA11, hA12⟩, hA13⟩, -⟩ := id hZA.1
                    have hAy : pA y = some ng := hA7
                    have hAg : pA ng = tup c2 := hA2
                    have hAn : lA ng = some y := hA1.1
                    refine lv_aload_n hx hb dJ28_fixAfterInsertion_118 rfl (lv_at hl 0 rfl) ?_
                    refine kx_cq0 (va_runS (As := [.ref np]) (rest := []) ⟨hx, hb, hml, hown, hts⟩ (m_J28_parentOf l D H_477 M kf vf lA rA pA cg np ho_486 (by first | assumption | omega)) (va_cwS 1 hts (lw_S q883 q884 q117 q885) rfl rfl rfl (by decide +kernel) ⟨Nat.le_of_ble_eq_true rfl, Nat.le_of_ble_eq_true rfl⟩) (kx_ps hK hS_475 hB) rfl rfl hl.1 rfl (lv_room (Nat.le_of_ble_eq_true rfl)) dJ28_fixAfterInsertion_119 ⟨by first | exact Nat.le_of_ble_eq_true rfl | omega | (show _ ≤ _; omega) | (dsimp only [headSpec]; omega), by first | exact Nat.le_of_ble_eq_true rfl | omega | (show _ ≤ _; omega) | (dsimp only [headSpec]; omega)⟩) hS_475 (fun z_490 locs_487 hz_489 hS_488 => ?_)
                    subst z_490
                    refine kx_eqq hx hb (b := y) (hA10) ?_
                    refine kx_iconst hx hb dJ28_fixAfterInsertion_122 ?_
                    refine kx_cv (va_runS (As := [.ref y, .int (kI (1))]) (rest := []) ⟨hx, hb, hml, hown, hts⟩ (m_J28_setColor l D H_477 M kf vf lA rA pA cg y true ho_486 (by first | assumption | omega)) (va_cwS 2 hts (lw_S q895 q896 q117 q897) rfl rfl rfl (by decide +kernel) ⟨Nat.le_of_ble_eq_true rfl, Nat.le_of_ble_eq_true rfl⟩) (kx_ps hK hS_488 hB) rfl rfl hl.1 rfl (lv_room (Nat.le_of_ble_eq_true rfl)) dJ28_fixAfterInsertion_123 ⟨by first | exact Nat.le_of_ble_eq_true rfl | omega | (show _ ≤ _; omega) | (dsimp only [headSpec]; omega), by first | exact Nat.le_of_ble_eq_true rfl | omega | (show _ ≤ _; omega) | (dsimp only [headSpec]; omega)⟩) hS_488 (fun q _ h => Or.inr (by rw [show q = _ from h]; assumption)) (fun q h => Or.inr (by rw [show q = _ from h]; assumption)) (fun H_494 locs_491 hz_493 hF_495 hS_492 => ?_)
                    have hzf_497 := hF_495.1
                    refine W.widen (k := 0) (n := 0) (Nat.le_of_ble_eq_true rfl) (Nat.le_of_ble_eq_true rfl) ?_
                    have ho_498 := hz_493
                    refine lv_aload_n hx hb dJ28_fixAfterInsertion_126 rfl (lv_at hl 0 rfl) ?_
                    refine kx_cq0 (va_runS (As := [.ref np]) (rest := []) ⟨hx, hb, hml, hown, hts⟩ (m_J28_parentOf l D H_494 M kf vf lA rA pA (kup cg y true) np ho_498 (by first | assumption | omega)) (va_cwS 1 hts (lw_S q883 q884 q117 q885) rfl rfl rfl (by decide +kernel) ⟨Nat.le_of_ble_eq_true rfl, Nat.le_of_ble_eq_true rfl⟩) (kx_ps hK hS_492 hB) rfl rfl hl.1 rfl (lv_room (Nat.le_of_ble_eq_true rfl)) dJ28_fixAfterInsertion_127 ⟨by first | exact Nat.le_of_ble_eq_true rfl | omega | (show _ ≤ _; omega) | (dsimp only [headSpec]; omega), by first | exact Nat.le_of_ble_eq_true rfl | omega | (show _ ≤ _; omega) | (dsimp only [headSpec]; omega)⟩) hS_492 (fun z_502 locs_499 hz_501 hS_500 => ?_)
                    subst z_502
                    refine kx_eqq hx hb (b := y) (hA10) ?_
                    refine kx_cq0 (va_runS (As := [.ref y]) (rest := []) ⟨hx, hb, hml, hown, hts⟩ (m_J28_parentOf l D H_494 M kf vf lA rA pA (kup cg y true) y ho_498 (by first | assumption | omega)) (va_cwS 1 hts (lw_S q883 q884 q117 q885) rfl rfl rfl (by decide +kernel) ⟨Nat.le_of_ble_eq_true rfl, Nat.le_of_ble_eq_true rfl⟩) (kx_ps hK hS_500 hB) rfl rfl hl.1 rfl (lv_room (Nat.le_of_ble_eq_true rfl)) dJ28_fixAfterInsertion_130 ⟨by first | exact Nat.le_of_ble_eq_true rfl | omega | (show _ ≤ _; omega) | (dsimp only [headSpec]; omega), by first | exact Nat.le_of_ble_eq_true rfl | omega | (show _ ≤ _; omega) | (dsimp only [headSpec]; omega)⟩) hS_500 (fun z_506 locs_503 hz_505 hS_504 => ?_)
                    subst z_506
                    refine kx_eqq hx hb (b := ng) (hAy) ?_
                    refine kx_iconst hx hb dJ28_fixAfterInsertion_133 ?_
                    refine kx_cv (va_runS (As := [.ref ng, .int (kI (0))]) (rest := []) ⟨hx, hb, hml, hown, hts⟩ (m_J28_setColor l D H_494 M kf vf lA rA pA (kup cg y true) ng false ho_498 (by first | assumption | omega)) (va_cwS 2 hts (lw_S q895 q896 q117 q897) rfl rfl rfl (by decide +kernel) ⟨Nat.le_of_ble_eq_true rfl, Nat.le_of_ble_eq_true rfl⟩) (kx_ps hK hS_504 hB) rfl rfl hl.1 rfl (lv_room (Nat.le_of_ble_eq_true rfl)) dJ28_fixAfterInsertion_134 ⟨by first | exact Nat.le_of_ble_eq_true rfl | omega | (show _ ≤ _; omega) | (dsimp only [headSpec]; omega), by first | exact Nat.le_of_ble_eq_true rfl | omega | (show _ ≤ _; omega) | (dsimp only [headSpec]; omega)⟩) hS_504 (fun q _ h => Or.inr (by rw [show q = _ from h]; assumption)) (fun q h => Or.inr (by rw [show q = _ from h]; assumption)) (fun H_510 locs_507 hz_509 hF_511 hS_508 => ?_)
                    have hzf_513 := hF_511.1
                    refine W.widen (k := 0) (n := 0) (Nat.le_of_ble_eq_true rfl) (Nat.le_of_ble_eq_true rfl) ?_
                    have ho_514 := hz_509
                    refine lv_aload_n hx hb dJ28_fixAfterInsertion_137 rfl (lv_at hl 2 rfl) ?_
                    refine lv_aload_n hx hb dJ28_fixAfterInsertion_138 rfl (lv_at hl 0 rfl) ?_
                    refine kx_cq0 (va_runS (As := [.ref np]) (rest := [.ref mp]) ⟨hx, hb, hml, hown, hts⟩ (m_J28_parentOf l D H_510 M kf vf lA rA pA ((kup (kup cg y true) ng false)) np ho_514 (by first | assumption | omega)) (va_cwS 1 hts (lw_S q883 q884 q117 q885) rfl rfl rfl (by decide +kernel) ⟨Nat.le_of_ble_eq_true rfl, Nat.le_of_ble_eq_true rfl⟩) (kx_ps hK hS_508 hB) rfl rfl hl.1 rfl (lv_room (Nat.le_of_ble_eq_true rfl)) dJ28_fixAfterInsertion_139 ⟨by first | exact Nat.le_of_ble_eq_true rfl | omega | (show _ ≤ _; omega) | (dsimp only [headSpec]; omega), by first | exact Nat.le_of_ble_eq_true rfl | omega | (show _ ≤ _; omega) | (dsimp only [headSpec]; omega)⟩) hS_508 (fun z_518 locs_515 hz_517 hS_516 => ?_)
                    subst z_518
                    refine kx_eqq hx hb (b := y) (hA10) ?_
                    refine kx_cq0 (va_runS (As := [.ref y]) (rest := [.ref mp]) ⟨hx, hb, hml, hown, hts⟩ (m_J28_parentOf l D H_510 M kf vf lA rA pA ((kup (kup cg y true) ng false)) y ho_514 (by first | assumption | omega)) (va_cwS 1 hts (lw_S q883 q884 q117 q885) rfl rfl rfl (by decide +kernel) ⟨Nat.le_of_ble_eq_true rfl, Nat.le_of_ble_eq_true rfl⟩) (kx_ps hK hS_516 hB) rfl rfl hl.1 rfl (lv_room (Nat.le_of_ble_eq_true rfl)) dJ28_fixAfterInsertion_142 ⟨by first | exact Nat.le_of_ble_eq_true rfl | omega | (show _ ≤ _; omega) | (dsimp only [headSpec]; omega), by first | exact Nat.le_of_ble_eq_true rfl | omega | (show _ ≤ _; omega) | (dsimp only [headSpec]; omega)⟩) hS_516 (fun z_522 locs_519 hz_521 hS_520 => ?_)
                    subst z_522
                    refine kx_eqq hx hb (b := ng) (hAy) ?_
                    have h_523 := ho_485.fr hF_495 (fun h => hmpM (by rw [show mp = _ from h]; assumption))
                    have h_524 := h_523.fr hF_511 (fun h => hmpM (by rw [show mp = _ from h]; assumption))
                    refine kx_cv (va_runV (As := [.ref ng]) (rest := []) ⟨hx, hb, hml, hown, hts⟩ (m_J28_rotateRight l D H_510 mp roA sz mc ks M kf vf lA rA pA ((kup (kup cg y true) ng false)) ng y h_524 ho_514 ngM hyM ((Ne.symm d3)) hAn ((fun q h => by have h9 : tA tr = some q := (hA6.symm.trans h); exact (d6 q (Or.inr (Or.inl (tA_mem h9)))).1)) ((fun q h => d7 q (hAg.symm.trans h))) ((fun q h => by have h9 : tA tr = some q := (hA6.symm.trans h); exact (d6 q (Or.inr (Or.inl (tA_mem h9)))).2.2)) bs_mp hmpM) (cwV 1 hts (lw_V q902 q904 qs13 q117 q905) rfl rfl rfl (by decide +kernel) ⟨Nat.le_of_ble_eq_true rfl, Nat.le_of_ble_eq_true rfl⟩) (kx_pv hK hS_520 hB (kx_rc hK h_524 (C := RJ28) (T := TJ28) (N := 9) rfl)) rfl rfl hl.1 rfl (lv_room (Nat.le_of_ble_eq_true rfl)) dJ28_fixAfterInsertion_145 ⟨by first | exact Nat.le_of_ble_eq_true rfl | omega | (show _ ≤ _; omega) | (dsimp only [headSpec]; omega), by first | exact Nat.le_of_ble_eq_true rfl | omega | (show _ ≤ _; omega) | (dsimp only [headSpec]; omega)⟩) hS_520 (fun q _ h => h) (fun q h => h) (fun H_528 locs_525 hz_527 hF_529 hS_526 => ?_)
                    have hzf_531 := hF_529.1
                    refine W.widen (k := 0) (n := 0) (Nat.le_of_ble_eq_true rfl) (Nat.le_of_ble_eq_true rfl) ?_
                    obtain ⟨lB, rB, pB, roB, ho_536, ho_537, hRB⟩ := hz_527
                    have hZB := ZI.rotR hZA.1.up hRB
                    refine lv_goto (tgt := 5) hx hb dJ28_fixAfterInsertion_148 (by decide) ?_
                    exact ih_5  np (((true, y, (TN ng tr (.inner su ny uu ul ur : TT))) :: c2)) sp tl lB rB pB ((((kup (kup cg y true) ng false)))) roB H_528 ho_536 ho_537 (ZI.dnL hZB.1) (hZB.2.trans (hZA.2.trans hio)) (fun _ => ZI.blk hZ.up.up (by simp [tio]) (by simp [tio]) hZB.1 d3 (hbl (by simp))) _ hS_526 (by (try simp only [List.length_cons] at hm_5); (try simp only [List.length_cons]); omega) ls (lv_sub hl [2, 0] rfl)
                  · -- child left
                    have hpn : lg np = some y := hb1.1
                    have hpo : rg np = tA sp := hb1.2
                    refine lv_aload_n hx hb dJ28_fixAfterInsertion_97 rfl (lv_at hl 2 rfl) ?_
                    refine lv_aload_n hx hb dJ28_fixAfterInsertion_98 rfl (lv_at hl 2 rfl) ?_
                    refine kx_cq0 (va_runS (As := [.ref y]) (rest := [.ref y]) ⟨hx, hb, hml, hown, hts⟩ (m_J28_parentOf l D H M kf vf lg rg pg cg y hP_kTN_M (by first | assumption | omega)) (va_cwS 1 hts (lw_S q883 q884 q117 q885) rfl rfl rfl (by decide +kernel) ⟨Nat.le_of_ble_eq_true rfl, Nat.le_of_ble_eq_true rfl⟩) (kx_ps hK hS_457 hB) rfl rfl hl.1 rfl (lv_room (Nat.le_of_ble_eq_true rfl)) dJ28_fixAfterInsertion_99 ⟨by first | exact Nat.le_of_ble_eq_true rfl | omega | (show _ ≤ _; omega) | (dsimp only [headSpec]; omega), by first | exact Nat.le_of_ble_eq_true rfl | omega | (show _ ≤ _; omega) | (dsimp only [headSpec]; omega)⟩) hS_457 (fun z_541 locs_538 hz_540 hS_539 => ?_)
                    subst z_541
                    refine kx_eqq hx hb (b := np) (hpy) ?_
                    refine kx_cq0 (va_runS (As := [.ref np]) (rest := [.ref y]) ⟨hx, hb, hml, hown, hts⟩ (m_J28_rightOf l D H M kf vf lg rg pg cg np hP_kTN_M (by first | assumption | omega)) (va_cwS 1 hts (lw_S q889 q890 q117 q891) rfl rfl rfl (by decide +kernel) ⟨Nat.le_of_ble_eq_true rfl, Nat.le_of_ble_eq_true rfl⟩) (kx_ps hK hS_539 hB) rfl rfl hl.1 rfl (lv_room (Nat.le_of_ble_eq_true rfl)) dJ28_fixAfterInsertion_102 ⟨by first | exact Nat.le_of_ble_eq_true rfl | omega | (show _ ≤ _; omega) | (dsimp only [headSpec]; omega), by first | exact Nat.le_of_ble_eq_true rfl | omega | (show _ ≤ _; omega) | (dsimp only [headSpec]; omega)⟩) hS_539 (fun z_545 locs_542 hz_544 hS_543 => ?_)
                    subst z_545
                    refine lv_acmp_ne (rx := some y) (ry := rg np) (tgt := 118) hx hb dJ28_fixAfterInsertion_105 (by decide) (fun ca_546 => ?_) (fun ca_546 => absurd ca_546 (by exact fun z => d4 (tA_mem (hpo.symm.trans z.symm))))
                    refine lv_aload_n hx hb dJ28_fixAfterInsertion_118 rfl (lv_at hl 2 rfl) ?_
                    refine kx_cq0 (va_runS (As := [.ref y]) (rest := []) ⟨hx, hb, hml, hown, hts⟩ (m_J28_parentOf l D H M kf vf lg rg pg cg y hP_kTN_M (by first | assumption | omega)) (va_cwS 1 hts (lw_S q883 q884 q117 q885) rfl rfl rfl (by decide +kernel) ⟨Nat.le_of_ble_eq_true rfl, Nat.le_of_ble_eq_true rfl⟩) (kx_ps hK hS_543 hB) rfl rfl hl.1 rfl (lv_room (Nat.le_of_ble_eq_true rfl)) dJ28_fixAfterInsertion_119 ⟨by first | exact Nat.le_of_ble_eq_true rfl | omega | (show _ ≤ _; omega) | (dsimp only [headSpec]; omega), by first | exact Nat.le_of_ble_eq_true rfl | omega | (show _ ≤ _; omega) | (dsimp only [headSpec]; omega)⟩) hS_543 (fun z_550 locs_547 hz_549 hS_548 => ?_)
                    subst z_550
                    refine kx_eqq hx hb (b := np) (hpy) ?_
                    refine kx_iconst hx hb dJ28_fixAfterInsertion_122 ?_
                    refine kx_cv (va_runS (As := [.ref np, .int (kI (1))]) (rest := []) ⟨hx, hb, hml, hown, hts⟩ (m_J28_setColor l D H M kf vf lg rg pg cg np true hP_kTN_M (by first | assumption | omega)) (va_cwS 2 hts (lw_S q895 q896 q117 q897) rfl rfl rfl (by decide +kernel) ⟨Nat.le_of_ble_eq_true rfl, Nat.le_of_ble_eq_true rfl⟩) (kx_ps hK hS_548 hB) rfl rfl hl.1 rfl (lv_room (Nat.le_of_ble_eq_true rfl)) dJ28_fixAfterInsertion_123 ⟨by first | exact Nat.le_of_ble_eq_true rfl | omega | (show _ ≤ _; omega) | (dsimp only [headSpec]; omega), by first | exact Nat.le_of_ble_eq_true rfl | omega | (show _ ≤ _; omega) | (dsimp only [headSpec]; omega)⟩) hS_548 (fun q _ h => Or.inr (by rw [show q = _ from h]; assumption)) (fun q h => Or.inr (by rw [show q = _ from h]; assumption)) (fun H_554 locs_551 hz_553 hF_555 hS_552 => ?_)
                    have hzf_557 := hF_555.1
                    refine W.widen (k := 0) (n := 0) (Nat.le_of_ble_eq_true rfl) (Nat.le_of_ble_eq_true rfl) ?_
                    have ho_558 := hz_553
                    refine lv_aload_n hx hb dJ28_fixAfterInsertion_126 rfl (lv_at hl 2 rfl) ?_
                    refine kx_cq0 (va_runS (As := [.ref y]) (rest := []) ⟨hx, hb, hml, hown, hts⟩ (m_J28_parentOf l D H_554 M kf vf lg rg pg (kup cg np true) y ho_558 (by first | assumption | omega)) (va_cwS 1 hts (lw_S q883 q884 q117 q885) rfl rfl rfl (by decide +kernel) ⟨Nat.le_of_ble_eq_true rfl, Nat.le_of_ble_eq_true rfl⟩) (kx_ps hK hS_552 hB) rfl rfl hl.1 rfl (lv_room (Nat.le_of_ble_eq_true rfl)) dJ28_fixAfterInsertion_127 ⟨by first | exact Nat.le_of_ble_eq_true rfl | omega | (show _ ≤ _; omega) | (dsimp only [headSpec]; omega), by first | exact Nat.le_of_ble_eq_true rfl | omega | (show _ ≤ _; omega) | (dsimp only [headSpec]; omega)⟩) hS_552 (fun z_562 locs_559 hz_561 hS_560 => ?_)
                    subst z_562
                    refine kx_eqq hx hb (b := np) (hpy) ?_
                    refine kx_cq0 (va_runS (As := [.ref np]) (rest := []) ⟨hx, hb, hml, hown, hts⟩ (m_J28_parentOf l D H_554 M kf vf lg rg pg (kup cg np true) np ho_558 (by first | assumption | omega)) (va_cwS 1 hts (lw_S q883 q884 q117 q885) rfl rfl rfl (by decide +kernel) ⟨Nat.le_of_ble_eq_true rfl, Nat.le_of_ble_eq_true rfl⟩) (kx_ps hK hS_560 hB) rfl rfl hl.1 rfl (lv_room (Nat.le_of_ble_eq_true rfl)) dJ28_fixAfterInsertion_130 ⟨by first | exact Nat.le_of_ble_eq_true rfl | omega | (show _ ≤ _; omega) | (dsimp only [headSpec]; omega), by first | exact Nat.le_of_ble_eq_true rfl | omega | (show _ ≤ _; omega) | (dsimp only [headSpec]; omega)⟩) hS_560 (fun z_566 locs_563 hz_565 hS_564 => ?_)
                    subst z_566
                    refine kx_eqq hx hb (b := ng) (hp1) ?_
                    refine kx_iconst hx hb dJ28_fixAfterInsertion_133 ?_
                    refine kx_cv (va_runS (As := [.ref ng, .int (kI (0))]) (rest := []) ⟨hx, hb, hml, hown, hts⟩ (m_J28_setColor l D H_554 M kf vf lg rg pg (kup cg np true) ng false ho_558 (by first | assumption | omega)) (va_cwS 2 hts (lw_S q895 q896 q117 q897) rfl rfl rfl (by decide +kernel) ⟨Nat.le_of_ble_eq_true rfl, Nat.le_of_ble_eq_true rfl⟩) (kx_ps hK hS_564 hB) rfl rfl hl.1 rfl (lv_room (Nat.le_of_ble_eq_true rfl)) dJ28_fixAfterInsertion_134 ⟨by first | exact Nat.le_of_ble_eq_true rfl | omega | (show _ ≤ _; omega) | (dsimp only [headSpec]; omega), by first | exact Nat.le_of_ble_eq_true rfl | omega | (show _ ≤ _; omega) | (dsimp only [headSpec]; omega)⟩) hS_564 (fun q _ h => Or.inr (by rw [show q = _ from h]; assumption)) (fun q h => Or.inr (by rw [show q = _ from h]; assumption)) (fun H_570 locs_567 hz_569 hF_571 hS_568 => ?_)
                    have hzf_573 := hF_571.1
                    refine W.widen (k := 0) (n := 0) (Nat.le_of_ble_eq_true rfl) (Nat.le_of_ble_eq_true rfl) ?_
                    have ho_574 := hz_569
                    refine lv_aload_n hx hb dJ28_fixAfterInsertion_137 rfl (lv_at hl 1 rfl) ?_
                    refine lv_aload_n hx hb dJ28_fixAfterInsertion_138 rfl (lv_at hl 2 rfl) ?_
                    refine kx_cq0 (va_runS (As := [.ref y]) (rest := [.ref mp]) ⟨hx, hb, hml, hown, hts⟩ (m_J28_parentOf l D H_570 M kf vf lg rg pg ((kup (kup cg np true) ng false)) y ho_574 (by first | assumption | omega)) (va_cwS 1 hts (lw_S q883 q884 q117 q885) rfl rfl rfl (by decide +kernel) ⟨Nat.le_of_ble_eq_true rfl, Nat.le_of_ble_eq_true rfl⟩) (kx_ps hK hS_568 hB) rfl rfl hl.1 rfl (lv_room (Nat.le_of_ble_eq_true rfl)) dJ28_fixAfterInsertion_139 ⟨by first | exact Nat.le_of_ble_eq_true rfl | omega | (show _ ≤ _; omega) | (dsimp only [headSpec]; omega), by first | exact Nat.le_of_ble_eq_true rfl | omega | (show _ ≤ _; omega) | (dsimp only [headSpec]; omega)⟩) hS_568 (fun z_578 locs_575 hz_577 hS_576 => ?_)
                    subst z_578
                    refine kx_eqq hx hb (b := np) (hpy) ?_
                    refine kx_cq0 (va_runS (As := [.ref np]) (rest := [.ref mp]) ⟨hx, hb, hml, hown, hts⟩ (m_J28_parentOf l D H_570 M kf vf lg rg pg ((kup (kup cg np true) ng false)) np ho_574 (by first | assumption | omega)) (va_cwS 1 hts (lw_S q883 q884 q117 q885) rfl rfl rfl (by decide +kernel) ⟨Nat.le_of_ble_eq_true rfl, Nat.le_of_ble_eq_true rfl⟩) (kx_ps hK hS_576 hB) rfl rfl hl.1 rfl (lv_room (Nat.le_of_ble_eq_true rfl)) dJ28_fixAfterInsertion_142 ⟨by first | exact Nat.le_of_ble_eq_true rfl | omega | (show _ ≤ _; omega) | (dsimp only [headSpec]; omega), by first | exact Nat.le_of_ble_eq_true rfl | omega | (show _ ≤ _; omega) | (dsimp only [headSpec]; omega)⟩) hS_576 (fun z_582 locs_579 hz_581 hS_580 => ?_)
                    subst z_582
                    refine kx_eqq hx hb (b := ng) (hp1) ?_
                    have h_583 := hO_mp.fr hF_555 (fun h => hmpM (by rw [show mp = _ from h]; assumption))
                    have h_584 := h_583.fr hF_571 (fun h => hmpM (by rw [show mp = _ from h]; assumption))
                    refine kx_cv (va_runV (As := [.ref ng]) (rest := []) ⟨hx, hb, hml, hown, hts⟩ (m_J28_rotateRight l D H_570 mp rr sz mc ks M kf vf lg rg pg ((kup (kup cg np true) ng false)) ng np h_584 ho_574 ngM npM ((Ne.symm d2)) hgn ((fun q h => by have h9 : tA sp = some q := (hpo.symm.trans h); exact (d6 q (Or.inr (Or.inr (tA_mem h9)))).1)) ((fun q h => d7 q (hg2.symm.trans h))) ((fun q h => by have h9 : tA sp = some q := (hpo.symm.trans h); exact (d6 q (Or.inr (Or.inr (tA_mem h9)))).2.2)) bs_mp hmpM) (cwV 1 hts (lw_V q902 q904 qs13 q117 q905) rfl rfl rfl (by decide +kernel) ⟨Nat.le_of_ble_eq_true rfl, Nat.le_of_ble_eq_true rfl⟩) (kx_pv hK hS_580 hB (kx_rc hK h_584 (C := RJ28) (T := TJ28) (N := 9) rfl)) rfl rfl hl.1 rfl (lv_room (Nat.le_of_ble_eq_true rfl)) dJ28_fixAfterInsertion_145 ⟨by first | exact Nat.le_of_ble_eq_true rfl | omega | (show _ ≤ _; omega) | (dsimp only [headSpec]; omega), by first | exact Nat.le_of_ble_eq_true rfl | omega | (show _ ≤ _; omega) | (dsimp only [headSpec]; omega)⟩) hS_580 (fun q _ h => h) (fun q h => h) (fun H_588 locs_585 hz_587 hF_589 hS_586 => ?_)
                    have hzf_591 := hF_589.1
                    refine W.widen (k := 0) (n := 0) (Nat.le_of_ble_eq_true rfl) (Nat.le_of_ble_eq_true rfl) ?_
                    obtain ⟨lB, rB, pB, roB, ho_596, ho_597, hRB⟩ := hz_587
                    have hZB := ZI.rotR hZ.up.up hRB
                    refine lv_goto (tgt := 5) hx hb dJ28_fixAfterInsertion_148 (by decide) ?_
                    exact ih_5  y (((true, np, (TN ng sp (.inner su ny uu ul ur : TT))) :: c2)) tl tr lB rB pB ((((kup (kup cg np true) ng false)))) roB H_588 ho_596 ho_597 (ZI.dnL hZB.1) (hZB.2.trans hio) (fun _ => ZI.blk hZ.up.up (by simp [tio]) (by simp [tio]) hZB.1 d2 (hbl (by simp))) _ hS_586 (by (try simp only [List.length_cons] at hm_5); (try simp only [List.length_cons]); omega) ls (lv_sub hl [1, 2] rfl)
                · -- not taken at 59
                  refine lv_aload_n hx hb dJ28_fixAfterInsertion_62 rfl (lv_at hl 2 rfl) ?_
                  refine kx_cq0 (va_runS (As := [.ref y]) (rest := []) ⟨hx, hb, hml, hown, hts⟩ (m_J28_parentOf l D H M kf vf lg rg pg cg y hP_kTN_M (by first | assumption | omega)) (va_cwS 1 hts (lw_S q883 q884 q117 q885) rfl rfl rfl (by decide +kernel) ⟨Nat.le_of_ble_eq_true rfl, Nat.le_of_ble_eq_true rfl⟩) (kx_ps hK hS_457 hB) rfl rfl hl.1 rfl (lv_room (Nat.le_of_ble_eq_true rfl)) dJ28_fixAfterInsertion_63 ⟨by first | exact Nat.le_of_ble_eq_true rfl | omega | (show _ ≤ _; omega) | (dsimp only [headSpec]; omega), by first | exact Nat.le_of_ble_eq_true rfl | omega | (show _ ≤ _; omega) | (dsimp only [headSpec]; omega)⟩) hS_457 (fun z_601 locs_598 hz_600 hS_599 => ?_)
                  subst z_601
                  refine kx_eqq hx hb (b := np) (hpy) ?_
                  refine kx_iconst hx hb dJ28_fixAfterInsertion_66 ?_
                  refine kx_cv (va_runS (As := [.ref np, .int (kI (1))]) (rest := []) ⟨hx, hb, hml, hown, hts⟩ (m_J28_setColor l D H M kf vf lg rg pg cg np true hP_kTN_M (by first | assumption | omega)) (va_cwS 2 hts (lw_S q895 q896 q117 q897) rfl rfl rfl (by decide +kernel) ⟨Nat.le_of_ble_eq_true rfl, Nat.le_of_ble_eq_true rfl⟩) (kx_ps hK hS_599 hB) rfl rfl hl.1 rfl (lv_room (Nat.le_of_ble_eq_true rfl)) dJ28_fixAfterInsertion_67 ⟨by first | exact Nat.le_of_ble_eq_true rfl | omega | (show _ ≤ _; omega) | (dsimp only [headSpec]; omega), by first | exact Nat.le_of_ble_eq_true rfl | omega | (show _ ≤ _; omega) | (dsimp only [headSpec]; omega)⟩) hS_599 (fun q _ h => Or.inr (by rw [show q = _ from h]; assumption)) (fun q h => Or.inr (by rw [show q = _ from h]; assumption)) (fun H_605 locs_602 hz_604 hF_606 hS_603 => ?_)
                  have hzf_608 := hF_606.1
                  refine W.widen (k := 0) (n := 0) (Nat.le_of_ble_eq_true rfl) (Nat.le_of_ble_eq_true rfl) ?_
                  have ho_609 := hz_604
                  refine lv_aload_n hx hb dJ28_fixAfterInsertion_70 rfl (lv_at hl 0 rfl) ?_
                  refine kx_iconst hx hb dJ28_fixAfterInsertion_71 ?_
                  refine kx_cv (va_runS (As := [.ref ny, .int (kI (1))]) (rest := []) ⟨hx, hb, hml, hown, hts⟩ (m_J28_setColor l D H_605 M kf vf lg rg pg (kup cg np true) ny true ho_609 (by first | assumption | omega)) (va_cwS 2 hts (lw_S q895 q896 q117 q897) rfl rfl rfl (by decide +kernel) ⟨Nat.le_of_ble_eq_true rfl, Nat.le_of_ble_eq_true rfl⟩) (kx_ps hK hS_603 hB) rfl rfl hl.1 rfl (lv_room (Nat.le_of_ble_eq_true rfl)) dJ28_fixAfterInsertion_72 ⟨by first | exact Nat.le_of_ble_eq_true rfl | omega | (show _ ≤ _; omega) | (dsimp only [headSpec]; omega), by first | exact Nat.le_of_ble_eq_true rfl | omega | (show _ ≤ _; omega) | (dsimp only [headSpec]; omega)⟩) hS_603 (fun q _ h => Or.inr (by rw [show q = _ from h]; assumption)) (fun q h => Or.inr (by rw [show q = _ from h]; assumption)) (fun H_613 locs_610 hz_612 hF_614 hS_611 => ?_)
                  have hzf_616 := hF_614.1
                  refine W.widen (k := 0) (n := 0) (Nat.le_of_ble_eq_true rfl) (Nat.le_of_ble_eq_true rfl) ?_
                  have ho_617 := hz_612
                  refine lv_aload_n hx hb dJ28_fixAfterInsertion_75 rfl (lv_at hl 2 rfl) ?_
                  refine kx_cq0 (va_runS (As := [.ref y]) (rest := []) ⟨hx, hb, hml, hown, hts⟩ (m_J28_parentOf l D H_613 M kf vf lg rg pg ((kup (kup cg np true) ny true)) y ho_617 (by first | assumption | omega)) (va_cwS 1 hts (lw_S q883 q884 q117 q885) rfl rfl rfl (by decide +kernel) ⟨Nat.le_of_ble_eq_true rfl, Nat.le_of_ble_eq_true rfl⟩) (kx_ps hK hS_611 hB) rfl rfl hl.1 rfl (lv_room (Nat.le_of_ble_eq_true rfl)) dJ28_fixAfterInsertion_76 ⟨by first | exact Nat.le_of_ble_eq_true rfl | omega | (show _ ≤ _; omega) | (dsimp only [headSpec]; omega), by first | exact Nat.le_of_ble_eq_true rfl | omega | (show _ ≤ _; omega) | (dsimp only [headSpec]; omega)⟩) hS_611 (fun z_621 locs_618 hz_620 hS_619 => ?_)
                  subst z_621
                  refine kx_eqq hx hb (b := np) (hpy) ?_
                  refine kx_cq0 (va_runS (As := [.ref np]) (rest := []) ⟨hx, hb, hml, hown, hts⟩ (m_J28_parentOf l D H_613 M kf vf lg rg pg ((kup (kup cg np true) ny true)) np ho_617 (by first | assumption | omega)) (va_cwS 1 hts (lw_S q883 q884 q117 q885) rfl rfl rfl (by decide +kernel) ⟨Nat.le_of_ble_eq_true rfl, Nat.le_of_ble_eq_true rfl⟩) (kx_ps hK hS_619 hB) rfl rfl hl.1 rfl (lv_room (Nat.le_of_ble_eq_true rfl)) dJ28_fixAfterInsertion_79 ⟨by first | exact Nat.le_of_ble_eq_true rfl | omega | (show _ ≤ _; omega) | (dsimp only [headSpec]; omega), by first | exact Nat.le_of_ble_eq_true rfl | omega | (show _ ≤ _; omega) | (dsimp only [headSpec]; omega)⟩) hS_619 (fun z_625 locs_622 hz_624 hS_623 => ?_)
                  subst z_625
                  refine kx_eqq hx hb (b := ng) (hp1) ?_
                  refine kx_iconst hx hb dJ28_fixAfterInsertion_82 ?_
                  refine kx_cv (va_runS (As := [.ref ng, .int (kI (0))]) (rest := []) ⟨hx, hb, hml, hown, hts⟩ (m_J28_setColor l D H_613 M kf vf lg rg pg ((kup (kup cg np true) ny true)) ng false ho_617 (by first | assumption | omega)) (va_cwS 2 hts (lw_S q895 q896 q117 q897) rfl rfl rfl (by decide +kernel) ⟨Nat.le_of_ble_eq_true rfl, Nat.le_of_ble_eq_true rfl⟩) (kx_ps hK hS_623 hB) rfl rfl hl.1 rfl (lv_room (Nat.le_of_ble_eq_true rfl)) dJ28_fixAfterInsertion_83 ⟨by first | exact Nat.le_of_ble_eq_true rfl | omega | (show _ ≤ _; omega) | (dsimp only [headSpec]; omega), by first | exact Nat.le_of_ble_eq_true rfl | omega | (show _ ≤ _; omega) | (dsimp only [headSpec]; omega)⟩) hS_623 (fun q _ h => Or.inr (by rw [show q = _ from h]; assumption)) (fun q h => Or.inr (by rw [show q = _ from h]; assumption)) (fun H_629 locs_626 hz_628 hF_630 hS_627 => ?_)
                  have hzf_632 := hF_630.1
                  refine W.widen (k := 0) (n := 0) (Nat.le_of_ble_eq_true rfl) (Nat.le_of_ble_eq_true rfl) ?_
                  have ho_633 := hz_628
                  refine lv_aload_n hx hb dJ28_fixAfterInsertion_86 rfl (lv_at hl 2 rfl) ?_
                  refine kx_cq0 (va_runS (As := [.ref y]) (rest := []) ⟨hx, hb, hml, hown, hts⟩ (m_J28_parentOf l D H_629 M kf vf lg rg pg ((kup (((kup (kup cg np true) ny true))) ng false)) y ho_633 (by first | assumption | omega)) (va_cwS 1 hts (lw_S q883 q884 q117 q885) rfl rfl rfl (by decide +kernel) ⟨Nat.le_of_ble_eq_true rfl, Nat.le_of_ble_eq_true rfl⟩) (kx_ps hK hS_627 hB) rfl rfl hl.1 rfl (lv_room (Nat.le_of_ble_eq_true rfl)) dJ28_fixAfterInsertion_87 ⟨by first | exact Nat.le_of_ble_eq_true rfl | omega | (show _ ≤ _; omega) | (dsimp only [headSpec]; omega), by first | exact Nat.le_of_ble_eq_true rfl | omega | (show _ ≤ _; omega) | (dsimp only [headSpec]; omega)⟩) hS_627 (fun z_637 locs_634 hz_636 hS_635 => ?_)
                  subst z_637
                  refine kx_eqq hx hb (b := np) (hpy) ?_
                  refine kx_cq0 (va_runS (As := [.ref np]) (rest := []) ⟨hx, hb, hml, hown, hts⟩ (m_J28_parentOf l D H_629 M kf vf lg rg pg ((kup (((kup (kup cg np true) ny true))) ng false)) np ho_633 (by first | assumption | omega)) (va_cwS 1 hts (lw_S q883 q884 q117 q885) rfl rfl rfl (by decide +kernel) ⟨Nat.le_of_ble_eq_true rfl, Nat.le_of_ble_eq_true rfl⟩) (kx_ps hK hS_635 hB) rfl rfl hl.1 rfl (lv_room (Nat.le_of_ble_eq_true rfl)) dJ28_fixAfterInsertion_90 ⟨by first | exact Nat.le_of_ble_eq_true rfl | omega | (show _ ≤ _; omega) | (dsimp only [headSpec]; omega), by first | exact Nat.le_of_ble_eq_true rfl | omega | (show _ ≤ _; omega) | (dsimp only [headSpec]; omega)⟩) hS_635 (fun z_641 locs_638 hz_640 hS_639 => ?_)
                  subst z_641
                  refine kx_eqq hx hb (b := ng) (hp1) ?_
                  refine lv_astore_n (lv' := [(1, .ref ng), (2, .ref ny), (0, .ref mp)]) hx hb dJ28_fixAfterInsertion_93 rfl hl (by decide) rfl (fun ls hl => ?_)
                  refine lv_goto (tgt := 148) hx hb dJ28_fixAfterInsertion_94 (by decide) ?_
                  refine lv_goto (tgt := 5) hx hb dJ28_fixAfterInsertion_148 (by decide) ?_
                  have h_642 := hO_mp.fr hF_606 (fun h => hmpM (by rw [show mp = _ from h]; assumption))
                  have h_643 := h_642.fr hF_614 (fun h => hmpM (by rw [show mp = _ from h]; assumption))
                  have h_644 := h_643.fr hF_630 (fun h => hmpM (by rw [show mp = _ from h]; assumption))
                  exact ih_5  ng c2 ((if b1 = true then TN np (TN y tl tr) sp else TN np sp (TN y tl tr))) ((.inner su ny uu ul ur : TT)) lg rg pg ((kup (((kup (kup cg np true) ny true))) ng false)) rr H_629 h_644 ho_633 (hZ.up.up) (hio) (by intro hne a ha; have h0 := hbl (by simp) a ha; have h1 := (hZ.up.up.root hne ha).2; have h2 : a ≠ ng := fun e => h1 (by rw [e]; simp [tio]); simp [kup, h2, h0]) _ hS_639 (by (try simp only [List.length_cons] at hm_5); (try simp only [List.length_cons]); omega) ls (lv_sub hl [2, 0] rfl)
              · -- uncle l
                have hgo : rg ng = none := hgo
                refine lv_aload_n hx hb dJ28_fixAfterInsertion_27 rfl (lv_at hl 1 rfl) ?_
                refine kx_cq0 (va_runS (As := [.ref y]) (rest := []) ⟨hx, hb, hml, hown, hts⟩ (m_J28_parentOf l D H M kf vf lg rg pg cg y hP_kTN_M (by first | assumption | omega)) (va_cwS 1 hts (lw_S q883 q884 q117 q885) rfl rfl rfl (by decide +kernel) ⟨Nat.le_of_ble_eq_true rfl, Nat.le_of_ble_eq_true rfl⟩) (kx_ps hK hS hB) rfl rfl hl.1 rfl (lv_room (Nat.le_of_ble_eq_true rfl)) dJ28_fixAfterInsertion_28 ⟨by first | exact Nat.le_of_ble_eq_true rfl | omega | (show _ ≤ _; omega) | (dsimp only [headSpec]; omega), by first | exact Nat.le_of_ble_eq_true rfl | omega | (show _ ≤ _; omega) | (dsimp only [headSpec]; omega)⟩) hS (fun z_648 locs_645 hz_647 hS_646 => ?_)
                subst z_648
                refine kx_eqq hx hb (b := np) (hpy) ?_
                refine lv_aload_n hx hb dJ28_fixAfterInsertion_31 rfl (lv_at hl 1 rfl) ?_
                refine kx_cq0 (va_runS (As := [.ref y]) (rest := [.ref np]) ⟨hx, hb, hml, hown, hts⟩ (m_J28_parentOf l D H M kf vf lg rg pg cg y hP_kTN_M (by first | assumption | omega)) (va_cwS 1 hts (lw_S q883 q884 q117 q885) rfl rfl rfl (by decide +kernel) ⟨Nat.le_of_ble_eq_true rfl, Nat.le_of_ble_eq_true rfl⟩) (kx_ps hK hS_646 hB) rfl rfl hl.1 rfl (lv_room (Nat.le_of_ble_eq_true rfl)) dJ28_fixAfterInsertion_32 ⟨by first | exact Nat.le_of_ble_eq_true rfl | omega | (show _ ≤ _; omega) | (dsimp only [headSpec]; omega), by first | exact Nat.le_of_ble_eq_true rfl | omega | (show _ ≤ _; omega) | (dsimp only [headSpec]; omega)⟩) hS_646 (fun z_652 locs_649 hz_651 hS_650 => ?_)
                subst z_652
                refine kx_eqq hx hb (b := np) (hpy) ?_
                refine kx_cq0 (va_runS (As := [.ref np]) (rest := [.ref np]) ⟨hx, hb, hml, hown, hts⟩ (m_J28_parentOf l D H M kf vf lg rg pg cg np hP_kTN_M (by first | assumption | omega)) (va_cwS 1 hts (lw_S q883 q884 q117 q885) rfl rfl rfl (by decide +kernel) ⟨Nat.le_of_ble_eq_true rfl, Nat.le_of_ble_eq_true rfl⟩) (kx_ps hK hS_650 hB) rfl rfl hl.1 rfl (lv_room (Nat.le_of_ble_eq_true rfl)) dJ28_fixAfterInsertion_35 ⟨by first | exact Nat.le_of_ble_eq_true rfl | omega | (show _ ≤ _; omega) | (dsimp only [headSpec]; omega), by first | exact Nat.le_of_ble_eq_true rfl | omega | (show _ ≤ _; omega) | (dsimp only [headSpec]; omega)⟩) hS_650 (fun z_656 locs_653 hz_655 hS_654 => ?_)
                subst z_656
                refine kx_eqq hx hb (b := ng) (hp1) ?_
                refine kx_cq0 (va_runS (As := [.ref ng]) (rest := [.ref np]) ⟨hx, hb, hml, hown, hts⟩ (m_J28_leftOf l D H M kf vf lg rg pg cg ng hP_kTN_M (by first | assumption | omega)) (va_cwS 1 hts (lw_S q886 q887 q117 q888) rfl rfl rfl (by decide +kernel) ⟨Nat.le_of_ble_eq_true rfl, Nat.le_of_ble_eq_true rfl⟩) (kx_ps hK hS_654 hB) rfl rfl hl.1 rfl (lv_room (Nat.le_of_ble_eq_true rfl)) dJ28_fixAfterInsertion_38 ⟨by first | exact Nat.le_of_ble_eq_true rfl | omega | (show _ ≤ _; omega) | (dsimp only [headSpec]; omega), by first | exact Nat.le_of_ble_eq_true rfl | omega | (show _ ≤ _; omega) | (dsimp only [headSpec]; omega)⟩) hS_654 (fun z_660 locs_657 hz_659 hS_658 => ?_)
                subst z_660
                refine kx_eqq hx hb (b := np) (hgn) ?_
                refine lv_acmp_ne (rx := some np) (ry := some np) (tgt := 151) hx hb dJ28_fixAfterInsertion_41 (by decide) (fun ca_661 => absurd (by rfl) ca_661) (fun ca_661 => ?_)
                refine lv_aload_n hx hb dJ28_fixAfterInsertion_44 rfl (lv_at hl 1 rfl) ?_
                refine kx_cq0 (va_runS (As := [.ref y]) (rest := []) ⟨hx, hb, hml, hown, hts⟩ (m_J28_parentOf l D H M kf vf lg rg pg cg y hP_kTN_M (by first | assumption | omega)) (va_cwS 1 hts (lw_S q883 q884 q117 q885) rfl rfl rfl (by decide +kernel) ⟨Nat.le_of_ble_eq_true rfl, Nat.le_of_ble_eq_true rfl⟩) (kx_ps hK hS_658 hB) rfl rfl hl.1 rfl (lv_room (Nat.le_of_ble_eq_true rfl)) dJ28_fixAfterInsertion_45 ⟨by first | exact Nat.le_of_ble_eq_true rfl | omega | (show _ ≤ _; omega) | (dsimp only [headSpec]; omega), by first | exact Nat.le_of_ble_eq_true rfl | omega | (show _ ≤ _; omega) | (dsimp only [headSpec]; omega)⟩) hS_658 (fun z_665 locs_662 hz_664 hS_663 => ?_)
                subst z_665
                refine kx_eqq hx hb (b := np) (hpy) ?_
                refine kx_cq0 (va_runS (As := [.ref np]) (rest := []) ⟨hx, hb, hml, hown, hts⟩ (m_J28_parentOf l D H M kf vf lg rg pg cg np hP_kTN_M (by first | assumption | omega)) (va_cwS 1 hts (lw_S q883 q884 q117 q885) rfl rfl rfl (by decide +kernel) ⟨Nat.le_of_ble_eq_true rfl, Nat.le_of_ble_eq_true rfl⟩) (kx_ps hK hS_663 hB) rfl rfl hl.1 rfl (lv_room (Nat.le_of_ble_eq_true rfl)) dJ28_fixAfterInsertion_48 ⟨by first | exact Nat.le_of_ble_eq_true rfl | omega | (show _ ≤ _; omega) | (dsimp only [headSpec]; omega), by first | exact Nat.le_of_ble_eq_true rfl | omega | (show _ ≤ _; omega) | (dsimp only [headSpec]; omega)⟩) hS_663 (fun z_669 locs_666 hz_668 hS_667 => ?_)
                subst z_669
                refine kx_eqq hx hb (b := ng) (hp1) ?_
                refine kx_cq0 (va_runS (As := [.ref ng]) (rest := []) ⟨hx, hb, hml, hown, hts⟩ (m_J28_rightOf l D H M kf vf lg rg pg cg ng hP_kTN_M (by first | assumption | omega)) (va_cwS 1 hts (lw_S q889 q890 q117 q891) rfl rfl rfl (by decide +kernel) ⟨Nat.le_of_ble_eq_true rfl, Nat.le_of_ble_eq_true rfl⟩) (kx_ps hK hS_667 hB) rfl rfl hl.1 rfl (lv_room (Nat.le_of_ble_eq_true rfl)) dJ28_fixAfterInsertion_51 ⟨by first | exact Nat.le_of_ble_eq_true rfl | omega | (show _ ≤ _; omega) | (dsimp only [headSpec]; omega), by first | exact Nat.le_of_ble_eq_true rfl | omega | (show _ ≤ _; omega) | (dsimp only [headSpec]; omega)⟩) hS_667 (fun z_673 locs_670 hz_672 hS_671 => ?_)
                subst z_673
                refine kx_eqqN hx hb (hgo) ?_
                refine lv_astore_nN (lv' := [(2, .null), (0, .ref mp), (1, .ref y)]) hx hb dJ28_fixAfterInsertion_54 rfl hl (by decide) rfl (fun ls hl => ?_)
                refine lv_aload_nN hx hb dJ28_fixAfterInsertion_55 rfl (lv_at hl 0 rfl) ?_
                refine kx_cb0 (va_runS (As := [.null]) (rest := []) ⟨hx, hb, hml, hown, hts⟩ (m_J28_colorOf_n l D H   ) (va_cwS 1 hts (lw_S q892 q893 q117 q894) rfl rfl rfl (by decide +kernel) ⟨Nat.le_of_ble_eq_true rfl, Nat.le_of_ble_eq_true rfl⟩) (kx_ps hK hS_671 hB) rfl rfl hl.1 rfl (lv_room (Nat.le_of_ble_eq_true rfl)) dJ28_fixAfterInsertion_56 ⟨by first | exact Nat.le_of_ble_eq_true rfl | omega | (show _ ≤ _; omega) | (dsimp only [headSpec]; omega), by first | exact Nat.le_of_ble_eq_true rfl | omega | (show _ ≤ _; omega) | (dsimp only [headSpec]; omega)⟩) hS_671 (fun z_677 locs_674 hz_676 hS_675 => ?_)
                subst z_677
                refine kx_ifnz (tgt := 97) hx hb dJ28_fixAfterInsertion_59 (by decide) (fun c_59_678 => ?_) (fun c_59_678 => ?_)
                · -- taken at 59
                  rcases b1 with _ | _
                  · -- child right
                    have hpn : rg np = some y := hb1.2
                    have hpo : lg np = tA sp := hb1.1
                    refine lv_aload_n hx hb dJ28_fixAfterInsertion_97 rfl (lv_at hl 2 rfl) ?_
                    refine lv_aload_n hx hb dJ28_fixAfterInsertion_98 rfl (lv_at hl 2 rfl) ?_
                    refine kx_cq0 (va_runS (As := [.ref y]) (rest := [.ref y]) ⟨hx, hb, hml, hown, hts⟩ (m_J28_parentOf l D H M kf vf lg rg pg cg y hP_kTN_M (by first | assumption | omega)) (va_cwS 1 hts (lw_S q883 q884 q117 q885) rfl rfl rfl (by decide +kernel) ⟨Nat.le_of_ble_eq_true rfl, Nat.le_of_ble_eq_true rfl⟩) (kx_ps hK hS_675 hB) rfl rfl hl.1 rfl (lv_room (Nat.le_of_ble_eq_true rfl)) dJ28_fixAfterInsertion_99 ⟨by first | exact Nat.le_of_ble_eq_true rfl | omega | (show _ ≤ _; omega) | (dsimp only [headSpec]; omega), by first | exact Nat.le_of_ble_eq_true rfl | omega | (show _ ≤ _; omega) | (dsimp only [headSpec]; omega)⟩) hS_675 (fun z_682 locs_679 hz_681 hS_680 => ?_)
                    subst z_682
                    refine kx_eqq hx hb (b := np) (hpy) ?_
                    refine kx_cq0 (va_runS (As := [.ref np]) (rest := [.ref y]) ⟨hx, hb, hml, hown, hts⟩ (m_J28_rightOf l D H M kf vf lg rg pg cg np hP_kTN_M (by first | assumption | omega)) (va_cwS 1 hts (lw_S q889 q890 q117 q891) rfl rfl rfl (by decide +kernel) ⟨Nat.le_of_ble_eq_true rfl, Nat.le_of_ble_eq_true rfl⟩) (kx_ps hK hS_680 hB) rfl rfl hl.1 rfl (lv_room (Nat.le_of_ble_eq_true rfl)) dJ28_fixAfterInsertion_102 ⟨by first | exact Nat.le_of_ble_eq_true rfl | omega | (show _ ≤ _; omega) | (dsimp only [headSpec]; omega), by first | exact Nat.le_of_ble_eq_true rfl | omega | (show _ ≤ _; omega) | (dsimp only [headSpec]; omega)⟩) hS_680 (fun z_686 locs_683 hz_685 hS_684 => ?_)
                    subst z_686
                    refine kx_eqq hx hb (b := y) (hpn) ?_
                    refine lv_acmp_ne (rx := some y) (ry := some y) (tgt := 118) hx hb dJ28_fixAfterInsertion_105 (by decide) (fun ca_687 => absurd (by rfl) ca_687) (fun ca_687 => ?_)
                    refine lv_aload_n hx hb dJ28_fixAfterInsertion_108 rfl (lv_at hl 2 rfl) ?_
                    refine kx_cq0 (va_runS (As := [.ref y]) (rest := []) ⟨hx, hb, hml, hown, hts⟩ (m_J28_parentOf l D H M kf vf lg rg pg cg y hP_kTN_M (by first | assumption | omega)) (va_cwS 1 hts (lw_S q883 q884 q117 q885) rfl rfl rfl (by decide +kernel) ⟨Nat.le_of_ble_eq_true rfl, Nat.le_of_ble_eq_true rfl⟩) (kx_ps hK hS_684 hB) rfl rfl hl.1 rfl (lv_room (Nat.le_of_ble_eq_true rfl)) dJ28_fixAfterInsertion_109 ⟨by first | exact Nat.le_of_ble_eq_true rfl | omega | (show _ ≤ _; omega) | (dsimp only [headSpec]; omega), by first | exact Nat.le_of_ble_eq_true rfl | omega | (show _ ≤ _; omega) | (dsimp only [headSpec]; omega)⟩) hS_684 (fun z_691 locs_688 hz_690 hS_689 => ?_)
                    subst z_691
                    refine kx_eqq hx hb (b := np) (hpy) ?_
                    refine lv_astore_n (lv' := [(1, .ref np), (2, .null), (0, .ref mp)]) hx hb dJ28_fixAfterInsertion_112 rfl hl (by decide) rfl (fun ls hl => ?_)
                    refine lv_aload_n hx hb dJ28_fixAfterInsertion_113 rfl (lv_at hl 2 rfl) ?_
                    refine lv_aload_n hx hb dJ28_fixAfterInsertion_114 rfl (lv_at hl 0 rfl) ?_
                    refine kx_cv (va_runV (As := [.ref np]) (rest := []) ⟨hx, hb, hml, hown, hts⟩ (m_J28_rotateLeft l D H mp rr sz mc ks M kf vf lg rg pg cg np y hO_mp hP_kTN_M npM hyM ((Ne.symm d1)) hpn ((fun q h => by have h9 : tA tl = some q := (hl1.symm.trans h); exact (d6 q (Or.inl (tA_mem h9))).1)) ((fun q h => by rw [hp1] at h; cases h; exact ngM)) ((fun q h => by have h9 : tA tl = some q := (hl1.symm.trans h); exact (d6 q (Or.inl (tA_mem h9))).2.1)) bs_mp hmpM) (cwV 1 hts (lw_V q898 q900 qs12 q117 q901) rfl rfl rfl (by decide +kernel) ⟨Nat.le_of_ble_eq_true rfl, Nat.le_of_ble_eq_true rfl⟩) (kx_pv hK hS_689 hB (kx_rc hK hO_mp (C := RJ28) (T := TJ28) (N := 9) rfl)) rfl rfl hl.1 rfl (lv_room (Nat.le_of_ble_eq_true rfl)) dJ28_fixAfterInsertion_115 ⟨by first | exact Nat.le_of_ble_eq_true rfl | omega | (show _ ≤ _; omega) | (dsimp only [headSpec]; omega), by first | exact Nat.le_of_ble_eq_true rfl | omega | (show _ ≤ _; omega) | (dsimp only [headSpec]; omega)⟩) hS_689 (fun q _ h => h) (fun q h => h) (fun H_695 locs_692 hz_694 hF_696 hS_693 => ?_)
                    have hzf_698 := hF_696.1
                    refine W.widen (k := 0) (n := 0) (Nat.le_of_ble_eq_true rfl) (Nat.le_of_ble_eq_true rfl) ?_
                    obtain ⟨lA, rA, pA, roA, ho_703, ho_704, hRA⟩ := hz_694
                    have hZA := ZI.rotL hZ.up hRA
                    obtain ⟨⟨hA1, hA2, hA3, hA4⟩, ⟨hA5, hA6, hA7, ⟨hA8, hA9, hA10, hA11, hA12⟩, hA13⟩, -⟩ := id hZA.1
                    have hAy : pA y = some ng := hA7
                    have hAg : pA ng = tup c2 := hA2
                    have hAn : lA ng = some y := hA1.1
                    refine lv_aload_n hx hb dJ28_fixAfterInsertion_118 rfl (lv_at hl 0 rfl) ?_
                    refine kx_cq0 (va_runS (As := [.ref np]) (rest := []) ⟨hx, hb, hml, hown, hts⟩ (m_J28_parentOf l D H_695 M kf vf lA rA pA cg np ho_704 (by first | assumption | omega)) (va_cwS 1 hts (lw_S q883 q884 q117 q885) rfl rfl rfl (by decide +kernel) ⟨Nat.le_of_ble_eq_true rfl, Nat.le_of_ble_eq_true rfl⟩) (kx_ps hK hS_693 hB) rfl rfl hl.1 rfl (lv_room (Nat.le_of_ble_eq_true rfl)) dJ28_fixAfterInsertion_119 ⟨by first | exact Nat.le_of_ble_eq_true rfl | omega | (show _ ≤ _; omega) | (dsimp only [headSpec]; omega), by first | exact Nat.le_of_ble_eq_true rfl | omega | (show _ ≤ _; omega) | (dsimp only [headSpec]; omega)⟩) hS_693 (fun z_708 locs_705 hz_707 hS_706 => ?_)
                    subst z_708
                    refine kx_eqq hx hb (b := y) (hA10) ?_
                    refine kx_iconst hx hb dJ28_fixAfterInsertion_122 ?_
                    refine kx_cv (va_runS (As := [.ref y, .int (kI (1))]) (rest := []) ⟨hx, hb, hml, hown, hts⟩ (m_J28_setColor l D H_695 M kf vf lA rA pA cg y true ho_704 (by first | assumption | omega)) (va_cwS 2 hts (lw_S q895 q896 q117 q897) rfl rfl rfl (by decide +kernel) ⟨Nat.le_of_ble_eq_true rfl, Nat.le_of_ble_eq_true rfl⟩) (kx_ps hK hS_706 hB) rfl rfl hl.1 rfl (lv_room (Nat.le_of_ble_eq_true rfl)) dJ28_fixAfterInsertion_123 ⟨by first | exact Nat.le_of_ble_eq_true rfl | omega | (show _ ≤ _; omega) | (dsimp only [headSpec]; omega), by first | exact Nat.le_of_ble_eq_true rfl | omega | (show _ ≤ _; omega) | (dsimp only [headSpec]; omega)⟩) hS_706 (fun q _ h => Or.inr (by rw [show q = _ from h]; assumption)) (fun q h => Or.inr (by rw [show q = _ from h]; assumption)) (fun H_712 locs_709 hz_711 hF_713 hS_710 => ?_)
                    have hzf_715 := hF_713.1
                    refine W.widen (k := 0) (n := 0) (Nat.le_of_ble_eq_true rfl) (Nat.le_of_ble_eq_true rfl) ?_
                    have ho_716 := hz_711
                    refine lv_aload_n hx hb dJ28_fixAfterInsertion_126 rfl (lv_at hl 0 rfl) ?_
                    refine kx_cq0 (va_runS (As := [.ref np]) (rest := []) ⟨hx, hb, hml, hown, hts⟩ (m_J28_parentOf l D H_712 M kf vf lA rA pA (kup cg y true) np ho_716 (by first | assumption | omega)) (va_cwS 1 hts (lw_S q883 q884 q117 q885) rfl rfl rfl (by decide +kernel) ⟨Nat.le_of_ble_eq_true rfl, Nat.le_of_ble_eq_true rfl⟩) (kx_ps hK hS_710 hB) rfl rfl hl.1 rfl (lv_room (Nat.le_of_ble_eq_true rfl)) dJ28_fixAfterInsertion_127 ⟨by first | exact Nat.le_of_ble_eq_true rfl | omega | (show _ ≤ _; omega) | (dsimp only [headSpec]; omega), by first | exact Nat.le_of_ble_eq_true rfl | omega | (show _ ≤ _; omega) | (dsimp only [headSpec]; omega)⟩) hS_710 (fun z_720 locs_717 hz_719 hS_718 => ?_)
                    subst z_720
                    refine kx_eqq hx hb (b := y) (hA10) ?_
                    refine kx_cq0 (va_runS (As := [.ref y]) (rest := []) ⟨hx, hb, hml, hown, hts⟩ (m_J28_parentOf l D H_712 M kf vf lA rA pA (kup cg y true) y ho_716 (by first | assumption | omega)) (va_cwS 1 hts (lw_S q883 q884 q117 q885) rfl rfl rfl (by decide +kernel) ⟨Nat.le_of_ble_eq_true rfl, Nat.le_of_ble_eq_true rfl⟩) (kx_ps hK hS_718 hB) rfl rfl hl.1 rfl (lv_room (Nat.le_of_ble_eq_true rfl)) dJ28_fixAfterInsertion_130 ⟨by first | exact Nat.le_of_ble_eq_true rfl | omega | (show _ ≤ _; omega) | (dsimp only [headSpec]; omega), by first | exact Nat.le_of_ble_eq_true rfl | omega | (show _ ≤ _; omega) | (dsimp only [headSpec]; omega)⟩) hS_718 (fun z_724 locs_721 hz_723 hS_722 => ?_)
                    subst z_724
                    refine kx_eqq hx hb (b := ng) (hAy) ?_
                    refine kx_iconst hx hb dJ28_fixAfterInsertion_133 ?_
                    refine kx_cv (va_runS (As := [.ref ng, .int (kI (0))]) (rest := []) ⟨hx, hb, hml, hown, hts⟩ (m_J28_setColor l D H_712 M kf vf lA rA pA (kup cg y true) ng false ho_716 (by first | assumption | omega)) (va_cwS 2 hts (lw_S q895 q896 q117 q897) rfl rfl rfl (by decide +kernel) ⟨Nat.le_of_ble_eq_true rfl, Nat.le_of_ble_eq_true rfl⟩) (kx_ps hK hS_722 hB) rfl rfl hl.1 rfl (lv_room (Nat.le_of_ble_eq_true rfl)) dJ28_fixAfterInsertion_134 ⟨by first | exact Nat.le_of_ble_eq_true rfl | omega | (show _ ≤ _; omega) | (dsimp only [headSpec]; omega), by first | exact Nat.le_of_ble_eq_true rfl | omega | (show _ ≤ _; omega) | (dsimp only [headSpec]; omega)⟩) hS_722 (fun q _ h => Or.inr (by rw [show q = _ from h]; assumption)) (fun q h => Or.inr (by rw [show q = _ from h]; assumption)) (fun H_728 locs_725 hz_727 hF_729 hS_726 => ?_)
                    have hzf_731 := hF_729.1
                    refine W.widen (k := 0) (n := 0) (Nat.le_of_ble_eq_true rfl) (Nat.le_of_ble_eq_true rfl) ?_
                    have ho_732 := hz_727
                    refine lv_aload_n hx hb dJ28_fixAfterInsertion_137 rfl (lv_at hl 2 rfl) ?_
                    refine lv_aload_n hx hb dJ28_fixAfterInsertion_138 rfl (lv_at hl 0 rfl) ?_
                    refine kx_cq0 (va_runS (As := [.ref np]) (rest := [.ref mp]) ⟨hx, hb, hml, hown, hts⟩ (m_J28_parentOf l D H_728 M kf vf lA rA pA ((kup (kup cg y true) ng false)) np ho_732 (by first | assumption | omega)) (va_cwS 1 hts (lw_S q883 q884 q117 q885) rfl rfl rfl (by decide +kernel) ⟨Nat.le_of_ble_eq_true rfl, Nat.le_of_ble_eq_true rfl⟩) (kx_ps hK hS_726 hB) rfl rfl hl.1 rfl (lv_room (Nat.le_of_ble_eq_true rfl)) dJ28_fixAfterInsertion_139 ⟨by first | exact Nat.le_of_ble_eq_true rfl | omega | (show _ ≤ _; omega) | (dsimp only [headSpec]; omega), by first | exact Nat.le_of_ble_eq_true rfl | omega | (show _ ≤ _; omega) | (dsimp only [headSpec]; omega)⟩) hS_726 (fun z_736 locs_733 hz_735 hS_734 => ?_)
                    subst z_736
                    refine kx_eqq hx hb (b := y) (hA10) ?_
                    refine kx_cq0 (va_runS (As := [.ref y]) (rest := [.ref mp]) ⟨hx, hb, hml, hown, hts⟩ (m_J28_parentOf l D H_728 M kf vf lA rA pA ((kup (kup cg y true) ng false)) y ho_732 (by first | assumption | omega)) (va_cwS 1 hts (lw_S q883 q884 q117 q885) rfl rfl rfl (by decide +kernel) ⟨Nat.le_of_ble_eq_true rfl, Nat.le_of_ble_eq_true rfl⟩) (kx_ps hK hS_734 hB) rfl rfl hl.1 rfl (lv_room (Nat.le_of_ble_eq_true rfl)) dJ28_fixAfterInsertion_142 ⟨by first | exact Nat.le_of_ble_eq_true rfl | omega | (show _ ≤ _; omega) | (dsimp only [headSpec]; omega), by first | exact Nat.le_of_ble_eq_true rfl | omega | (show _ ≤ _; omega) | (dsimp only [headSpec]; omega)⟩) hS_734 (fun z_740 locs_737 hz_739 hS_738 => ?_)
                    subst z_740
                    refine kx_eqq hx hb (b := ng) (hAy) ?_
                    have h_741 := ho_703.fr hF_713 (fun h => hmpM (by rw [show mp = _ from h]; assumption))
                    have h_742 := h_741.fr hF_729 (fun h => hmpM (by rw [show mp = _ from h]; assumption))
                    refine kx_cv (va_runV (As := [.ref ng]) (rest := []) ⟨hx, hb, hml, hown, hts⟩ (m_J28_rotateRight l D H_728 mp roA sz mc ks M kf vf lA rA pA ((kup (kup cg y true) ng false)) ng y h_742 ho_732 ngM hyM ((Ne.symm d3)) hAn ((fun q h => by have h9 : tA tr = some q := (hA6.symm.trans h); exact (d6 q (Or.inr (Or.inl (tA_mem h9)))).1)) ((fun q h => d7 q (hAg.symm.trans h))) ((fun q h => by have h9 : tA tr = some q := (hA6.symm.trans h); exact (d6 q (Or.inr (Or.inl (tA_mem h9)))).2.2)) bs_mp hmpM) (cwV 1 hts (lw_V q902 q904 qs13 q117 q905) rfl rfl rfl (by decide +kernel) ⟨Nat.le_of_ble_eq_true rfl, Nat.le_of_ble_eq_true rfl⟩) (kx_pv hK hS_738 hB (kx_rc hK h_742 (C := RJ28) (T := TJ28) (N := 9) rfl)) rfl rfl hl.1 rfl (lv_room (Nat.le_of_ble_eq_true rfl)) dJ28_fixAfterInsertion_145 ⟨by first | exact Nat.le_of_ble_eq_true rfl | omega | (show _ ≤ _; omega) | (dsimp only [headSpec]; omega), by first | exact Nat.le_of_ble_eq_true rfl | omega | (show _ ≤ _; omega) | (dsimp only [headSpec]; omega)⟩) hS_738 (fun q _ h => h) (fun q h => h) (fun H_746 locs_743 hz_745 hF_747 hS_744 => ?_)
                    have hzf_749 := hF_747.1
                    refine W.widen (k := 0) (n := 0) (Nat.le_of_ble_eq_true rfl) (Nat.le_of_ble_eq_true rfl) ?_
                    obtain ⟨lB, rB, pB, roB, ho_754, ho_755, hRB⟩ := hz_745
                    have hZB := ZI.rotR hZA.1.up hRB
                    refine lv_goto (tgt := 5) hx hb dJ28_fixAfterInsertion_148 (by decide) ?_
                    exact ih_5  np (((true, y, (TN ng tr (.leaf : TT))) :: c2)) sp tl lB rB pB ((((kup (kup cg y true) ng false)))) roB H_746 ho_754 ho_755 (ZI.dnL hZB.1) (hZB.2.trans (hZA.2.trans hio)) (fun _ => ZI.blk hZ.up.up (by simp [tio]) (by simp [tio]) hZB.1 d3 (hbl (by simp))) _ hS_744 (by (try simp only [List.length_cons] at hm_5); (try simp only [List.length_cons]); omega) ls (lv_sub hl [2, 0] rfl)
                  · -- child left
                    have hpn : lg np = some y := hb1.1
                    have hpo : rg np = tA sp := hb1.2
                    refine lv_aload_n hx hb dJ28_fixAfterInsertion_97 rfl (lv_at hl 2 rfl) ?_
                    refine lv_aload_n hx hb dJ28_fixAfterInsertion_98 rfl (lv_at hl 2 rfl) ?_
                    refine kx_cq0 (va_runS (As := [.ref y]) (rest := [.ref y]) ⟨hx, hb, hml, hown, hts⟩ (m_J28_parentOf l D H M kf vf lg rg pg cg y hP_kTN_M (by first | assumption | omega)) (va_cwS 1 hts (lw_S q883 q884 q117 q885) rfl rfl rfl (by decide +kernel) ⟨Nat.le_of_ble_eq_true rfl, Nat.le_of_ble_eq_true rfl⟩) (kx_ps hK hS_675 hB) rfl rfl hl.1 rfl (lv_room (Nat.le_of_ble_eq_true rfl)) dJ28_fixAfterInsertion_99 ⟨by first | exact Nat.le_of_ble_eq_true rfl | omega | (show _ ≤ _; omega) | (dsimp only [headSpec]; omega), by first | exact Nat.le_of_ble_eq_true rfl | omega | (show _ ≤ _; omega) | (dsimp only [headSpec]; omega)⟩) hS_675 (fun z_759 locs_756 hz_758 hS_757 => ?_)
                    subst z_759
                    refine kx_eqq hx hb (b := np) (hpy) ?_
                    refine kx_cq0 (va_runS (As := [.ref np]) (rest := [.ref y]) ⟨hx, hb, hml, hown, hts⟩ (m_J28_rightOf l D H M kf vf lg rg pg cg np hP_kTN_M (by first | assumption | omega)) (va_cwS 1 hts (lw_S q889 q890 q117 q891) rfl rfl rfl (by decide +kernel) ⟨Nat.le_of_ble_eq_true rfl, Nat.le_of_ble_eq_true rfl⟩) (kx_ps hK hS_757 hB) rfl rfl hl.1 rfl (lv_room (Nat.le_of_ble_eq_true rfl)) dJ28_fixAfterInsertion_102 ⟨by first | exact Nat.le_of_ble_eq_true rfl | omega | (show _ ≤ _; omega) | (dsimp only [headSpec]; omega), by first | exact Nat.le_of_ble_eq_true rfl | omega | (show _ ≤ _; omega) | (dsimp only [headSpec]; omega)⟩) hS_757 (fun z_763 locs_760 hz_762 hS_761 => ?_)
                    subst z_763
                    refine lv_acmp_ne (rx := some y) (ry := rg np) (tgt := 118) hx hb dJ28_fixAfterInsertion_105 (by decide) (fun ca_764 => ?_) (fun ca_764 => absurd ca_764 (by exact fun z => d4 (tA_mem (hpo.symm.trans z.symm))))
                    refine lv_aload_n hx hb dJ28_fixAfterInsertion_118 rfl (lv_at hl 2 rfl) ?_
                    refine kx_cq0 (va_runS (As := [.ref y]) (rest := []) ⟨hx, hb, hml, hown, hts⟩ (m_J28_parentOf l D H M kf vf lg rg pg cg y hP_kTN_M (by first | assumption | omega)) (va_cwS 1 hts (lw_S q883 q884 q117 q885) rfl rfl rfl (by decide +kernel) ⟨Nat.le_of_ble_eq_true rfl, Nat.le_of_ble_eq_true rfl⟩) (kx_ps hK hS_761 hB) rfl rfl hl.1 rfl (lv_room (Nat.le_of_ble_eq_true rfl)) dJ28_fixAfterInsertion_119 ⟨by first | exact Nat.le_of_ble_eq_true rfl | omega | (show _ ≤ _; omega) | (dsimp only [headSpec]; omega), by first | exact Nat.le_of_ble_eq_true rfl | omega | (show _ ≤ _; omega) | (dsimp only [headSpec]; omega)⟩) hS_761 (fun z_768 locs_765 hz_767 hS_766 => ?_)
                    subst z_768
                    refine kx_eqq hx hb (b := np) (hpy) ?_
                    refine kx_iconst hx hb dJ28_fixAfterInsertion_122 ?_
                    refine kx_cv (va_runS (As := [.ref np, .int (kI (1))]) (rest := []) ⟨hx, hb, hml, hown, hts⟩ (m_J28_setColor l D H M kf vf lg rg pg cg np true hP_kTN_M (by first | assumption | omega)) (va_cwS 2 hts (lw_S q895 q896 q117 q897) rfl rfl rfl (by decide +kernel) ⟨Nat.le_of_ble_eq_true rfl, Nat.le_of_ble_eq_true rfl⟩) (kx_ps hK hS_766 hB) rfl rfl hl.1 rfl (lv_room (Nat.le_of_ble_eq_true rfl)) dJ28_fixAfterInsertion_123 ⟨by first | exact Nat.le_of_ble_eq_true rfl | omega | (show _ ≤ _; omega) | (dsimp only [headSpec]; omega), by first | exact Nat.le_of_ble_eq_true rfl | omega | (show _ ≤ _; omega) | (dsimp only [headSpec]; omega)⟩) hS_766 (fun q _ h => Or.inr (by rw [show q = _ from h]; assumption)) (fun q h => Or.inr (by rw [show q = _ from h]; assumption)) (fun H_772 locs_769 hz_771 hF_773 hS_770 => ?_)
                    have hzf_775 := hF_773.1
                    refine W.widen (k := 0) (n := 0) (Nat.le_of_ble_eq_true rfl) (Nat.le_of_ble_eq_true rfl) ?_
                    have ho_776 := hz_771
                    refine lv_aload_n hx hb dJ28_fixAfterInsertion_126 rfl (lv_at hl 2 rfl) ?_
                    refine kx_cq0 (va_runS (As := [.ref y]) (rest := []) ⟨hx, hb, hml, hown, hts⟩ (m_J28_parentOf l D H_772 M kf vf lg rg pg (kup cg np true) y ho_776 (by first | assumption | omega)) (va_cwS 1 hts (lw_S q883 q884 q117 q885) rfl rfl rfl (by decide +kernel) ⟨Nat.le_of_ble_eq_true rfl, Nat.le_of_ble_eq_true rfl⟩) (kx_ps hK hS_770 hB) rfl rfl hl.1 rfl (lv_room (Nat.le_of_ble_eq_true rfl)) dJ28_fixAfterInsertion_127 ⟨by first | exact Nat.le_of_ble_eq_true rfl | omega | (show _ ≤ _; omega) | (dsimp only [headSpec]; omega), by first | exact Nat.le_of_ble_eq_true rfl | omega | (show _ ≤ _; omega) | (dsimp only [headSpec]; omega)⟩) hS_770 (fun z_780 locs_777 hz_779 hS_778 => ?_)
                    subst z_780
                    refine kx_eqq hx hb (b := np) (hpy) ?_
                    refine kx_cq0 (va_runS (As := [.ref np]) (rest := []) ⟨hx, hb, hml, hown, hts⟩ (m_J28_parentOf l D H_772 M kf vf lg rg pg (kup cg np true) np ho_776 (by first | assumption | omega)) (va_cwS 1 hts (lw_S q883 q884 q117 q885) rfl rfl rfl (by decide +kernel) ⟨Nat.le_of_ble_eq_true rfl, Nat.le_of_ble_eq_true rfl⟩) (kx_ps hK hS_778 hB) rfl rfl hl.1 rfl (lv_room (Nat.le_of_ble_eq_true rfl)) dJ28_fixAfterInsertion_130 ⟨by first | exact Nat.le_of_ble_eq_true rfl | omega | (show _ ≤ _; omega) | (dsimp only [headSpec]; omega), by first | exact Nat.le_of_ble_eq_true rfl | omega | (show _ ≤ _; omega) | (dsimp only [headSpec]; omega)⟩) hS_778 (fun z_784 locs_781 hz_783 hS_782 => ?_)
                    subst z_784
                    refine kx_eqq hx hb (b := ng) (hp1) ?_
                    refine kx_iconst hx hb dJ28_fixAfterInsertion_133 ?_
                    refine kx_cv (va_runS (As := [.ref ng, .int (kI (0))]) (rest := []) ⟨hx, hb, hml, hown, hts⟩ (m_J28_setColor l D H_772 M kf vf lg rg pg (kup cg np true) ng false ho_776 (by first | assumption | omega)) (va_cwS 2 hts (lw_S q895 q896 q117 q897) rfl rfl rfl (by decide +kernel) ⟨Nat.le_of_ble_eq_true rfl, Nat.le_of_ble_eq_true rfl⟩) (kx_ps hK hS_782 hB) rfl rfl hl.1 rfl (lv_room (Nat.le_of_ble_eq_true rfl)) dJ28_fixAfterInsertion_134 ⟨by first | exact Nat.le_of_ble_eq_true rfl | omega | (show _ ≤ _; omega) | (dsimp only [headSpec]; omega), by first | exact Nat.le_of_ble_eq_true rfl | omega | (show _ ≤ _; omega) | (dsimp only [headSpec]; omega)⟩) hS_782 (fun q _ h => Or.inr (by rw [show q = _ from h]; assumption)) (fun q h => Or.inr (by rw [show q = _ from h]; assumption)) (fun H_788 locs_785 hz_787 hF_789 hS_786 => ?_)
                    have hzf_791 := hF_789.1
                    refine W.widen (k := 0) (n := 0) (Nat.le_of_ble_eq_true rfl) (Nat.le_of_ble_eq_true rfl) ?_
                    have ho_792 := hz_787
                    refine lv_aload_n hx hb dJ28_fixAfterInsertion_137 rfl (lv_at hl 1 rfl) ?_
                    refine lv_aload_n hx hb dJ28_fixAfterInsertion_138 rfl (lv_at hl 2 rfl) ?_
                    refine kx_cq0 (va_runS (As := [.ref y]) (rest := [.ref mp]) ⟨hx, hb, hml, hown, hts⟩ (m_J28_parentOf l D H_788 M kf vf lg rg pg ((kup (kup cg np true) ng false)) y ho_792 (by first | assumption | omega)) (va_cwS 1 hts (lw_S q883 q884 q117 q885) rfl rfl rfl (by decide +kernel) ⟨Nat.le_of_ble_eq_true rfl, Nat.le_of_ble_eq_true rfl⟩) (kx_ps hK hS_786 hB) rfl rfl hl.1 rfl (lv_room (Nat.le_of_ble_eq_true rfl)) dJ28_fixAfterInsertion_139 ⟨by first | exact Nat.le_of_ble_eq_true rfl | omega | (show _ ≤ _; omega) | (dsimp only [headSpec]; omega), by first | exact Nat.le_of_ble_eq_true rfl | omega | (show _ ≤ _; omega) | (dsimp only [headSpec]; omega)⟩) hS_786 (fun z_796 locs_793 hz_795 hS_794 => ?_)
                    subst z_796
                    refine kx_eqq hx hb (b := np) (hpy) ?_
                    refine kx_cq0 (va_runS (As := [.ref np]) (rest := [.ref mp]) ⟨hx, hb, hml, hown, hts⟩ (m_J28_parentOf l D H_788 M kf vf lg rg pg ((kup (kup cg np true) ng false)) np ho_792 (by first | assumption | omega)) (va_cwS 1 hts (lw_S q883 q884 q117 q885) rfl rfl rfl (by decide +kernel) ⟨Nat.le_of_ble_eq_true rfl, Nat.le_of_ble_eq_true rfl⟩) (kx_ps hK hS_794 hB) rfl rfl hl.1 rfl (lv_room (Nat.le_of_ble_eq_true rfl)) dJ28_fixAfterInsertion_142 ⟨by first | exact Nat.le_of_ble_eq_true rfl | omega | (show _ ≤ _; omega) | (dsimp only [headSpec]; omega), by first | exact Nat.le_of_ble_eq_true rfl | omega | (show _ ≤ _; omega) | (dsimp only [headSpec]; omega)⟩) hS_794 (fun z_800 locs_797 hz_799 hS_798 => ?_)
                    subst z_800
                    refine kx_eqq hx hb (b := ng) (hp1) ?_
                    have h_801 := hO_mp.fr hF_773 (fun h => hmpM (by rw [show mp = _ from h]; assumption))
                    have h_802 := h_801.fr hF_789 (fun h => hmpM (by rw [show mp = _ from h]; assumption))
                    refine kx_cv (va_runV (As := [.ref ng]) (rest := []) ⟨hx, hb, hml, hown, hts⟩ (m_J28_rotateRight l D H_788 mp rr sz mc ks M kf vf lg rg pg ((kup (kup cg np true) ng false)) ng np h_802 ho_792 ngM npM ((Ne.symm d2)) hgn ((fun q h => by have h9 : tA sp = some q := (hpo.symm.trans h); exact (d6 q (Or.inr (Or.inr (tA_mem h9)))).1)) ((fun q h => d7 q (hg2.symm.trans h))) ((fun q h => by have h9 : tA sp = some q := (hpo.symm.trans h); exact (d6 q (Or.inr (Or.inr (tA_mem h9)))).2.2)) bs_mp hmpM) (cwV 1 hts (lw_V q902 q904 qs13 q117 q905) rfl rfl rfl (by decide +kernel) ⟨Nat.le_of_ble_eq_true rfl, Nat.le_of_ble_eq_true rfl⟩) (kx_pv hK hS_798 hB (kx_rc hK h_802 (C := RJ28) (T := TJ28) (N := 9) rfl)) rfl rfl hl.1 rfl (lv_room (Nat.le_of_ble_eq_true rfl)) dJ28_fixAfterInsertion_145 ⟨by first | exact Nat.le_of_ble_eq_true rfl | omega | (show _ ≤ _; omega) | (dsimp only [headSpec]; omega), by first | exact Nat.le_of_ble_eq_true rfl | omega | (show _ ≤ _; omega) | (dsimp only [headSpec]; omega)⟩) hS_798 (fun q _ h => h) (fun q h => h) (fun H_806 locs_803 hz_805 hF_807 hS_804 => ?_)
                    have hzf_809 := hF_807.1
                    refine W.widen (k := 0) (n := 0) (Nat.le_of_ble_eq_true rfl) (Nat.le_of_ble_eq_true rfl) ?_
                    obtain ⟨lB, rB, pB, roB, ho_814, ho_815, hRB⟩ := hz_805
                    have hZB := ZI.rotR hZ.up.up hRB
                    refine lv_goto (tgt := 5) hx hb dJ28_fixAfterInsertion_148 (by decide) ?_
                    exact ih_5  y (((true, np, (TN ng sp (.leaf : TT))) :: c2)) tl tr lB rB pB ((((kup (kup cg np true) ng false)))) roB H_806 ho_814 ho_815 (ZI.dnL hZB.1) (hZB.2.trans hio) (fun _ => ZI.blk hZ.up.up (by simp [tio]) (by simp [tio]) hZB.1 d2 (hbl (by simp))) _ hS_804 (by (try simp only [List.length_cons] at hm_5); (try simp only [List.length_cons]); omega) ls (lv_sub hl [1, 2] rfl)
                · -- not taken at 59
                  exact absurd c_59_678 (by decide)
  have h_816 := hO_mp.up hU_3 (by first | assumption | exact Ne.symm (by assumption) | exact fun e9 => hmpM (by rw [e9]; assumption) | omega | (have h9 := hO_mp.lt; omega))
  exact lp_5_x_10 (c0.length + 1) x c0 ((.leaf : TT)) ((.leaf : TT)) lf rt pr ((kup co x false)) ro H_5 h_816 hTN_9 (hZ0) (hIO.symm) (fun hne a ha => by rw [show kup co x false a = co a from if_neg (fun z => (hZ0.root hne ha).2 (by rw [z]; simp [tio]))]; exact hbl0 hne a ha) _ hS_7 (Nat.lt_succ_self _) ls (lv_sub hl [0, 1] rfl)

