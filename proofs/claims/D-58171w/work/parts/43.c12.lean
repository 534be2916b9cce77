/-! MATH 28 -/
def FC (L : Ln) (g : Nat → Int) (i : Int) (d : Int) : Prop := ∀ d2 : Int, 0 ≤ d2 ∧ d2 < d → f_bar L (i % 51) (i / 51) d2 = false → g (f_to i d2).toNat ≠ 0
theorem FC.zero (L : Ln) (g : Nat → Int) (i : Int) : FC L g i 0 := fun d2 h => by omega
theorem FC.push {L : Ln} {g : Nat → Int} {i d : Int} (h : FC L g i d) (j : Nat) : FC L (kup g j 2) i d := by
  intro d2 hd hb
  by_cases e : (f_to i d2).toNat = j
  · rw [e, kup_self]; decide
  · rw [kup_ne e]; exact h d2 hd hb
theorem FC.next {L : Ln} {g : Nat → Int} {i d : Int} (h : FC L g i d) (hc : f_bar L (i % 51) (i / 51) d = false → g (f_to i d).toNat ≠ 0) : FC L g i (d + 1) := by
  intro d2 hd hb
  by_cases e : d2 = d
  · rw [e] at hb ⊢; exact hc hb
  · exact h d2 (by omega) hb
theorem FI.lt {L : Ln} {fm g w : Nat → Int} {f t j : Nat} (h : FI L fm g w f t) (hj : j < 1785) (hg : g j = 0) : t < 1785 := by
  obtain ⟨h1, h2, h3, h4, h5, h6, h7, h8, h9⟩ := h
  have := f_cnt_lt (g := g) (j := j) (by omega) 1785 hj
  omega
theorem FI.push2 {L : Ln} {fm g w : Nat → Int} {f t : Nat} {i d : Int} (h : FI L fm g w f t) (hf : f < t) (hi : w f = i) (hd : 0 ≤ d ∧ d ≤ 7) (hg : g (f_to i d).toNat = 0) (hb : f_bar L (i % 51) (i / 51) d = false) : FI L fm (kup g (f_to i d).toNat 2) (kup w t (f_to i d)) f (t + 1) := by
  have hr := f_to_rng i d
  have hw := h.2.2.1 f hf
  have h2 := h.push (j := (f_to i d).toNat) (by omega) hg ⟨(w f).toNat, by omega, hw.2.2, d, hd, by rw [show (((w f).toNat : Nat) : Int) = i by omega]; omega, by rw [show (((w f).toNat : Nat) : Int) = i by omega]; exact hb⟩
  rw [show (((f_to i d).toNat : Nat) : Int) = f_to i d by omega] at h2
  exact h2
set_option maxHeartbeats 4000000 in
set_option maxRecDepth 100000 in
theorem m_X2_outside (l : Launch) (D : kG) (H : Heap) (a : Nat) (pa : Nat) (sa : Nat) (ea : Nat) (gp : Nat → Int) (gs : Nat → Int) (L : Ln) (hO_a : kO D H a 3 [.int (kI (ln_lv L)), .ref pa, .ref sa, .int (kI ((ln_n L : Nat) : Int)), .ref ea, .int (kI (ln_lb L))]) (hA_pa : kAi D H pa 61 gp) (hA_sa : kAi D H sa 60 gs) (hM : MLn gp gs L) (hok : LnOK L) : Met l yX2_outside (ws_ yX2_outside cX2_outside 12 (some (.array .int))) ({ frames := 3, cells := 2, slots := 3570, locals := 73 } : Room) (kPre D H [.ref a]) (kQr (fun (r : Nat) H' => ∃ (g2 : Nat → Int), (kAi D H' r 1785 g2) ∧ (H.size ≤ r) ∧ (FOut L g2)) (kNW H)) (2) (3570) ((kNW H)) := by
  refine Met.ofW (cc := cX2_outside) (maxL := 12) (ret := (some (.array .int))) (by decide) rfl ?_
  intro p e s m args below meth c s₁ B hml hv
  obtain ⟨rfl, hH, hK⟩ := hv
  subst hH
  have hx := B.exec
  have hb := B.bytes
  have hr := B.returns
  have hts := atoms_spec (ws := ws_ yX2_outside cX2_outside 12 (some (.array .int))) B.pre
  have hts : ∀ w ∈ lw_all, w.before _ s = true := fun w h => hts w (List.mem_cons_of_mem _ h)
  have hown : s.vm.findClass RX2 = some m.cls := findClass_of_methodNamed B.named
  have hlk := B.notSynchronized
  have hS : va_S (kNW s.heap) s.heap s.heap [] := va_S.rf
  have hB : ∀ q, (kNW s.heap) q → kBase D ≤ q := fun q h => Nat.le_trans hK.size h
  have hl := lv_entry ([.ref a]) (n := 12) (Nat.le_of_ble_eq_true rfl)
  rw [lg_entry_eq]
  generalize (lg_sl ([.ref a]) ++ List.replicate (12 - (lg_sl ([.ref a])).length) Slot.unset).toArray = ls at hl ⊢
  have hl : lv_has ls 12 [(0, .ref a)] := hl
  have hL60 := hok.n
  have hlb := hok.lbr
  have hlv := hok.lv
  have hsz := ln_size_23 L
  have hlt_a := hO_a.lt
  have hlt_pa := hA_pa.lt
  have hlt_sa := hA_sa.lt
  refine lv_aload_n hx hb dX2_outside_0 rfl (lv_at hl 0 rfl) ?_
  refine kx_cr (va_runS (As := [.ref a]) (rest := []) ⟨hx, hb, hml, hown, hts⟩ (m_X2_fineMap l D s.heap a pa sa ea gp gs L hO_a hA_pa hA_sa (by first | assumption | omega) (by first | assumption | omega)) (va_cwS 1 hts (lw_S q2100 q2101 q80 q2102) rfl rfl rfl (by decide +kernel) ⟨Nat.le_of_ble_eq_true rfl, Nat.le_of_ble_eq_true rfl⟩) (kx_ps hK hS hB) rfl rfl hl.1 rfl (lv_room (Nat.le_of_ble_eq_true rfl)) dX2_outside_1 ⟨by first | exact Nat.le_of_ble_eq_true rfl | omega | (show _ ≤ _; omega) | (dsimp only [headSpec]; omega), by first | exact Nat.le_of_ble_eq_true rfl | omega | (show _ ≤ _; omega) | (dsimp only [headSpec]; omega)⟩) hS (fun q _ h => Nat.le_trans hS.1 h) (fun q h => Nat.le_trans hS.1 h) (fun mp H_4 locs_1 hz_3 hF_5 hS_2 => ?_)
  have hzf_6 := hF_5.1
  have hF_5 := hF_5.nw
  refine W.widen (k := 1) (n := 1785) (Nat.le_of_ble_eq_true rfl) (Nat.le_of_ble_eq_true rfl) ?_
  obtain ⟨fm, ho_8, hnm9, hfm9⟩ := hz_3
  refine lv_astore_n (lv' := [(1, .ref mp), (0, .ref a)]) hx hb dX2_outside_4 rfl hl (by decide) rfl (fun ls hl => ?_)
  refine lv_aload_n hx hb dX2_outside_5 rfl (lv_at hl 0 rfl) ?_
  refine kx_alen hx hb hK ho_8 rfl dX2_outside_6 ?_
  have hltm9 := ho_8.lt
  refine kx_newa (atype := .int) (ty := .int) (t := 0) (a0 := (1785, .inl (fun j => kI ((fun _ => 0 : Nat → Int) j)))) (N' := 1785) hx hb hts q332 rfl hK rfl (fun _ h => by cases h) hS_2 (by first | rfl | omega) (by omega) (fun cA => rfl) (by first | decide | (simp only [componentBytes]; omega)) (by first | exact Nat.le_of_ble_eq_true rfl | omega | (show _ ≤ _; omega) | (dsimp only [headSpec]; omega)) (by first | exact Nat.le_of_ble_eq_true rfl | omega | (show _ ≤ _; omega) | (dsimp only [headSpec]; omega)) dX2_outside_7 (fun wt H_9 hq_10 hz_11 hA_12 hE_13 hS_14 => ?_)
  have hge_wt : s.heap.size ≤ wt := by rw [hq_10]; exact hS_2.1
  refine W.widen (k := 2) (n := 3570) (Nat.le_of_ble_eq_true rfl) (Nat.le_of_ble_eq_true rfl) ?_
  refine lv_astore_n (lv' := [(2, .ref wt), (1, .ref mp), (0, .ref a)]) hx hb dX2_outside_9 rfl hl (by decide) rfl (fun ls hl => ?_)
  have ne_mp_wt : mp ≠ wt := by omega
  refine kx_iconst hx hb dX2_outside_10 ?_
  refine lv_istore_n (lv' := [(3, .int (kI (0))), (2, .ref wt), (1, .ref mp), (0, .ref a)]) hx hb dX2_outside_11 rfl hl (by decide) rfl (fun ls hl => ?_)
  refine kx_iconst hx hb dX2_outside_12 ?_
  refine lv_istore (lv' := [(4, .int (kI (1))), (3, .int (kI (0))), (2, .ref wt), (1, .ref mp), (0, .ref a)]) hx hb dX2_outside_13 hl (by decide) rfl (fun ls hl => ?_)
  refine lv_aload_n hx hb dX2_outside_15 rfl (lv_at hl 3 rfl) ?_
  refine kx_iconst hx hb dX2_outside_16 ?_
  refine kx_iconst hx hb dX2_outside_17 ?_
  have h_15 := ho_8.ex hE_13
  refine kx_iast (i := 0) (x := 2) hx hb hK h_15 hS_14 (by first | rfl | exact Or.inl rfl | exact Or.inr rfl | exact Or.inr (Or.inl rfl) | exact Or.inr (Or.inr rfl) | exact Or.inr (Or.inr (Or.inl rfl)) | exact Or.inr (Or.inr (Or.inr rfl)) | ((try dsimp only); (try simp only [kNW]); omega)) 0 (by omega) (by omega) (by omega) dX2_outside_18 (fun H_18 locs_19 hA_17 hU_16 hS_20 => ?_)
  have hzu_21 := hU_16.1
  have lp_19_x_22 : ∀ (n_19 : Nat) (f : Nat) (t : Nat) (g : Nat → Int) (w : Nat → Int) (H : Heap) (hO_a : kO D H a 3 [.int (kI (ln_lv L)), .ref pa, .ref sa, .int (kI ((ln_n L : Nat) : Int)), .ref ea, .int (kI (ln_lb L))]) (hA_pa : kAi D H pa 61 gp) (hA_sa : kAi D H sa 60 gs) (hA_mp : kAi D H mp 1785 g) (hA_wt : kAi D H wt 1785 w) (hft0 : f ≤ t ∧ t ≤ 1785) (hI : FI L fm g w f t) (locs : List Loc) (hS : va_S (kNW s.heap) s.heap H locs) (hm_19 : 1785 - f < n_19) (ls : Array Slot), lv_has ls 12 [(0, .ref a), (1, .ref mp), (2, .ref wt), (3, .int (kI ((f : Nat) : Int))), (4, .int (kI ((t : Nat) : Int)))] → W p l e (headSpec (ws_ yX2_outside cX2_outside 12 (some (.array .int))) ({ frames := 3, cells := 2, slots := 3570, locals := 73 } : Room)).room s m ([.ref a] : List Value).toArray below meth c H locs (2) (3570) (MQ below (kQr (fun (r : Nat) H' => ∃ (g2 : Nat → Int), (kAi D H' r 1785 g2) ∧ (s.heap.size ≤ r) ∧ (FOut L g2)) (kNW s.heap)) ([.ref a] : List Value).toArray s (2) (3570) ((kNW s.heap))) (F0 m 19 ls []) := by
    intro n_19
    induction n_19 with
    | zero => intro f t g w H hO_a hA_pa hA_sa hA_mp hA_wt hft0 hI locs hS hm_19; exact absurd hm_19 (Nat.not_lt_zero _)
    | succ n_19 ih_19 =>
      intro f t g w H hO_a hA_pa hA_sa hA_mp hA_wt hft0 hI locs hS hm_19 ls hl
      refine lv_iload_n hx hb dX2_outside_19 rfl (lv_at hl 3 rfl) ?_
      refine lv_iload hx hb dX2_outside_20 (lv_at hl 4 rfl) ?_
      refine kx_icmp_ge (x := ((f : Nat) : Int)) (y := ((t : Nat) : Int)) (tgt := 169) hx hb dX2_outside_22 (by decide) (by omega) (by omega) (by omega) (by omega) (fun c_22_23 => ?_) (fun c_22_23 => ?_)
      · -- taken at 22
        refine lv_aload_n hx hb dX2_outside_169 rfl (lv_at hl 1 rfl) ?_
        exact kx_aret (z := mp) hx hb hr (by first | exact Or.inl ⟨_, rfl⟩ | exact Or.inr ⟨_, rfl⟩) hlk (⟨g, hA_mp, by first | assumption | rfl | omega | grind, by have hft9 := hI.2.1; rw [show f = t by omega] at hI; exact hI.out hfm9⟩) hS dX2_outside_170
      · -- not taken at 22
        have hw9 := hI.2.2.1 f (by omega)
        refine lv_aload_n hx hb dX2_outside_25 rfl (lv_at hl 2 rfl) ?_
        refine lv_iload_n hx hb dX2_outside_26 rfl (lv_at hl 3 rfl) ?_
        refine kx_iald (i := ((f : Nat) : Int)) hx hb hK hA_wt f (rfl) (by omega) (by omega) dX2_outside_27 ?_
        refine kx_bipush hx hb (by decide) dX2_outside_28 ?_
        refine kx_irem (x := (w f)) (y := 51) hx hb (by omega) (by omega) (by omega) (by omega) dX2_outside_30 ?_
        refine lv_istore (lv' := [(5, .int (kI (((w f) % 51)))), (0, .ref a), (1, .ref mp), (2, .ref wt), (3, .int (kI ((f : Nat) : Int))), (4, .int (kI ((t : Nat) : Int)))]) hx hb dX2_outside_31 hl (by decide) rfl (fun ls hl => ?_)
        refine lv_aload_n hx hb dX2_outside_33 rfl (lv_at hl 3 rfl) ?_
        refine lv_iload_n hx hb dX2_outside_34 rfl (lv_at hl 4 rfl) ?_
        refine kx_iald (i := ((f : Nat) : Int)) hx hb hK hA_wt f (rfl) (by omega) (by omega) dX2_outside_35 ?_
        refine kx_bipush hx hb (by decide) dX2_outside_36 ?_
        refine kx_idiv (x := (w f)) (y := 51) hx hb (by omega) (by omega) (by omega) (by omega) dX2_outside_38 ?_
        refine lv_istore (lv' := [(6, .int (kI (((w f) / 51)))), (5, .int (kI (((w f) % 51)))), (0, .ref a), (1, .ref mp), (2, .ref wt), (3, .int (kI ((f : Nat) : Int))), (4, .int (kI ((t : Nat) : Int)))]) hx hb dX2_outside_39 hl (by decide) rfl (fun ls hl => ?_)
        refine lv_iinc (v := kI (((f + 1 : Nat) : Int))) (lv' := [(3, .int (kI ((f + 1 : Nat) : Int))), (6, .int (kI (((w f) / 51)))), (5, .int (kI (((w f) % 51)))), (0, .ref a), (1, .ref mp), (2, .ref wt), (4, .int (kI ((t : Nat) : Int)))]) hx hb dX2_outside_41 hl (k := 5) rfl (kI_incN _ _) (by decide) rfl (fun ls hl => ?_)
        refine kx_iconst hx hb dX2_outside_44 ?_
        refine lv_istore (lv' := [(7, .int (kI (0))), (3, .int (kI ((f + 1 : Nat) : Int))), (6, .int (kI (((w f) / 51)))), (5, .int (kI (((w f) % 51)))), (0, .ref a), (1, .ref mp), (2, .ref wt), (4, .int (kI ((t : Nat) : Int)))]) hx hb dX2_outside_45 hl (by decide) rfl (fun ls hl => ?_)
        have lp_47_x_24 : ∀ (n_47 : Nat) (d : Nat) (t2 : Nat) (g1 : Nat → Int) (w1 : Nat → Int) (H : Heap) (hO_a : kO D H a 3 [.int (kI (ln_lv L)), .ref pa, .ref sa, .int (kI ((ln_n L : Nat) : Int)), .ref ea, .int (kI (ln_lb L))]) (hA_pa : kAi D H pa 61 gp) (hA_sa : kAi D H sa 60 gs) (hA_mp : kAi D H mp 1785 g1) (hA_wt : kAi D H wt 1785 w1) (hd8 : d ≤ 8) (ht2 : t2 ≤ 1785) (hJ : FI L fm g1 w1 f t2) (hft : f < t2) (hwf : w1 f = w f) (hc : FC L g1 (w f) ((d : Nat) : Int)) (locs : List Loc) (hS : va_S (kNW s.heap) s.heap H locs) (hm_47 : 8 - d < n_47) (ls : Array Slot), lv_has ls 12 [(0, .ref a), (1, .ref mp), (2, .ref wt), (3, .int (kI ((f + 1 : Nat) : Int))), (4, .int (kI ((t2 : Nat) : Int))), (5, .int (kI ((w f % 51)))), (6, .int (kI ((w f / 51)))), (7, .int (kI ((d : Nat) : Int)))] → W p l e (headSpec (ws_ yX2_outside cX2_outside 12 (some (.array .int))) ({ frames := 3, cells := 2, slots := 3570, locals := 73 } : Room)).room s m ([.ref a] : List Value).toArray below meth c H locs (2) (3570) (MQ below (kQr (fun (r : Nat) H' => ∃ (g2 : Nat → Int), (kAi D H' r 1785 g2) ∧ (s.heap.size ≤ r) ∧ (FOut L g2)) (kNW s.heap)) ([.ref a] : List Value).toArray s (2) (3570) ((kNW s.heap))) (F0 m 47 ls []) := by
          intro n_47
          induction n_47 with
          | zero => intro d t2 g1 w1 H hO_a hA_pa hA_sa hA_mp hA_wt hd8 ht2 hJ hft hwf hc locs hS hm_47; exact absurd hm_47 (Nat.not_lt_zero _)
          | succ n_47 ih_47 =>
            intro d t2 g1 w1 H hO_a hA_pa hA_sa hA_mp hA_wt hd8 ht2 hJ hft hwf hc locs hS hm_47 ls hl
            refine lv_iload hx hb dX2_outside_47 (lv_at hl 7 rfl) ?_
            refine kx_bipush hx hb (by decide) dX2_outside_49 ?_
            refine kx_icmp_ge (x := ((d : Nat) : Int)) (y := 8) (tgt := 166) hx hb dX2_outside_51 (by decide) (by omega) (by omega) (by omega) (by omega) (fun c_51_25 => ?_) (fun c_51_25 => ?_)
            · -- taken at 51
              refine lv_goto (tgt := 19) hx hb dX2_outside_166 (by decide) ?_
              exact ih_19  (f + 1) t2 g1 w1 H hO_a hA_pa hA_sa hA_mp hA_wt (by first | assumption | omega | (simp_all; done) | grind) (hJ.next hft (fun d2 hd2 hb2 => by rw [hwf] at hb2 ⊢; exact hc d2 ⟨hd2.1, by omega⟩ hb2)) _ hS (by omega) ls (lv_sub hl [0, 1, 2, 3, 4] rfl)
            · -- not taken at 51
              have hac := ac_rng ((d : Nat) : Int)
              have hdn := dn_rng ((d : Nat) : Int)
              have hto9 := f_to_rng (w f) ((d : Nat) : Int)
              refine lv_iload hx hb dX2_outside_54 (lv_at hl 5 rfl) ?_
              refine kx_getsN (v := .ref (D.2.2.2 0)) hx hb hK.sA hS hB hown (hK.w q1718 rfl) (fun _ h9 => h9) dX2_outside_56 ?_
              refine lv_iload hx hb dX2_outside_59 (lv_at hl 7 rfl) ?_
              refine kx_tab hx hb hK.tA hS hB d (rfl) (by omega) (by decide) dX2_outside_61 ?_
              refine kx_iadd hx hb dX2_outside_62 ?_
              refine lv_istore (lv' := [(8, .int (kI (((w f % 51) + (ac (((d : Nat) : Int))))))), (0, .ref a), (1, .ref mp), (2, .ref wt), (3, .int (kI ((f + 1 : Nat) : Int))), (4, .int (kI ((t2 : Nat) : Int))), (5, .int (kI ((w f % 51)))), (6, .int (kI ((w f / 51)))), (7, .int (kI ((d : Nat) : Int)))]) hx hb dX2_outside_63 hl (by decide) rfl (fun ls hl => ?_)
              refine lv_iload hx hb dX2_outside_65 (lv_at hl 7 rfl) ?_
              refine kx_getsN (v := .ref (D.2.2.2 1)) hx hb hK.sD hS hB hown (hK.w q1719 rfl) (fun _ h9 => h9) dX2_outside_67 ?_
              refine lv_iload hx hb dX2_outside_70 (lv_at hl 8 rfl) ?_
              refine kx_tab hx hb hK.tD hS hB d (rfl) (by omega) (by decide) dX2_outside_72 ?_
              refine kx_iadd hx hb dX2_outside_73 ?_
              refine lv_istore (lv' := [(9, .int (kI (((w f / 51) + (dn (((d : Nat) : Int))))))), (8, .int (kI (((w f % 51) + (ac (((d : Nat) : Int))))))), (0, .ref a), (1, .ref mp), (2, .ref wt), (3, .int (kI ((f + 1 : Nat) : Int))), (4, .int (kI ((t2 : Nat) : Int))), (5, .int (kI ((w f % 51)))), (6, .int (kI ((w f / 51)))), (7, .int (kI ((d : Nat) : Int)))]) hx hb dX2_outside_74 hl (by decide) rfl (fun ls hl => ?_)
              refine lv_iload hx hb dX2_outside_76 (lv_at hl 1 rfl) ?_
              refine kx_if_lt (x := ((w f % 51) + (ac (((d : Nat) : Int))))) (tgt := 104) hx hb dX2_outside_78 (by decide) (by omega) (by omega) (fun c_78_26 => ?_) (fun c_78_26 => ?_)
              · -- taken at 78
                refine kx_iconst hx hb dX2_outside_104 ?_
                refine lv_istore (lv' := [(10, .int (kI (0))), (9, .int (kI (((w f / 51) + (dn (((d : Nat) : Int))))))), (8, .int (kI (((w f % 51) + (ac (((d : Nat) : Int))))))), (0, .ref a), (1, .ref mp), (2, .ref wt), (3, .int (kI ((f + 1 : Nat) : Int))), (4, .int (kI ((t2 : Nat) : Int))), (5, .int (kI ((w f % 51)))), (6, .int (kI ((w f / 51)))), (7, .int (kI ((d : Nat) : Int)))]) hx hb dX2_outside_105 hl (by decide) rfl (fun ls hl => ?_)
                refine lv_iload hx hb dX2_outside_107 (lv_at hl 0 rfl) ?_
                refine kx_if_eq (x := 0) (tgt := 123) hx hb dX2_outside_109 (by decide) (by omega) (by omega) (fun c_109_27 => ?_) (fun c_109_27 => ?_)
                · -- taken at 109
                  refine kx_iconst hx hb dX2_outside_123 ?_
                  refine kx_eqi (f_to (w f) ((d : Nat) : Int)) (by unfold f_to; first | (rw [if_pos ⟨by omega, by omega, by omega, by omega⟩]; done) | (rw [if_neg (by omega)]; done)) ?_
                  refine lv_istore (lv' := [(11, .int (kI (f_to (w f) ((d : Nat) : Int)))), (10, .int (kI (0))), (9, .int (kI (((w f / 51) + (dn (((d : Nat) : Int))))))), (8, .int (kI (((w f % 51) + (ac (((d : Nat) : Int))))))), (0, .ref a), (1, .ref mp), (2, .ref wt), (3, .int (kI ((f + 1 : Nat) : Int))), (4, .int (kI ((t2 : Nat) : Int))), (5, .int (kI ((w f % 51)))), (6, .int (kI ((w f / 51)))), (7, .int (kI ((d : Nat) : Int)))]) hx hb dX2_outside_124 hl (by decide) rfl (fun ls hl => ?_)
                  refine lv_aload_n hx hb dX2_outside_126 rfl (lv_at hl 5 rfl) ?_
                  refine lv_iload hx hb dX2_outside_127 (lv_at hl 0 rfl) ?_
                  refine kx_iald (i := f_to (w f) ((d : Nat) : Int)) hx hb hK hA_mp ((f_to (w f) ((d : Nat) : Int)).toNat) (by omega) (by omega) (by omega) dX2_outside_129 ?_
                  refine kx_if_ne (x := (g1 ((f_to (w f) ((d : Nat) : Int)).toNat))) (tgt := 160) hx hb dX2_outside_130 (by decide) (by rcases hJ.1 (f_to (w f) ((d : Nat) : Int)).toNat with z | z; omega; (rcases hJ.2.2.2.2.2.2.2.1 (f_to (w f) ((d : Nat) : Int)).toNat with y | y <;> omega)) (by rcases hJ.1 (f_to (w f) ((d : Nat) : Int)).toNat with z | z; omega; (rcases hJ.2.2.2.2.2.2.2.1 (f_to (w f) ((d : Nat) : Int)).toNat with y | y <;> omega)) (fun c_130_28 => ?_) (fun c_130_28 => ?_)
                  · -- taken at 130
                    refine lv_iinc (v := kI (((d + 1 : Nat) : Int))) (lv' := [(7, .int (kI ((d + 1 : Nat) : Int))), (11, .int (kI (f_to (w f) ((d : Nat) : Int)))), (10, .int (kI (0))), (9, .int (kI (((w f / 51) + (dn (((d : Nat) : Int))))))), (8, .int (kI (((w f % 51) + (ac (((d : Nat) : Int))))))), (0, .ref a), (1, .ref mp), (2, .ref wt), (3, .int (kI ((f + 1 : Nat) : Int))), (4, .int (kI ((t2 : Nat) : Int))), (5, .int (kI ((w f % 51)))), (6, .int (kI ((w f / 51))))]) hx hb dX2_outside_160 hl (k := 11) rfl (kI_incN _ _) (by decide) rfl (fun ls hl => ?_)
                    refine lv_goto (tgt := 47) hx hb dX2_outside_163 (by decide) ?_
                    exact ih_47  ((d + 1)) t2 g1 w1 H hO_a hA_pa hA_sa hA_mp hA_wt (by first | assumption | omega | (simp_all; done) | grind) (by first | assumption | omega | (simp_all; done) | grind) (by first | exact hJ | exact hJ.push2 hft hwf ⟨by omega, by omega⟩ hz9 hb9) (by first | assumption | omega | (simp_all; done) | grind) (by first | exact hwf | (rw [kup_ne (by omega)]; exact hwf)) (by first | exact hc.next (fun _ => by assumption) | exact hc.next (fun z => Bool.noConfusion ((by assumption : f_bar L (w f % 51) (w f / 51) ((d : Nat) : Int) = true).symm.trans z)) | exact (hc.push _).next (fun _ => by rw [kup_self]; decide)) _ hS (by omega) ls (lv_sub hl [5, 6, 7, 8, 9, 10, 11, 0] rfl)
                  · -- not taken at 130
                    have hz9 : g1 (f_to (w f) ((d : Nat) : Int)).toNat = 0 := by assumption
                    have hlt9 := hJ.lt (by omega) hz9
                    refine lv_aload_n hx hb dX2_outside_133 rfl (lv_at hl 4 rfl) ?_
                    refine lv_iload hx hb dX2_outside_134 (lv_at hl 9 rfl) ?_
                    refine lv_iload hx hb dX2_outside_136 (lv_at hl 10 rfl) ?_
                    refine lv_iload hx hb dX2_outside_138 (lv_at hl 11 rfl) ?_
                    refine kx_cb0 (va_runS (As := [.ref a, .int (kI ((w f % 51))), .int (kI ((w f / 51))), .int (kI ((d : Nat) : Int))]) (rest := []) ⟨hx, hb, hml, hown, hts⟩ (m_X2_isBarred l D H a pa sa ea gp gs L ((w f % 51)) ((w f / 51)) (((d : Nat) : Int)) hO_a hA_pa hA_sa hM hok (by first | assumption | omega) (by first | assumption | omega) (by first | assumption | omega)) (va_cwS 4 hts (lw_S q2108 q2109 q80 q2110) rfl rfl rfl (by decide +kernel) ⟨Nat.le_of_ble_eq_true rfl, Nat.le_of_ble_eq_true rfl⟩) (kx_ps hK hS hB) rfl rfl hl.1 rfl (lv_room (Nat.le_of_ble_eq_true rfl)) dX2_outside_140 ⟨by first | exact Nat.le_of_ble_eq_true rfl | omega | (show _ ≤ _; omega) | (dsimp only [headSpec]; omega), by first | exact Nat.le_of_ble_eq_true rfl | omega | (show _ ≤ _; omega) | (dsimp only [headSpec]; omega)⟩) hS (fun z_32 locs_29 hz_31 hS_30 => ?_)
                    subst z_32
                    refine kx_ifnz (tgt := 160) hx hb dX2_outside_143 (by decide) (fun c_143_33 => ?_) (fun c_143_33 => ?_)
                    · -- taken at 143
                      refine lv_iinc (v := kI (((d + 1 : Nat) : Int))) (lv' := [(7, .int (kI ((d + 1 : Nat) : Int))), (11, .int (kI (f_to (w f) ((d : Nat) : Int)))), (10, .int (kI (0))), (9, .int (kI (((w f / 51) + (dn (((d : Nat) : Int))))))), (8, .int (kI (((w f % 51) + (ac (((d : Nat) : Int))))))), (0, .ref a), (1, .ref mp), (2, .ref wt), (3, .int (kI ((f + 1 : Nat) : Int))), (4, .int (kI ((t2 : Nat) : Int))), (5, .int (kI ((w f % 51)))), (6, .int (kI ((w f / 51))))]) hx hb dX2_outside_160 hl (k := 11) rfl (kI_incN _ _) (by decide) rfl (fun ls hl => ?_)
                      refine lv_goto (tgt := 47) hx hb dX2_outside_163 (by decide) ?_
                      exact ih_47  ((d + 1)) t2 g1 w1 H hO_a hA_pa hA_sa hA_mp hA_wt (by first | assumption | omega | (simp_all; done) | grind) (by first | assumption | omega | (simp_all; done) | grind) (by first | exact hJ | exact hJ.push2 hft hwf ⟨by omega, by omega⟩ hz9 hb9) (by first | assumption | omega | (simp_all; done) | grind) (by first | exact hwf | (rw [kup_ne (by omega)]; exact hwf)) (by first | exact hc.next (fun _ => by assumption) | exact hc.next (fun z => Bool.noConfusion ((by assumption : f_bar L (w f % 51) (w f / 51) ((d : Nat) : Int) = true).symm.trans z)) | exact (hc.push _).next (fun _ => by rw [kup_self]; decide)) _ hS_30 (by omega) ls (lv_sub hl [5, 6, 7, 8, 9, 10, 11, 0] rfl)
                    · -- not taken at 143
                      have hb9 : f_bar L (w f % 51) (w f / 51) ((d : Nat) : Int) = false := by assumption
                      refine lv_aload_n hx hb dX2_outside_146 rfl (lv_at hl 5 rfl) ?_
                      refine lv_iload hx hb dX2_outside_147 (lv_at hl 0 rfl) ?_
                      refine kx_iconst hx hb dX2_outside_149 ?_
                      refine kx_iast (i := f_to (w f) ((d : Nat) : Int)) (x := 2) hx hb hK hA_mp hS_30 (by first | rfl | exact Or.inl rfl | exact Or.inr rfl | exact Or.inr (Or.inl rfl) | exact Or.inr (Or.inr rfl) | exact Or.inr (Or.inr (Or.inl rfl)) | exact Or.inr (Or.inr (Or.inr rfl)) | ((try dsimp only); (try simp only [kNW]); omega)) ((f_to (w f) ((d : Nat) : Int)).toNat) (by omega) (by omega) (by omega) dX2_outside_150 (fun H_36 locs_37 hA_35 hU_34 hS_38 => ?_)
                      have hzu_39 := hU_34.1
                      refine lv_aload_n hx hb dX2_outside_151 rfl (lv_at hl 6 rfl) ?_
                      refine lv_iload hx hb dX2_outside_152 (lv_at hl 8 rfl) ?_
                      refine lv_iload hx hb dX2_outside_154 (lv_at hl 0 rfl) ?_
                      have h_40 := hA_wt.up hU_34 (by first | assumption | exact Ne.symm (by assumption) | omega | (have h9 := hA_wt.lt; omega))
                      refine kx_iast (i := ((t2 : Nat) : Int)) (x := f_to (w f) ((d : Nat) : Int)) hx hb hK h_40 hS_38 (by first | rfl | exact Or.inl rfl | exact Or.inr rfl | exact Or.inr (Or.inl rfl) | exact Or.inr (Or.inr rfl) | exact Or.inr (Or.inr (Or.inl rfl)) | exact Or.inr (Or.inr (Or.inr rfl)) | ((try dsimp only); (try simp only [kNW]); omega)) t2 (rfl) (by omega) (by omega) dX2_outside_156 (fun H_43 locs_44 hA_42 hU_41 hS_45 => ?_)
                      have hzu_46 := hU_41.1
                      refine lv_iinc (v := kI (((t2 + 1 : Nat) : Int))) (lv' := [(4, .int (kI ((t2 + 1 : Nat) : Int))), (11, .int (kI (f_to (w f) ((d : Nat) : Int)))), (10, .int (kI (0))), (9, .int (kI (((w f / 51) + (dn (((d : Nat) : Int))))))), (8, .int (kI (((w f % 51) + (ac (((d : Nat) : Int))))))), (0, .ref a), (1, .ref mp), (2, .ref wt), (3, .int (kI ((f + 1 : Nat) : Int))), (5, .int (kI ((w f % 51)))), (6, .int (kI ((w f / 51)))), (7, .int (kI ((d : Nat) : Int)))]) hx hb dX2_outside_157 hl (k := 8) rfl (kI_incN _ _) (by decide) rfl (fun ls hl => ?_)
                      refine lv_iinc (v := kI (((d + 1 : Nat) : Int))) (lv' := [(7, .int (kI ((d + 1 : Nat) : Int))), (4, .int (kI ((t2 + 1 : Nat) : Int))), (11, .int (kI (f_to (w f) ((d : Nat) : Int)))), (10, .int (kI (0))), (9, .int (kI (((w f / 51) + (dn (((d : Nat) : Int))))))), (8, .int (kI (((w f % 51) + (ac (((d : Nat) : Int))))))), (0, .ref a), (1, .ref mp), (2, .ref wt), (3, .int (kI ((f + 1 : Nat) : Int))), (5, .int (kI ((w f % 51)))), (6, .int (kI ((w f / 51))))]) hx hb dX2_outside_160 hl (k := 11) rfl (kI_incN _ _) (by decide) rfl (fun ls hl => ?_)
                      refine lv_goto (tgt := 47) hx hb dX2_outside_163 (by decide) ?_
                      have h_47 := hO_a.up hU_34 (by first | assumption | exact Ne.symm (by assumption) | omega | (have h9 := hO_a.lt; omega))
                      have h_48 := h_47.up hU_41 (by first | assumption | exact Ne.symm (by assumption) | omega | (have h9 := h_47.lt; omega))
                      have h_49 := hA_pa.up hU_34 (by first | assumption | exact Ne.symm (by assumption) | omega | (have h9 := hA_pa.lt; omega))
                      have h_50 := h_49.up hU_41 (by first | assumption | exact Ne.symm (by assumption) | omega | (have h9 := h_49.lt; omega))
                      have h_51 := hA_sa.up hU_34 (by first | assumption | exact Ne.symm (by assumption) | omega | (have h9 := hA_sa.lt; omega))
                      have h_52 := h_51.up hU_41 (by first | assumption | exact Ne.symm (by assumption) | omega | (have h9 := h_51.lt; omega))
                      have h_53 := hA_35.up hU_41 (by first | assumption | exact Ne.symm (by assumption) | omega | (have h9 := hA_35.lt; omega))
                      exact ih_47  ((d + 1)) (t2 + 1) (kup g1 ((f_to (w f) ((d : Nat) : Int)).toNat) 2) (kup w1 t2 (f_to (w f) ((d : Nat) : Int))) H_43 h_48 h_50 h_52 h_53 hA_42 (by first | assumption | omega | (simp_all; done) | grind) (by first | assumption | omega | (simp_all; done) | grind) (by first | exact hJ | exact hJ.push2 hft hwf ⟨by omega, by omega⟩ hz9 hb9) (by first | assumption | omega | (simp_all; done) | grind) (by first | exact hwf | (rw [kup_ne (by omega)]; exact hwf)) (by first | exact hc.next (fun _ => by assumption) | exact hc.next (fun z => Bool.noConfusion ((by assumption : f_bar L (w f % 51) (w f / 51) ((d : Nat) : Int) = true).symm.trans z)) | exact (hc.push _).next (fun _ => by rw [kup_self]; decide)) _ hS_45 (by omega) ls (lv_sub hl [6, 7, 8, 9, 1, 10, 11, 0] rfl)
                · -- not taken at 109
                  exfalso; omega
              · -- not taken at 78
                refine lv_iload hx hb dX2_outside_81 (lv_at hl 1 rfl) ?_
                refine kx_bipush hx hb (by decide) dX2_outside_83 ?_
                refine kx_icmp_ge (x := ((w f % 51) + (ac (((d : Nat) : Int))))) (y := 51) (tgt := 104) hx hb dX2_outside_85 (by decide) (by omega) (by omega) (by omega) (by omega) (fun c_85_54 => ?_) (fun c_85_54 => ?_)
                · -- taken at 85
                  refine kx_iconst hx hb dX2_outside_104 ?_
                  refine lv_istore (lv' := [(10, .int (kI (0))), (9, .int (kI (((w f / 51) + (dn (((d : Nat) : Int))))))), (8, .int (kI (((w f % 51) + (ac (((d : Nat) : Int))))))), (0, .ref a), (1, .ref mp), (2, .ref wt), (3, .int (kI ((f + 1 : Nat) : Int))), (4, .int (kI ((t2 : Nat) : Int))), (5, .int (kI ((w f % 51)))), (6, .int (kI ((w f / 51)))), (7, .int (kI ((d : Nat) : Int)))]) hx hb dX2_outside_105 hl (by decide) rfl (fun ls hl => ?_)
                  refine lv_iload hx hb dX2_outside_107 (lv_at hl 0 rfl) ?_
                  refine kx_if_eq (x := 0) (tgt := 123) hx hb dX2_outside_109 (by decide) (by omega) (by omega) (fun c_109_55 => ?_) (fun c_109_55 => ?_)
                  · -- taken at 109
                    refine kx_iconst hx hb dX2_outside_123 ?_
                    refine kx_eqi (f_to (w f) ((d : Nat) : Int)) (by unfold f_to; first | (rw [if_pos ⟨by omega, by omega, by omega, by omega⟩]; done) | (rw [if_neg (by omega)]; done)) ?_
                    refine lv_istore (lv' := [(11, .int (kI (f_to (w f) ((d : Nat) : Int)))), (10, .int (kI (0))), (9, .int (kI (((w f / 51) + (dn (((d : Nat) : Int))))))), (8, .int (kI (((w f % 51) + (ac (((d : Nat) : Int))))))), (0, .ref a), (1, .ref mp), (2, .ref wt), (3, .int (kI ((f + 1 : Nat) : Int))), (4, .int (kI ((t2 : Nat) : Int))), (5, .int (kI ((w f % 51)))), (6, .int (kI ((w f / 51)))), (7, .int (kI ((d : Nat) : Int)))]) hx hb dX2_outside_124 hl (by decide) rfl (fun ls hl => ?_)
                    refine lv_aload_n hx hb dX2_outside_126 rfl (lv_at hl 5 rfl) ?_
                    refine lv_iload hx hb dX2_outside_127 (lv_at hl 0 rfl) ?_
                    refine kx_iald (i := f_to (w f) ((d : Nat) : Int)) hx hb hK hA_mp ((f_to (w f) ((d : Nat) : Int)).toNat) (by omega) (by omega) (by omega) dX2_outside_129 ?_
                    refine kx_if_ne (x := (g1 ((f_to (w f) ((d : Nat) : Int)).toNat))) (tgt := 160) hx hb dX2_outside_130 (by decide) (by rcases hJ.1 (f_to (w f) ((d : Nat) : Int)).toNat with z | z; omega; (rcases hJ.2.2.2.2.2.2.2.1 (f_to (w f) ((d : Nat) : Int)).toNat with y | y <;> omega)) (by rcases hJ.1 (f_to (w f) ((d : Nat) : Int)).toNat with z | z; omega; (rcases hJ.2.2.2.2.2.2.2.1 (f_to (w f) ((d : Nat) : Int)).toNat with y | y <;> omega)) (fun c_130_56 => ?_) (fun c_130_56 => ?_)
                    · -- taken at 130
                      refine lv_iinc (v := kI (((d + 1 : Nat) : Int))) (lv' := [(7, .int (kI ((d + 1 : Nat) : Int))), (11, .int (kI (f_to (w f) ((d : Nat) : Int)))), (10, .int (kI (0))), (9, .int (kI (((w f / 51) + (dn (((d : Nat) : Int))))))), (8, .int (kI (((w f % 51) + (ac (((d : Nat) : Int))))))), (0, .ref a), (1, .ref mp), (2, .ref wt), (3, .int (kI ((f + 1 : Nat) : Int))), (4, .int (kI ((t2 : Nat) : Int))), (5, .int (kI ((w f % 51)))), (6, .int (kI ((w f / 51))))]) hx hb dX2_outside_160 hl (k := 11) rfl (kI_incN _ _) (by decide) rfl (fun ls hl => ?_)
                      refine lv_goto (tgt := 47) hx hb dX2_outside_163 (by decide) ?_
                      exact ih_47  ((d + 1)) t2 g1 w1 H hO_a hA_pa hA_sa hA_mp hA_wt (by first | assumption | omega | (simp_all; done) | grind) (by first | assumption | omega | (simp_all; done) | grind) (by first | exact hJ | exact hJ.push2 hft hwf ⟨by omega, by omega⟩ hz9 hb9) (by first | assumption | omega | (simp_all; done) | grind) (by first | exact hwf | (rw [kup_ne (by omega)]; exact hwf)) (by first | exact hc.next (fun _ => by assumption) | exact hc.next (fun z => Bool.noConfusion ((by assumption : f_bar L (w f % 51) (w f / 51) ((d : Nat) : Int) = true).symm.trans z)) | exact (hc.push _).next (fun _ => by rw [kup_self]; decide)) _ hS (by omega) ls (lv_sub hl [5, 6, 7, 8, 9, 10, 11, 0] rfl)
                    · -- not taken at 130
                      have hz9 : g1 (f_to (w f) ((d : Nat) : Int)).toNat = 0 := by assumption
                      have hlt9 := hJ.lt (by omega) hz9
                      refine lv_aload_n hx hb dX2_outside_133 rfl (lv_at hl 4 rfl) ?_
                      refine lv_iload hx hb dX2_outside_134 (lv_at hl 9 rfl) ?_
                      refine lv_iload hx hb dX2_outside_136 (lv_at hl 10 rfl) ?_
                      refine lv_iload hx hb dX2_outside_138 (lv_at hl 11 rfl) ?_
                      refine kx_cb0 (va_runS (As := [.ref a, .int (kI ((w f % 51))), .int (kI ((w f / 51))), .int (kI ((d : Nat) : Int))]) (rest := []) ⟨hx, hb, hml, hown, hts⟩ (m_X2_isBarred l D H a pa sa ea gp gs L ((w f % 51)) ((w f / 51)) (((d : Nat) : Int)) hO_a hA_pa hA_sa hM hok (by first | assumption | omega) (by first | assumption | omega) (by first | assumption | omega)) (va_cwS 4 hts (lw_S q2108 q2109 q80 q2110) rfl rfl rfl (by decide +kernel) ⟨Nat.le_of_ble_eq_true rfl, Nat.le_of_ble_eq_true rfl⟩) (kx_ps hK hS hB) rfl rfl hl.1 rfl (lv_room (Nat.le_of_ble_eq_true rfl)) dX2_outside_140 ⟨by first | exact Nat.le_of_ble_eq_true rfl | omega | (show _ ≤ _; omega) | (dsimp only [headSpec]; omega), by first | exact Nat.le_of_ble_eq_true rfl | omega | (show _ ≤ _; omega) | (dsimp only [headSpec]; omega)⟩) hS (fun z_60 locs_57 hz_59 hS_58 => ?_)
                      subst z_60
                      refine kx_ifnz (tgt := 160) hx hb dX2_outside_143 (by decide) (fun c_143_61 => ?_) (fun c_143_61 => ?_)
                      · -- taken at 143
                        refine lv_iinc (v := kI (((d + 1 : Nat) : Int))) (lv' := [(7, .int (kI ((d + 1 : Nat) : Int))), (11, .int (kI (f_to (w f) ((d : Nat) : Int)))), (10, .int (kI (0))), (9, .int (kI (((w f / 51) + (dn (((d : Nat) : Int))))))), (8, .int (kI (((w f % 51) + (ac (((d : Nat) : Int))))))), (0, .ref a), (1, .ref mp), (2, .ref wt), (3, .int (kI ((f + 1 : Nat) : Int))), (4, .int (kI ((t2 : Nat) : Int))), (5, .int (kI ((w f % 51)))), (6, .int (kI ((w f / 51))))]) hx hb dX2_outside_160 hl (k := 11) rfl (kI_incN _ _) (by decide) rfl (fun ls hl => ?_)
                        refine lv_goto (tgt := 47) hx hb dX2_outside_163 (by decide) ?_
                        exact ih_47  ((d + 1)) t2 g1 w1 H hO_a hA_pa hA_sa hA_mp hA_wt (by first | assumption | omega | (simp_all; done) | grind) (by first | assumption | omega | (simp_all; done) | grind) (by first | exact hJ | exact hJ.push2 hft hwf ⟨by omega, by omega⟩ hz9 hb9) (by first | assumption | omega | (simp_all; done) | grind) (by first | exact hwf | (rw [kup_ne (by omega)]; exact hwf)) (by first | exact hc.next (fun _ => by assumption) | exact hc.next (fun z => Bool.noConfusion ((by assumption : f_bar L (w f % 51) (w f / 51) ((d : Nat) : Int) = true).symm.trans z)) | exact (hc.push _).next (fun _ => by rw [kup_self]; decide)) _ hS_58 (by omega) ls (lv_sub hl [5, 6, 7, 8, 9, 10, 11, 0] rfl)
                      · -- not taken at 143
                        have hb9 : f_bar L (w f % 51) (w f / 51) ((d : Nat) : Int) = false := by assumption
                        refine lv_aload_n hx hb dX2_outside_146 rfl (lv_at hl 5 rfl) ?_
                        refine lv_iload hx hb dX2_outside_147 (lv_at hl 0 rfl) ?_
                        refine kx_iconst hx hb dX2_outside_149 ?_
                        refine kx_iast (i := f_to (w f) ((d : Nat) : Int)) (x := 2) hx hb hK hA_mp hS_58 (by first | rfl | exact Or.inl rfl | exact Or.inr rfl | exact Or.inr (Or.inl rfl) | exact Or.inr (Or.inr rfl) | exact Or.inr (Or.inr (Or.inl rfl)) | exact Or.inr (Or.inr (Or.inr rfl)) | ((try dsimp only); (try simp only [kNW]); omega)) ((f_to (w f) ((d : Nat) : Int)).toNat) (by omega) (by omega) (by omega) dX2_outside_150 (fun H_64 locs_65 hA_63 hU_62 hS_66 => ?_)
                        have hzu_67 := hU_62.1
                        refine lv_aload_n hx hb dX2_outside_151 rfl (lv_at hl 6 rfl) ?_
                        refine lv_iload hx hb dX2_outside_152 (lv_at hl 8 rfl) ?_
                        refine lv_iload hx hb dX2_outside_154 (lv_at hl 0 rfl) ?_
                        have h_68 := hA_wt.up hU_62 (by first | assumption | exact Ne.symm (by assumption) | omega | (have h9 := hA_wt.lt; omega))
                        refine kx_iast (i := ((t2 : Nat) : Int)) (x := f_to (w f) ((d : Nat) : Int)) hx hb hK h_68 hS_66 (by first | rfl | exact Or.inl rfl | exact Or.inr rfl | exact Or.inr (Or.inl rfl) | exact Or.inr (Or.inr rfl) | exact Or.inr (Or.inr (Or.inl rfl)) | exact Or.inr (Or.inr (Or.inr rfl)) | ((try dsimp only); (try simp only [kNW]); omega)) t2 (rfl) (by omega) (by omega) dX2_outside_156 (fun H_71 locs_72 hA_70 hU_69 hS_73 => ?_)
                        have hzu_74 := hU_69.1
                        refine lv_iinc (v := kI (((t2 + 1 : Nat) : Int))) (lv' := [(4, .int (kI ((t2 + 1 : Nat) : Int))), (11, .int (kI (f_to (w f) ((d : Nat) : Int)))), (10, .int (kI (0))), (9, .int (kI (((w f / 51) + (dn (((d : Nat) : Int))))))), (8, .int (kI (((w f % 51) + (ac (((d : Nat) : Int))))))), (0, .ref a), (1, .ref mp), (2, .ref wt), (3, .int (kI ((f + 1 : Nat) : Int))), (5, .int (kI ((w f % 51)))), (6, .int (kI ((w f / 51)))), (7, .int (kI ((d : Nat) : Int)))]) hx hb dX2_outside_157 hl (k := 8) rfl (kI_incN _ _) (by decide) rfl (fun ls hl => ?_)
                        refine lv_iinc (v := kI (((d + 1 : Nat) : Int))) (lv' := [(7, .int (kI ((d + 1 : Nat) : Int))), (4, .int (kI ((t2 + 1 : Nat) : Int))), (11, .int (kI (f_to (w f) ((d : Nat) : Int)))), (10, .int (kI (0))), (9, .int (kI (((w f / 51) + (dn (((d : Nat) : Int))))))), (8, .int (kI (((w f % 51) + (ac (((d : Nat) : Int))))))), (0, .ref a), (1, .ref mp), (2, .ref wt), (3, .int (kI ((f + 1 : Nat) : Int))), (5, .int (kI ((w f % 51)))), (6, .int (kI ((w f / 51))))]) hx hb dX2_outside_160 hl (k := 11) rfl (kI_incN _ _) (by decide) rfl (fun ls hl => ?_)
                        refine lv_goto (tgt := 47) hx hb dX2_outside_163 (by decide) ?_
                        have h_75 := hO_a.up hU_62 (by first | assumption | exact Ne.symm (by assumption) | omega | (have h9 := hO_a.lt; omega))
                        have h_76 := h_75.up hU_69 (by first | assumption | exact Ne.symm (by assumption) | omega | (have h9 := h_75.lt; omega))
                        have h_77 := hA_pa.up hU_62 (by first | assumption | exact Ne.symm (by assumption) | omega | (have h9 := hA_pa.lt; omega))
                        have h_78 := h_77.up hU_69 (by first | assumption | exact Ne.symm (by assumption) | omega | (have h9 := h_77.lt; omega))
                        have h_79 := hA_sa.up hU_62 (by first | assumption | exact Ne.symm (by assumption) | omega | (have h9 := hA_sa.lt; omega))
                        have h_80 := h_79.up hU_69 (by first | assumption | exact Ne.symm (by assumption) | omega | (have h9 := h_79.lt; omega))
                        have h_81 := hA_63.up hU_69 (by first | assumption | exact Ne.symm (by assumption) | omega | (have h9 := hA_63.lt; omega))
                        exact ih_47  ((d + 1)) (t2 + 1) (kup g1 ((f_to (w f) ((d : Nat) : Int)).toNat) 2) (kup w1 t2 (f_to (w f) ((d : Nat) : Int))) H_71 h_76 h_78 h_80 h_81 hA_70 (by first | assumption | omega | (simp_all; done) | grind) (by first | assumption | omega | (simp_all; done) | grind) (by first | exact hJ | exact hJ.push2 hft hwf ⟨by omega, by omega⟩ hz9 hb9) (by first | assumption | omega | (simp_all; done) | grind) (by first | exact hwf | (rw [kup_ne (by omega)]; exact hwf)) (by first | exact hc.next (fun _ => by assumption) | exact hc.next (fun z => Bool.noConfusion ((by assumption : f_bar L (w f % 51) (w f / 51) ((d : Nat) : Int) = true).symm.trans z)) | exact (hc.push _).next (fun _ => by rw [kup_self]; decide)) _ hS_73 (by omega) ls (lv_sub hl [6, 7, 8, 9, 1, 10, 11, 0] rfl)
                  · -- not taken at 109
                    exfalso; omega
                · -- not taken at 85
                  refine lv_iload hx hb dX2_outside_88 (lv_at hl 0 rfl) ?_
                  refine kx_if_lt (x := ((w f / 51) + (dn (((d : Nat) : Int))))) (tgt := 104) hx hb dX2_outside_90 (by decide) (by omega) (by omega) (fun c_90_82 => ?_) (fun c_90_82 => ?_)
                  · -- taken at 90
                    refine kx_iconst hx hb dX2_outside_104 ?_
                    refine lv_istore (lv' := [(10, .int (kI (0))), (9, .int (kI (((w f / 51) + (dn (((d : Nat) : Int))))))), (8, .int (kI (((w f % 51) + (ac (((d : Nat) : Int))))))), (0, .ref a), (1, .ref mp), (2, .ref wt), (3, .int (kI ((f + 1 : Nat) : Int))), (4, .int (kI ((t2 : Nat) : Int))), (5, .int (kI ((w f % 51)))), (6, .int (kI ((w f / 51)))), (7, .int (kI ((d : Nat) : Int)))]) hx hb dX2_outside_105 hl (by decide) rfl (fun ls hl => ?_)
                    refine lv_iload hx hb dX2_outside_107 (lv_at hl 0 rfl) ?_
                    refine kx_if_eq (x := 0) (tgt := 123) hx hb dX2_outside_109 (by decide) (by omega) (by omega) (fun c_109_83 => ?_) (fun c_109_83 => ?_)
                    · -- taken at 109
                      refine kx_iconst hx hb dX2_outside_123 ?_
                      refine kx_eqi (f_to (w f) ((d : Nat) : Int)) (by unfold f_to; first | (rw [if_pos ⟨by omega, by omega, by omega, by omega⟩]; done) | (rw [if_neg (by omega)]; done)) ?_
                      refine lv_istore (lv' := [(11, .int (kI (f_to (w f) ((d : Nat) : Int)))), (10, .int (kI (0))), (9, .int (kI (((w f / 51) + (dn (((d : Nat) : Int))))))), (8, .int (kI (((w f % 51) + (ac (((d : Nat) : Int))))))), (0, .ref a), (1, .ref mp), (2, .ref wt), (3, .int (kI ((f + 1 : Nat) : Int))), (4, .int (kI ((t2 : Nat) : Int))), (5, .int (kI ((w f % 51)))), (6, .int (kI ((w f / 51)))), (7, .int (kI ((d : Nat) : Int)))]) hx hb dX2_outside_124 hl (by decide) rfl (fun ls hl => ?_)
                      refine lv_aload_n hx hb dX2_outside_126 rfl (lv_at hl 5 rfl) ?_
                      refine lv_iload hx hb dX2_outside_127 (lv_at hl 0 rfl) ?_
                      refine kx_iald (i := f_to (w f) ((d : Nat) : Int)) hx hb hK hA_mp ((f_to (w f) ((d : Nat) : Int)).toNat) (by omega) (by omega) (by omega) dX2_outside_129 ?_
                      refine kx_if_ne (x := (g1 ((f_to (w f) ((d : Nat) : Int)).toNat))) (tgt := 160) hx hb dX2_outside_130 (by decide) (by rcases hJ.1 (f_to (w f) ((d : Nat) : Int)).toNat with z | z; omega; (rcases hJ.2.2.2.2.2.2.2.1 (f_to (w f) ((d : Nat) : Int)).toNat with y | y <;> omega)) (by rcases hJ.1 (f_to (w f) ((d : Nat) : Int)).toNat with z | z; omega; (rcases hJ.2.2.2.2.2.2.2.1 (f_to (w f) ((d : Nat) : Int)).toNat with y | y <;> omega)) (fun c_130_84 => ?_) (fun c_130_84 => ?_)
                      · -- taken at 130
                        refine lv_iinc (v := kI (((d + 1 : Nat) : Int))) (lv' := [(7, .int (kI ((d + 1 : Nat) : Int))), (11, .int (kI (f_to (w f) ((d : Nat) : Int)))), (10, .int (kI (0))), (9, .int (kI (((w f / 51) + (dn (((d : Nat) : Int))))))), (8, .int (kI (((w f % 51) + (ac (((d : Nat) : Int))))))), (0, .ref a), (1, .ref mp), (2, .ref wt), (3, .int (kI ((f + 1 : Nat) : Int))), (4, .int (kI ((t2 : Nat) : Int))), (5, .int (kI ((w f % 51)))), (6, .int (kI ((w f / 51))))]) hx hb dX2_outside_160 hl (k := 11) rfl (kI_incN _ _) (by decide) rfl (fun ls hl => ?_)
                        refine lv_goto (tgt := 47) hx hb dX2_outside_163 (by decide) ?_
                        exact ih_47  ((d + 1)) t2 g1 w1 H hO_a hA_pa hA_sa hA_mp hA_wt (by first | assumption | omega | (simp_all; done) | grind) (by first | assumption | omega | (simp_all; done) | grind) (by first | exact hJ | exact hJ.push2 hft hwf ⟨by omega, by omega⟩ hz9 hb9) (by first | assumption | omega | (simp_all; done) | grind) (by first | exact hwf | (rw [kup_ne (by omega)]; exact hwf)) (by first | exact hc.next (fun _ => by assumption) | exact hc.next (fun z => Bool.noConfusion ((by assumption : f_bar L (w f % 51) (w f / 51) ((d : Nat) : Int) = true).symm.trans z)) | exact (hc.push _).next (fun _ => by rw [kup_self]; decide)) _ hS (by omega) ls (lv_sub hl [5, 6, 7, 8, 9, 10, 11, 0] rfl)
                      · -- not taken at 130
                        have hz9 : g1 (f_to (w f) ((d : Nat) : Int)).toNat = 0 := by assumption
                        have hlt9 := hJ.lt (by omega) hz9
                        refine lv_aload_n hx hb dX2_outside_133 rfl (lv_at hl 4 rfl) ?_
                        refine lv_iload hx hb dX2_outside_134 (lv_at hl 9 rfl) ?_
                        refine lv_iload hx hb dX2_outside_136 (lv_at hl 10 rfl) ?_
                        refine lv_iload hx hb dX2_outside_138 (lv_at hl 11 rfl) ?_
                        refine kx_cb0 (va_runS (As := [.ref a, .int (kI ((w f % 51))), .int (kI ((w f / 51))), .int (kI ((d : Nat) : Int))]) (rest := []) ⟨hx, hb, hml, hown, hts⟩ (m_X2_isBarred l D H a pa sa ea gp gs L ((w f % 51)) ((w f / 51)) (((d : Nat) : Int)) hO_a hA_pa hA_sa hM hok (by first | assumption | omega) (by first | assumption | omega) (by first | assumption | omega)) (va_cwS 4 hts (lw_S q2108 q2109 q80 q2110) rfl rfl rfl (by decide +kernel) ⟨Nat.le_of_ble_eq_true rfl, Nat.le_of_ble_eq_true rfl⟩) (kx_ps hK hS hB) rfl rfl hl.1 rfl (lv_room (Nat.le_of_ble_eq_true rfl)) dX2_outside_140 ⟨by first | exact Nat.le_of_ble_eq_true rfl | omega | (show _ ≤ _; omega) | (dsimp only [headSpec]; omega), by first | exact Nat.le_of_ble_eq_true rfl | omega | (show _ ≤ _; omega) | (dsimp only [headSpec]; omega)⟩) hS (fun z_88 locs_85 hz_87 hS_86 => ?_)
                        subst z_88
                        refine kx_ifnz (tgt := 160) hx hb dX2_outside_143 (by decide) (fun c_143_89 => ?_) (fun c_143_89 => ?_)
                        · -- taken at 143
                          refine lv_iinc (v := kI (((d + 1 : Nat) : Int))) (lv' := [(7, .int (kI ((d + 1 : Nat) : Int))), (11, .int (kI (f_to (w f) ((d : Nat) : Int)))), (10, .int (kI (0))), (9, .int (kI (((w f / 51) + (dn (((d : Nat) : Int))))))), (8, .int (kI (((w f % 51) + (ac (((d : Nat) : Int))))))), (0, .ref a), (1, .ref mp), (2, .ref wt), (3, .int (kI ((f + 1 : Nat) : Int))), (4, .int (kI ((t2 : Nat) : Int))), (5, .int (kI ((w f % 51)))), (6, .int (kI ((w f / 51))))]) hx hb dX2_outside_160 hl (k := 11) rfl (kI_incN _ _) (by decide) rfl (fun ls hl => ?_)
                          refine lv_goto (tgt := 47) hx hb dX2_outside_163 (by decide) ?_
                          exact ih_47  ((d + 1)) t2 g1 w1 H hO_a hA_pa hA_sa hA_mp hA_wt (by first | assumption | omega | (simp_all; done) | grind) (by first | assumption | omega | (simp_all; done) | grind) (by first | exact hJ | exact hJ.push2 hft hwf ⟨by omega, by omega⟩ hz9 hb9) (by first | assumption | omega | (simp_all; done) | grind) (by first | exact hwf | (rw [kup_ne (by omega)]; exact hwf)) (by first | exact hc.next (fun _ => by assumption) | exact hc.next (fun z => Bool.noConfusion ((by assumption : f_bar L (w f % 51) (w f / 51) ((d : Nat) : Int) = true).symm.trans z)) | exact (hc.push _).next (fun _ => by rw [kup_self]; decide)) _ hS_86 (by omega) ls (lv_sub hl [5, 6, 7, 8, 9, 10, 11, 0] rfl)
                        · -- not taken at 143
                          have hb9 : f_bar L (w f % 51) (w f / 51) ((d : Nat) : Int) = false := by assumption
                          refine lv_aload_n hx hb dX2_outside_146 rfl (lv_at hl 5 rfl) ?_
                          refine lv_iload hx hb dX2_outside_147 (lv_at hl 0 rfl) ?_
                          refine kx_iconst hx hb dX2_outside_149 ?_
                          refine kx_iast (i := f_to (w f) ((d : Nat) : Int)) (x := 2) hx hb hK hA_mp hS_86 (by first | rfl | exact Or.inl rfl | exact Or.inr rfl | exact Or.inr (Or.inl rfl) | exact Or.inr (Or.inr rfl) | exact Or.inr (Or.inr (Or.inl rfl)) | exact Or.inr (Or.inr (Or.inr rfl)) | ((try dsimp only); (try simp only [kNW]); omega)) ((f_to (w f) ((d : Nat) : Int)).toNat) (by omega) (by omega) (by omega) dX2_outside_150 (fun H_92 locs_93 hA_91 hU_90 hS_94 => ?_)
                          have hzu_95 := hU_90.1
                          refine lv_aload_n hx hb dX2_outside_151 rfl (lv_at hl 6 rfl) ?_
                          refine lv_iload hx hb dX2_outside_152 (lv_at hl 8 rfl) ?_
                          refine lv_iload hx hb dX2_outside_154 (lv_at hl 0 rfl) ?_
                          have h_96 := hA_wt.up hU_90 (by first | assumption | exact Ne.symm (by assumption) | omega | (have h9 := hA_wt.lt; omega))
                          refine kx_iast (i := ((t2 : Nat) : Int)) (x := f_to (w f) ((d : Nat) : Int)) hx hb hK h_96 hS_94 (by first | rfl | exact Or.inl rfl | exact Or.inr rfl | exact Or.inr (Or.inl rfl) | exact Or.inr (Or.inr rfl) | exact Or.inr (Or.inr (Or.inl rfl)) | exact Or.inr (Or.inr (Or.inr rfl)) | ((try dsimp only); (try simp only [kNW]); omega)) t2 (rfl) (by omega) (by omega) dX2_outside_156 (fun H_99 locs_100 hA_98 hU_97 hS_101 => ?_)
                          have hzu_102 := hU_97.1
                          refine lv_iinc (v := kI (((t2 + 1 : Nat) : Int))) (lv' := [(4, .int (kI ((t2 + 1 : Nat) : Int))), (11, .int (kI (f_to (w f) ((d : Nat) : Int)))), (10, .int (kI (0))), (9, .int (kI (((w f / 51) + (dn (((d : Nat) : Int))))))), (8, .int (kI (((w f % 51) + (ac (((d : Nat) : Int))))))), (0, .ref a), (1, .ref mp), (2, .ref wt), (3, .int (kI ((f + 1 : Nat) : Int))), (5, .int (kI ((w f % 51)))), (6, .int (kI ((w f / 51)))), (7, .int (kI ((d : Nat) : Int)))]) hx hb dX2_outside_157 hl (k := 8) rfl (kI_incN _ _) (by decide) rfl (fun ls hl => ?_)
                          refine lv_iinc (v := kI (((d + 1 : Nat) : Int))) (lv' := [(7, .int (kI ((d + 1 : Nat) : Int))), (4, .int (kI ((t2 + 1 : Nat) : Int))), (11, .int (kI (f_to (w f) ((d : Nat) : Int)))), (10, .int (kI (0))), (9, .int (kI (((w f / 51) + (dn (((d : Nat) : Int))))))), (8, .int (kI (((w f % 51) + (ac (((d : Nat) : Int))))))), (0, .ref a), (1, .ref mp), (2, .ref wt), (3, .int (kI ((f + 1 : Nat) : Int))), (5, .int (kI ((w f % 51)))), (6, .int (kI ((w f / 51))))]) hx hb dX2_outside_160 hl (k := 11) rfl (kI_incN _ _) (by decide) rfl (fun ls hl => ?_)
                          refine lv_goto (tgt := 47) hx hb dX2_outside_163 (by decide) ?_
                          have h_103 := hO_a.up hU_90 (by first | assumption | exact Ne.symm (by assumption) | omega | (have h9 := hO_a.lt; omega))
                          have h_104 := h_103.up hU_97 (by first | assumption | exact Ne.symm (by assumption) | omega | (have h9 := h_103.lt; omega))
                          have h_105 := hA_pa.up hU_90 (by first | assumption | exact Ne.symm (by assumption) | omega | (have h9 := hA_pa.lt; omega))
                          have h_106 := h_105.up hU_97 (by first | assumption | exact Ne.symm (by assumption) | omega | (have h9 := h_105.lt; omega))
                          have h_107 := hA_sa.up hU_90 (by first | assumption | exact Ne.symm (by assumption) | omega | (have h9 := hA_sa.lt; omega))
                          have h_108 := h_107.up hU_97 (by first | assumption | exact Ne.symm (by assumption) | omega | (have h9 := h_107.lt; omega))
                          have h_109 := hA_91.up hU_97 (by first | assumption | exact Ne.symm (by assumption) | omega | (have h9 := hA_91.lt; omega))
                          exact ih_47  ((d + 1)) (t2 + 1) (kup g1 ((f_to (w f) ((d : Nat) : Int)).toNat) 2) (kup w1 t2 (f_to (w f) ((d : Nat) : Int))) H_99 h_104 h_106 h_108 h_109 hA_98 (by first | assumption | omega | (simp_all; done) | grind) (by first | assumption | omega | (simp_all; done) | grind) (by first | exact hJ | exact hJ.push2 hft hwf ⟨by omega, by omega⟩ hz9 hb9) (by first | assumption | omega | (simp_all; done) | grind) (by first | exact hwf | (rw [kup_ne (by omega)]; exact hwf)) (by first | exact hc.next (fun _ => by assumption) | exact hc.next (fun z => Bool.noConfusion ((by assumption : f_bar L (w f % 51) (w f / 51) ((d : Nat) : Int) = true).symm.trans z)) | exact (hc.push _).next (fun _ => by rw [kup_self]; decide)) _ hS_101 (by omega) ls (lv_sub hl [6, 7, 8, 9, 1, 10, 11, 0] rfl)
                    · -- not taken at 109
                      exfalso; omega
                  · -- not taken at 90
                    refine lv_iload hx hb dX2_outside_93 (lv_at hl 0 rfl) ?_
                    refine kx_bipush hx hb (by decide) dX2_outside_95 ?_
                    refine kx_icmp_ge (x := ((w f / 51) + (dn (((d : Nat) : Int))))) (y := 35) (tgt := 104) hx hb dX2_outside_97 (by decide) (by omega) (by omega) (by omega) (by omega) (fun c_97_110 => ?_) (fun c_97_110 => ?_)
                    · -- taken at 97
                      refine kx_iconst hx hb dX2_outside_104 ?_
                      refine lv_istore (lv' := [(10, .int (kI (0))), (9, .int (kI (((w f / 51) + (dn (((d : Nat) : Int))))))), (8, .int (kI (((w f % 51) + (ac (((d : Nat) : Int))))))), (0, .ref a), (1, .ref mp), (2, .ref wt), (3, .int (kI ((f + 1 : Nat) : Int))), (4, .int (kI ((t2 : Nat) : Int))), (5, .int (kI ((w f % 51)))), (6, .int (kI ((w f / 51)))), (7, .int (kI ((d : Nat) : Int)))]) hx hb dX2_outside_105 hl (by decide) rfl (fun ls hl => ?_)
                      refine lv_iload hx hb dX2_outside_107 (lv_at hl 0 rfl) ?_
                      refine kx_if_eq (x := 0) (tgt := 123) hx hb dX2_outside_109 (by decide) (by omega) (by omega) (fun c_109_111 => ?_) (fun c_109_111 => ?_)
                      · -- taken at 109
                        refine kx_iconst hx hb dX2_outside_123 ?_
                        refine kx_eqi (f_to (w f) ((d : Nat) : Int)) (by unfold f_to; first | (rw [if_pos ⟨by omega, by omega, by omega, by omega⟩]; done) | (rw [if_neg (by omega)]; done)) ?_
                        refine lv_istore (lv' := [(11, .int (kI (f_to (w f) ((d : Nat) : Int)))), (10, .int (kI (0))), (9, .int (kI (((w f / 51) + (dn (((d : Nat) : Int))))))), (8, .int (kI (((w f % 51) + (ac (((d : Nat) : Int))))))), (0, .ref a), (1, .ref mp), (2, .ref wt), (3, .int (kI ((f + 1 : Nat) : Int))), (4, .int (kI ((t2 : Nat) : Int))), (5, .int (kI ((w f % 51)))), (6, .int (kI ((w f / 51)))), (7, .int (kI ((d : Nat) : Int)))]) hx hb dX2_outside_124 hl (by decide) rfl (fun ls hl => ?_)
                        refine lv_aload_n hx hb dX2_outside_126 rfl (lv_at hl 5 rfl) ?_
                        refine lv_iload hx hb dX2_outside_127 (lv_at hl 0 rfl) ?_
                        refine kx_iald (i := f_to (w f) ((d : Nat) : Int)) hx hb hK hA_mp ((f_to (w f) ((d : Nat) : Int)).toNat) (by omega) (by omega) (by omega) dX2_outside_129 ?_
                        refine kx_if_ne (x := (g1 ((f_to (w f) ((d : Nat) : Int)).toNat))) (tgt := 160) hx hb dX2_outside_130 (by decide) (by rcases hJ.1 (f_to (w f) ((d : Nat) : Int)).toNat with z | z; omega; (rcases hJ.2.2.2.2.2.2.2.1 (f_to (w f) ((d : Nat) : Int)).toNat with y | y <;> omega)) (by rcases hJ.1 (f_to (w f) ((d : Nat) : Int)).toNat with z | z; omega; (rcases hJ.2.2.2.2.2.2.2.1 (f_to (w f) ((d : Nat) : Int)).toNat with y | y <;> omega)) (fun c_130_112 => ?_) (fun c_130_112 => ?_)
                        · -- taken at 130
                          refine lv_iinc (v := kI (((d + 1 : Nat) : Int))) (lv' := [(7, .int (kI ((d + 1 : Nat) : Int))), (11, .int (kI (f_to (w f) ((d : Nat) : Int)))), (10, .int (kI (0))), (9, .int (kI (((w f / 51) + (dn (((d : Nat) : Int))))))), (8, .int (kI (((w f % 51) + (ac (((d : Nat) : Int))))))), (0, .ref a), (1, .ref mp), (2, .ref wt), (3, .int (kI ((f + 1 : Nat) : Int))), (4, .int (kI ((t2 : Nat) : Int))), (5, .int (kI ((w f % 51)))), (6, .int (kI ((w f / 51))))]) hx hb dX2_outside_160 hl (k := 11) rfl (kI_incN _ _) (by decide) rfl (fun ls hl => ?_)
                          refine lv_goto (tgt := 47) hx hb dX2_outside_163 (by decide) ?_
                          exact ih_47  ((d + 1)) t2 g1 w1 H hO_a hA_pa hA_sa hA_mp hA_wt (by first | assumption | omega | (simp_all; done) | grind) (by first | assumption | omega | (simp_all; done) | grind) (by first | exact hJ | exact hJ.push2 hft hwf ⟨by omega, by omega⟩ hz9 hb9) (by first | assumption | omega | (simp_all; done) | grind) (by first | exact hwf | (rw [kup_ne (by omega)]; exact hwf)) (by first | exact hc.next (fun _ => by assumption) | exact hc.next (fun z => Bool.noConfusion ((by assumption : f_bar L (w f % 51) (w f / 51) ((d : Nat) : Int) = true).symm.trans z)) | exact (hc.push _).next (fun _ => by rw [kup_self]; decide)) _ hS (by omega) ls (lv_sub hl [5, 6, 7, 8, 9, 10, 11, 0] rfl)
                        · -- not taken at 130
                          have hz9 : g1 (f_to (w f) ((d : Nat) : Int)).toNat = 0 := by assumption
                          have hlt9 := hJ.lt (by omega) hz9
                          refine lv_aload_n hx hb dX2_outside_133 rfl (lv_at hl 4 rfl) ?_
                          refine lv_iload hx hb dX2_outside_134 (lv_at hl 9 rfl) ?_
                          refine lv_iload hx hb dX2_outside_136 (lv_at hl 10 rfl) ?_
                          refine lv_iload hx hb dX2_outside_138 (lv_at hl 11 rfl) ?_
                          refine kx_cb0 (va_runS (As := [.ref a, .int (kI ((w f % 51))), .int (kI ((w f / 51))), .int (kI ((d : Nat) : Int))]) (rest := []) ⟨hx, hb, hml, hown, hts⟩ (m_X2_isBarred l D H a pa sa ea gp gs L ((w f % 51)) ((w f / 51)) (((d : Nat) : Int)) hO_a hA_pa hA_sa hM hok (by first | assumption | omega) (by first | assumption | omega) (by first | assumption | omega)) (va_cwS 4 hts (lw_S q2108 q2109 q80 q2110) rfl rfl rfl (by decide +kernel) ⟨Nat.le_of_ble_eq_true rfl, Nat.le_of_ble_eq_true rfl⟩) (kx_ps hK hS hB) rfl rfl hl.1 rfl (lv_room (Nat.le_of_ble_eq_true rfl)) dX2_outside_140 ⟨by first | exact Nat.le_of_ble_eq_true rfl | omega | (show _ ≤ _; omega) | (dsimp only [headSpec]; omega), by first | exact Nat.le_of_ble_eq_true rfl | omega | (show _ ≤ _; omega) | (dsimp only [headSpec]; omega)⟩) hS (fun z_116 locs_113 hz_115 hS_114 => ?_)
                          subst z_116
                          refine kx_ifnz (tgt := 160) hx hb dX2_outside_143 (by decide) (fun c_143_117 => ?_) (fun c_143_117 => ?_)
                          · -- taken at 143
                            refine lv_iinc (v := kI (((d + 1 : Nat) : Int))) (lv' := [(7, .int (kI ((d + 1 : Nat) : Int))), (11, .int (kI (f_to (w f) ((d : Nat) : Int)))), (10, .int (kI (0))), (9, .int (kI (((w f / 51) + (dn (((d : Nat) : Int))))))), (8, .int (kI (((w f % 51) + (ac (((d : Nat) : Int))))))), (0, .ref a), (1, .ref mp), (2, .ref wt), (3, .int (kI ((f + 1 : Nat) : Int))), (4, .int (kI ((t2 : Nat) : Int))), (5, .int (kI ((w f % 51)))), (6, .int (kI ((w f / 51))))]) hx hb dX2_outside_160 hl (k := 11) rfl (kI_incN _ _) (by decide) rfl (fun ls hl => ?_)
                            refine lv_goto (tgt := 47) hx hb dX2_outside_163 (by decide) ?_
                            exact ih_47  ((d + 1)) t2 g1 w1 H hO_a hA_pa hA_sa hA_mp hA_wt (by first | assumption | omega | (simp_all; done) | grind) (by first | assumption | omega | (simp_all; done) | grind) (by first | exact hJ | exact hJ.push2 hft hwf ⟨by omega, by omega⟩ hz9 hb9) (by first | assumption | omega | (simp_all; done) | grind) (by first | exact hwf | (rw [kup_ne (by omega)]; exact hwf)) (by first | exact hc.next (fun _ => by assumption) | exact hc.next (fun z => Bool.noConfusion ((by assumption : f_bar L (w f % 51) (w f / 51) ((d : Nat) : Int) = true).symm.trans z)) | exact (hc.push _).next (fun _ => by rw [kup_self]; decide)) _ hS_114 (by omega) ls (lv_sub hl [5, 6, 7, 8, 9, 10, 11, 0] rfl)
                          · -- not taken at 143
                            have hb9 : f_bar L (w f % 51) (w f / 51) ((d : Nat) : Int) = false := by assumption
                            refine lv_aload_n hx hb dX2_outside_146 rfl (lv_at hl 5 rfl) ?_
                            refine lv_iload hx hb dX2_outside_147 (lv_at hl 0 rfl) ?_
                            refine kx_iconst hx hb dX2_outside_149 ?_
                            refine kx_iast (i := f_to (w f) ((d : Nat) : Int)) (x := 2) hx hb hK hA_mp hS_114 (by first | rfl | exact Or.inl rfl | exact Or.inr rfl | exact Or.inr (Or.inl rfl) | exact Or.inr (Or.inr rfl) | exact Or.inr (Or.inr (Or.inl rfl)) | exact Or.inr (Or.inr (Or.inr rfl)) | ((try dsimp only); (try simp only [kNW]); omega)) ((f_to (w f) ((d : Nat) : Int)).toNat) (by omega) (by omega) (by omega) dX2_outside_150 (fun H_120 locs_121 hA_119 hU_118 hS_122 => ?_)
                            have hzu_123 := hU_118.1
                            refine lv_aload_n hx hb dX2_outside_151 rfl (lv_at hl 6 rfl) ?_
                            refine lv_iload hx hb dX2_outside_152 (lv_at hl 8 rfl) ?_
                            refine lv_iload hx hb dX2_outside_154 (lv_at hl 0 rfl) ?_
                            have h_124 := hA_wt.up hU_118 (by first | assumption | exact Ne.symm (by assumption) | omega | (have h9 := hA_wt.lt; omega))
                            refine kx_iast (i := ((t2 : Nat) : Int)) (x := f_to (w f) ((d : Nat) : Int)) hx hb hK h_124 hS_122 (by first | rfl | exact Or.inl rfl | exact Or.inr rfl | exact Or.inr (Or.inl rfl) | exact Or.inr (Or.inr rfl) | exact Or.inr (Or.inr (Or.inl rfl)) | exact Or.inr (Or.inr (Or.inr rfl)) | ((try dsimp only); (try simp only [kNW]); omega)) t2 (rfl) (by omega) (by omega) dX2_outside_156 (fun H_127 locs_128 hA_126 hU_125 hS_129 => ?_)
                            have hzu_130 := hU_125.1
                            refine lv_iinc (v := kI (((t2 + 1 : Nat) : Int))) (lv' := [(4, .int (kI ((t2 + 1 : Nat) : Int))), (11, .int (kI (f_to (w f) ((d : Nat) : Int)))), (10, .int (kI (0))), (9, .int (kI (((w f / 51) + (dn (((d : Nat) : Int))))))), (8, .int (kI (((w f % 51) + (ac (((d : Nat) : Int))))))), (0, .ref a), (1, .ref mp), (2, .ref wt), (3, .int (kI ((f + 1 : Nat) : Int))), (5, .int (kI ((w f % 51)))), (6, .int (kI ((w f / 51)))), (7, .int (kI ((d : Nat) : Int)))]) hx hb dX2_outside_157 hl (k := 8) rfl (kI_incN _ _) (by decide) rfl (fun ls hl => ?_)
                            refine lv_iinc (v := kI (((d + 1 : Nat) : Int))) (lv' := [(7, .int (kI ((d + 1 : Nat) : Int))), (4, .int (kI ((t2 + 1 : Nat) : Int))), (11, .int (kI (f_to (w f) ((d : Nat) : Int)))), (10, .int (kI (0))), (9, .int (kI (((w f / 51) + (dn (((d : Nat) : Int))))))), (8, .int (kI (((w f % 51) + (ac (((d : Nat) : Int))))))), (0, .ref a), (1, .ref mp), (2, .ref wt), (3, .int (kI ((f + 1 : Nat) : Int))), (5, .int (kI ((w f % 51)))), (6, .int (kI ((w f / 51))))]) hx hb dX2_outside_160 hl (k := 11) rfl (kI_incN _ _) (by decide) rfl (fun ls hl => ?_)
                            refine lv_goto (tgt := 47) hx hb dX2_outside_163 (by decide) ?_
                            have h_131 := hO_a.up hU_118 (by first | assumption | exact Ne.symm (by assumption) | omega | (have h9 := hO_a.lt; omega))
                            have h_132 := h_131.up hU_125 (by first | assumption | exact Ne.symm (by assumption) | omega | (have h9 := h_131.lt; omega))
                            have h_133 := hA_pa.up hU_118 (by first | assumption | exact Ne.symm (by assumption) | omega | (have h9 := hA_pa.lt; omega))
                            have h_134 := h_133.up hU_125 (by first | assumption | exact Ne.symm (by assumption) | omega | (have h9 := h_133.lt; omega))
                            have h_135 := hA_sa.up hU_118 (by first | assumption | exact Ne.symm (by assumption) | omega | (have h9 := hA_sa.lt; omega))
                            have h_136 := h_135.up hU_125 (by first | assumption | exact Ne.symm (by assumption) | omega | (have h9 := h_135.lt; omega))
                            have h_137 := hA_119.up hU_125 (by first | assumption | exact Ne.symm (by assumption) | omega | (have h9 := hA_119.lt; omega))
                            exact ih_47  ((d + 1)) (t2 + 1) (kup g1 ((f_to (w f) ((d : Nat) : Int)).toNat) 2) (kup w1 t2 (f_to (w f) ((d : Nat) : Int))) H_127 h_132 h_134 h_136 h_137 hA_126 (by first | assumption | omega | (simp_all; done) | grind) (by first | assumption | omega | (simp_all; done) | grind) (by first | exact hJ | exact hJ.push2 hft hwf ⟨by omega, by omega⟩ hz9 hb9) (by first | assumption | omega | (simp_all; done) | grind) (by first | exact hwf | (rw [kup_ne (by omega)]; exact hwf)) (by first | exact hc.next (fun _ => by assumption) | exact hc.next (fun z => Bool.noConfusion ((by assumption : f_bar L (w f % 51) (w f / 51) ((d : Nat) : Int) = true).symm.trans z)) | exact (hc.push _).next (fun _ => by rw [kup_self]; decide)) _ hS_129 (by omega) ls (lv_sub hl [6, 7, 8, 9, 1, 10, 11, 0] rfl)
                      · -- not taken at 109
                        exfalso; omega
                    · -- not taken at 97
                      refine kx_iconst hx hb dX2_outside_100 ?_
                      refine lv_goto (tgt := 105) hx hb dX2_outside_101 (by decide) ?_
                      refine lv_istore (lv' := [(10, .int (kI (1))), (9, .int (kI (((w f / 51) + (dn (((d : Nat) : Int))))))), (8, .int (kI (((w f % 51) + (ac (((d : Nat) : Int))))))), (0, .ref a), (1, .ref mp), (2, .ref wt), (3, .int (kI ((f + 1 : Nat) : Int))), (4, .int (kI ((t2 : Nat) : Int))), (5, .int (kI ((w f % 51)))), (6, .int (kI ((w f / 51)))), (7, .int (kI ((d : Nat) : Int)))]) hx hb dX2_outside_105 hl (by decide) rfl (fun ls hl => ?_)
                      refine lv_iload hx hb dX2_outside_107 (lv_at hl 0 rfl) ?_
                      refine kx_if_eq (x := 1) (tgt := 123) hx hb dX2_outside_109 (by decide) (by omega) (by omega) (fun c_109_138 => ?_) (fun c_109_138 => ?_)
                      · -- taken at 109
                        exfalso; omega
                      · -- not taken at 109
                        refine kx_bipush hx hb (by decide) dX2_outside_112 ?_
                        refine lv_iload hx hb dX2_outside_114 (lv_at hl 1 rfl) ?_
                        refine kx_imul hx hb dX2_outside_116 ?_
                        refine lv_iload hx hb dX2_outside_117 (lv_at hl 2 rfl) ?_
                        refine kx_iadd hx hb dX2_outside_119 ?_
                        refine lv_goto (tgt := 124) hx hb dX2_outside_120 (by decide) ?_
                        refine kx_eqi (f_to (w f) ((d : Nat) : Int)) (by unfold f_to; first | (rw [if_pos ⟨by omega, by omega, by omega, by omega⟩]; done) | (rw [if_neg (by omega)]; done)) ?_
                        refine lv_istore (lv' := [(11, .int (kI (f_to (w f) ((d : Nat) : Int)))), (10, .int (kI (1))), (9, .int (kI (((w f / 51) + (dn (((d : Nat) : Int))))))), (8, .int (kI (((w f % 51) + (ac (((d : Nat) : Int))))))), (0, .ref a), (1, .ref mp), (2, .ref wt), (3, .int (kI ((f + 1 : Nat) : Int))), (4, .int (kI ((t2 : Nat) : Int))), (5, .int (kI ((w f % 51)))), (6, .int (kI ((w f / 51)))), (7, .int (kI ((d : Nat) : Int)))]) hx hb dX2_outside_124 hl (by decide) rfl (fun ls hl => ?_)
                        refine lv_aload_n hx hb dX2_outside_126 rfl (lv_at hl 5 rfl) ?_
                        refine lv_iload hx hb dX2_outside_127 (lv_at hl 0 rfl) ?_
                        refine kx_iald (i := f_to (w f) ((d : Nat) : Int)) hx hb hK hA_mp ((f_to (w f) ((d : Nat) : Int)).toNat) (by omega) (by omega) (by omega) dX2_outside_129 ?_
                        refine kx_if_ne (x := (g1 ((f_to (w f) ((d : Nat) : Int)).toNat))) (tgt := 160) hx hb dX2_outside_130 (by decide) (by rcases hJ.1 (f_to (w f) ((d : Nat) : Int)).toNat with z | z; omega; (rcases hJ.2.2.2.2.2.2.2.1 (f_to (w f) ((d : Nat) : Int)).toNat with y | y <;> omega)) (by rcases hJ.1 (f_to (w f) ((d : Nat) : Int)).toNat with z | z; omega; (rcases hJ.2.2.2.2.2.2.2.1 (f_to (w f) ((d : Nat) : Int)).toNat with y | y <;> omega)) (fun c_130_139 => ?_) (fun c_130_139 => ?_)
                        · -- taken at 130
                          refine lv_iinc (v := kI (((d + 1 : Nat) : Int))) (lv' := [(7, .int (kI ((d + 1 : Nat) : Int))), (11, .int (kI (f_to (w f) ((d : Nat) : Int)))), (10, .int (kI (1))), (9, .int (kI (((w f / 51) + (dn (((d : Nat) : Int))))))), (8, .int (kI (((w f % 51) + (ac (((d : Nat) : Int))))))), (0, .ref a), (1, .ref mp), (2, .ref wt), (3, .int (kI ((f + 1 : Nat) : Int))), (4, .int (kI ((t2 : Nat) : Int))), (5, .int (kI ((w f % 51)))), (6, .int (kI ((w f / 51))))]) hx hb dX2_outside_160 hl (k := 11) rfl (kI_incN _ _) (by decide) rfl (fun ls hl => ?_)
                          refine lv_goto (tgt := 47) hx hb dX2_outside_163 (by decide) ?_
                          exact ih_47  ((d + 1)) t2 g1 w1 H hO_a hA_pa hA_sa hA_mp hA_wt (by first | assumption | omega | (simp_all; done) | grind) (by first | assumption | omega | (simp_all; done) | grind) (by first | exact hJ | exact hJ.push2 hft hwf ⟨by omega, by omega⟩ hz9 hb9) (by first | assumption | omega | (simp_all; done) | grind) (by first | exact hwf | (rw [kup_ne (by omega)]; exact hwf)) (by first | exact hc.next (fun _ => by assumption) | exact hc.next (fun z => Bool.noConfusion ((by assumption : f_bar L (w f % 51) (w f / 51) ((d : Nat) : Int) = true).symm.trans z)) | exact (hc.push _).next (fun _ => by rw [kup_self]; decide)) _ hS (by omega) ls (lv_sub hl [5, 6, 7, 8, 9, 10, 11, 0] rfl)
                        · -- not taken at 130
                          have hz9 : g1 (f_to (w f) ((d : Nat) : Int)).toNat = 0 := by assumption
                          have hlt9 := hJ.lt (by omega) hz9
                          refine lv_aload_n hx hb dX2_outside_133 rfl (lv_at hl 4 rfl) ?_
                          refine lv_iload hx hb dX2_outside_134 (lv_at hl 9 rfl) ?_
                          refine lv_iload hx hb dX2_outside_136 (lv_at hl 10 rfl) ?_
                          refine lv_iload hx hb dX2_outside_138 (lv_at hl 11 rfl) ?_
                          refine kx_cb0 (va_runS (As := [.ref a, .int (kI ((w f % 51))), .int (kI ((w f / 51))), .int (kI ((d : Nat) : Int))]) (rest := []) ⟨hx, hb, hml, hown, hts⟩ (m_X2_isBarred l D H a pa sa ea gp gs L ((w f % 51)) ((w f / 51)) (((d : Nat) : Int)) hO_a hA_pa hA_sa hM hok (by first | assumption | omega) (by first | assumption | omega) (by first | assumption | omega)) (va_cwS 4 hts (lw_S q2108 q2109 q80 q2110) rfl rfl rfl (by decide +kernel) ⟨Nat.le_of_ble_eq_true rfl, Nat.le_of_ble_eq_true rfl⟩) (kx_ps hK hS hB) rfl rfl hl.1 rfl (lv_room (Nat.le_of_ble_eq_true rfl)) dX2_outside_140 ⟨by first | exact Nat.le_of_ble_eq_true rfl | omega | (show _ ≤ _; omega) | (dsimp only [headSpec]; omega), by first | exact Nat.le_of_ble_eq_true rfl | omega | (show _ ≤ _; omega) | (dsimp only [headSpec]; omega)⟩) hS (fun z_143 locs_140 hz_142 hS_141 => ?_)
                          subst z_143
                          refine kx_ifnz (tgt := 160) hx hb dX2_outside_143 (by decide) (fun c_143_144 => ?_) (fun c_143_144 => ?_)
                          · -- taken at 143
                            refine lv_iinc (v := kI (((d + 1 : Nat) : Int))) (lv' := [(7, .int (kI ((d + 1 : Nat) : Int))), (11, .int (kI (f_to (w f) ((d : Nat) : Int)))), (10, .int (kI (1))), (9, .int (kI (((w f / 51) + (dn (((d : Nat) : Int))))))), (8, .int (kI (((w f % 51) + (ac (((d : Nat) : Int))))))), (0, .ref a), (1, .ref mp), (2, .ref wt), (3, .int (kI ((f + 1 : Nat) : Int))), (4, .int (kI ((t2 : Nat) : Int))), (5, .int (kI ((w f % 51)))), (6, .int (kI ((w f / 51))))]) hx hb dX2_outside_160 hl (k := 11) rfl (kI_incN _ _) (by decide) rfl (fun ls hl => ?_)
                            refine lv_goto (tgt := 47) hx hb dX2_outside_163 (by decide) ?_
                            exact ih_47  ((d + 1)) t2 g1 w1 H hO_a hA_pa hA_sa hA_mp hA_wt (by first | assumption | omega | (simp_all; done) | grind) (by first | assumption | omega | (simp_all; done) | grind) (by first | exact hJ | exact hJ.push2 hft hwf ⟨by omega, by omega⟩ hz9 hb9) (by first | assumption | omega | (simp_all; done) | grind) (by first | exact hwf | (rw [kup_ne (by omega)]; exact hwf)) (by first | exact hc.next (fun _ => by assumption) | exact hc.next (fun z => Bool.noConfusion ((by assumption : f_bar L (w f % 51) (w f / 51) ((d : Nat) : Int) = true).symm.trans z)) | exact (hc.push _).next (fun _ => by rw [kup_self]; decide)) _ hS_141 (by omega) ls (lv_sub hl [5, 6, 7, 8, 9, 10, 11, 0] rfl)
                          · -- not taken at 143
                            have hb9 : f_bar L (w f % 51) (w f / 51) ((d : Nat) : Int) = false := by assumption
                            refine lv_aload_n hx hb dX2_outside_146 rfl (lv_at hl 5 rfl) ?_
                            refine lv_iload hx hb dX2_outside_147 (lv_at hl 0 rfl) ?_
                            refine kx_iconst hx hb dX2_outside_149 ?_
                            refine kx_iast (i := f_to (w f) ((d : Nat) : Int)) (x := 2) hx hb hK hA_mp hS_141 (by first | rfl | exact Or.inl rfl | exact Or.inr rfl | exact Or.inr (Or.inl rfl) | exact Or.inr (Or.inr rfl) | exact Or.inr (Or.inr (Or.inl rfl)) | exact Or.inr (Or.inr (Or.inr rfl)) | ((try dsimp only); (try simp only [kNW]); omega)) ((f_to (w f) ((d : Nat) : Int)).toNat) (by omega) (by omega) (by omega) dX2_outside_150 (fun H_147 locs_148 hA_146 hU_145 hS_149 => ?_)
                            have hzu_150 := hU_145.1
                            refine lv_aload_n hx hb dX2_outside_151 rfl (lv_at hl 6 rfl) ?_
                            refine lv_iload hx hb dX2_outside_152 (lv_at hl 8 rfl) ?_
                            refine lv_iload hx hb dX2_outside_154 (lv_at hl 0 rfl) ?_
                            have h_151 := hA_wt.up hU_145 (by first | assumption | exact Ne.symm (by assumption) | omega | (have h9 := hA_wt.lt; omega))
                            refine kx_iast (i := ((t2 : Nat) : Int)) (x := f_to (w f) ((d : Nat) : Int)) hx hb hK h_151 hS_149 (by first | rfl | exact Or.inl rfl | exact Or.inr rfl | exact Or.inr (Or.inl rfl) | exact Or.inr (Or.inr rfl) | exact Or.inr (Or.inr (Or.inl rfl)) | exact Or.inr (Or.inr (Or.inr rfl)) | ((try dsimp only); (try simp only [kNW]); omega)) t2 (rfl) (by omega) (by omega) dX2_outside_156 (fun H_154 locs_155 hA_153 hU_152 hS_156 => ?_)
                            have hzu_157 := hU_152.1
                            refine lv_iinc (v := kI (((t2 + 1 : Nat) : Int))) (lv' := [(4, .int (kI ((t2 + 1 : Nat) : Int))), (11, .int (kI (f_to (w f) ((d : Nat) : Int)))), (10, .int (kI (1))), (9, .int (kI (((w f / 51) + (dn (((d : Nat) : Int))))))), (8, .int (kI (((w f % 51) + (ac (((d : Nat) : Int))))))), (0, .ref a), (1, .ref mp), (2, .ref wt), (3, .int (kI ((f + 1 : Nat) : Int))), (5, .int (kI ((w f % 51)))), (6, .int (kI ((w f / 51)))), (7, .int (kI ((d : Nat) : Int)))]) hx hb dX2_outside_157 hl (k := 8) rfl (kI_incN _ _) (by decide) rfl (fun ls hl => ?_)
                            refine lv_iinc (v := kI (((d + 1 : Nat) : Int))) (lv' := [(7, .int (kI ((d + 1 : Nat) : Int))), (4, .int (kI ((t2 + 1 : Nat) : Int))), (11, .int (kI (f_to (w f) ((d : Nat) : Int)))), (10, .int (kI (1))), (9, .int (kI (((w f / 51) + (dn (((d : Nat) : Int))))))), (8, .int (kI (((w f % 51) + (ac (((d : Nat) : Int))))))), (0, .ref a), (1, .ref mp), (2, .ref wt), (3, .int (kI ((f + 1 : Nat) : Int))), (5, .int (kI ((w f % 51)))), (6, .int (kI ((w f / 51))))]) hx hb dX2_outside_160 hl (k := 11) rfl (kI_incN _ _) (by decide) rfl (fun ls hl => ?_)
                            refine lv_goto (tgt := 47) hx hb dX2_outside_163 (by decide) ?_
                            have h_158 := hO_a.up hU_145 (by first | assumption | exact Ne.symm (by assumption) | omega | (have h9 := hO_a.lt; omega))
                            have h_159 := h_158.up hU_152 (by first | assumption | exact Ne.symm (by assumption) | omega | (have h9 := h_158.lt; omega))
                            have h_160 := hA_pa.up hU_145 (by first | assumption | exact Ne.symm (by assumption) | omega | (have h9 := hA_pa.lt; omega))
                            have h_161 := h_160.up hU_152 (by first | assumption | exact Ne.symm (by assumption) | omega | (have h9 := h_160.lt; omega))
                            have h_162 := hA_sa.up hU_145 (by first | assumption | exact Ne.symm (by assumption) | omega | (have h9 := hA_sa.lt; omega))
                            have h_163 := h_162.up hU_152 (by first | assumption | exact Ne.symm (by assumption) | omega | (have h9 := h_162.lt; omega))
                            have h_164 := hA_146.up hU_152 (by first | assumption | exact Ne.symm (by assumption) | omega | (have h9 := hA_146.lt; omega))
                            exact ih_47  ((d + 1)) (t2 + 1) (kup g1 ((f_to (w f) ((d : Nat) : Int)).toNat) 2) (kup w1 t2 (f_to (w f) ((d : Nat) : Int))) H_154 h_159 h_161 h_163 h_164 hA_153 (by first | assumption | omega | (simp_all; done) | grind) (by first | assumption | omega | (simp_all; done) | grind) (by first | exact hJ | exact hJ.push2 hft hwf ⟨by omega, by omega⟩ hz9 hb9) (by first | assumption | omega | (simp_all; done) | grind) (by first | exact hwf | (rw [kup_ne (by omega)]; exact hwf)) (by first | exact hc.next (fun _ => by assumption) | exact hc.next (fun z => Bool.noConfusion ((by assumption : f_bar L (w f % 51) (w f / 51) ((d : Nat) : Int) = true).symm.trans z)) | exact (hc.push _).next (fun _ => by rw [kup_self]; decide)) _ hS_156 (by omega) ls (lv_sub hl [6, 7, 8, 9, 1, 10, 11, 0] rfl)
        exact lp_47_x_24 (8 - 0 + 1) 0 t g w H hO_a hA_pa hA_sa hA_mp hA_wt (by first | assumption | omega | (simp_all; done) | grind) (by first | assumption | omega | (simp_all; done) | grind) (hI) (by first | assumption | omega | (simp_all; done) | grind) (rfl) (FC.zero L _ _) _ hS (Nat.lt_succ_self _) ls (lv_sub hl [4, 5, 6, 1, 7, 3, 2, 0] rfl)
  have h_165 := hO_a.ex hF_5
  have h_166 := h_165.ex hE_13
  have h_167 := h_166.up hU_16 (by first | assumption | exact Ne.symm (by assumption) | omega | (have h9 := h_166.lt; omega))
  have h_168 := hA_pa.ex hF_5
  have h_169 := h_168.ex hE_13
  have h_170 := h_169.up hU_16 (by first | assumption | exact Ne.symm (by assumption) | omega | (have h9 := h_169.lt; omega))
  have h_171 := hA_sa.ex hF_5
  have h_172 := h_171.ex hE_13
  have h_173 := h_172.up hU_16 (by first | assumption | exact Ne.symm (by assumption) | omega | (have h9 := h_172.lt; omega))
  have h_174 := hA_12.up hU_16 (by first | assumption | exact Ne.symm (by assumption) | omega | (have h9 := hA_12.lt; omega))
  exact lp_19_x_22 (1785 - 0 + 1) 0 1 (kup fm 0 2) ((fun _ => 0)) H_18 h_167 h_170 h_173 hA_17 h_174 (by first | assumption | omega | (simp_all; done) | grind) (FI.init L (fun i => by rw [hfm9]; exact f_map_01 L _ i)) _ hS_20 (Nat.lt_succ_self _) ls (lv_sub hl [4, 3, 2, 1, 0] rfl)

