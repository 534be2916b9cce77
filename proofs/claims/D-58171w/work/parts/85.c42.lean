/-! MATH 58: the whole text -/
theorem tx_lp_end {g : Nat → Int} {t : List Int} (hT : MTx g t) : ∀ (f : Nat) (w : Bool) (i : Nat), i ≤ t.length → (w = true → t.length - i < f) → (tx_lp t f w i).1 = true → (tx_lp t f w i).2 = t.length := by
  intro f
  induction f with
  | zero =>
    intro w i hi hf h
    have h : w = true := h
    exact absurd (hf h) (Nat.not_lt_zero _)
  | succ f ih =>
    intro w i hi hf h
    rw [tx_lp] at h ⊢
    by_cases c : w = true ∧ i < t.length
    · rw [if_pos c] at h ⊢
      by_cases c2 : tsg t i = 59
      · rw [if_pos c2] at h ⊢
        have hp := rdW_place hT (i + 1)
        exact ih _ _ (by omega) (fun hw => by have := hp.2.2 hw; have := hf c.1; omega) h
      · rw [if_neg c2] at h
        exact absurd h Bool.false_ne_true
    · rw [if_neg c] at h ⊢
      have h : w = true := h
      show i = t.length
      have : ¬ i < t.length := fun z => c ⟨h, z⟩
      omega
theorem tx_all_end {g : Nat → Int} {t : List Int} (hT : MTx g t) (h : (tx_all t).1 = true) : (tx_all t).2 = t.length := by
  have hp := rdW_place hT 0
  exact tx_lp_end hT _ _ _ (by omega) (fun _ => by omega) h
theorem rd_lt {g : Nat → Int} {t : List Int} (hT : MTx g t) {i : Nat} (h : (rdW t i).1 = true) : i < t.length := by
  have hp := rdW_place hT i
  have := hp.2.2 h
  omega
theorem kx_tblOut {p : Program} {l : Launch} {e : Env} {R : Room} {s : State} {m : MethodId} {args : Array Value} {below : List Frame} {meth : Method} {c : Code} {H : Heap} {locs : List Loc} {cells slots : Nat} {Q : State → Prop} {cc : ByteArray} {pc : Nat} {ls : Array Slot} {rest : List Value} (hx : p.tables.exec = Jvm.exec) (hb : c.code = cc) {x dflt lo hi : Int} {offs : Array Int} {len tgt : Nat} (h : x < lo ∨ hi < x) (h1 : -2147483648 ≤ x) (h2 : x ≤ 2147483647) (d : decode cc pc = .ok (.tableswitch dflt lo hi offs, len)) (ht : (pc : Int) + dflt = (tgt : Int)) (k : W p l e R s m args below meth c H locs cells slots Q (F0 m tgt ls rest)) : W p l e R s m args below meth c H locs cells slots Q (F0 m pc ls (.int (kI x) :: rest)) := lv_tableOut hx hb d (by rw [kI_toInt h1 h2]; exact h) ht k
set_option maxHeartbeats 4000000 in
set_option maxRecDepth 100000 in
theorem m_X9_order (l : Launch) (D : kG) (H : Heap) (rd : Nat) (pl : Nat) (oa : Nat) (mn : Nat) (x1 : Nat) (st : Nat) (snp : Option Nat) (hi : Nat) (bu : Nat) (vb : Nat) (ml : Bool) (cap : Nat) (g : Nat → Int) (t : List Int) (go : Nat → Option Nat) (b0 : Nat) (b1 : Nat) (hO_rd : kO D H rd 8 [.int (kI ((pl : Nat) : Int)), .int (kI (kb (false))), .ref oa, .int (kI ((mn : Nat) : Int)), .ref x1]) (hO_x1 : kO D H x1 0 [.ref st, va_rf (snp), .ref hi, .ref bu]) (hO_bu : kO D H bu 11 [.ref vb, .int (kI (0)), .int (kI (kb (ml))), .int (kI ((t.length : Nat) : Int))]) (hA_vb : kAb D H vb cap g) (hA_oa : kAq D H oa 6 60 go) (hP_kOl_b0 : kOl D H b0 b1 go mn t) (hT : MTx g t) (ht60 : t.length ≤ 60) (hcap : t.length ≤ cap) (hc9 : cap ≤ 1000) (hpl : pl ≤ 62) (ne_rd_oa : rd ≠ oa) (bs_rd : kBase D ≤ rd) (bs_oa : kBase D ≤ oa) (hb0 : rd < b0 ∧ oa < b0 ∧ b0 ≤ b1 ∧ b1 ≤ H.size) (hpo : pl = opos t mn) (hmn : mn ≤ 58) : Met l yX9_order (ws_ yX9_order cX9_order 3 none) ({ frames := 8, cells := 2, slots := 22, locals := 3124 } : Room) (kPre D H [.ref rd]) (kQv (fun H' => ∃ (mn2 : Nat) (go2 : Nat → Option Nat) (b2 : Nat), (kO D H' rd 8 [.int (kI (((rdW t pl).2.1 : Nat) : Int)), .int (kI (kb (!(rdW t pl).1))), .ref oa, .int (kI ((mn2 : Nat) : Int)), .ref x1]) ∧ (kAq D H' oa 6 60 go2) ∧ (kOl D H' b0 b2 go2 mn2 t) ∧ (mn2 = if (rdW t pl).1 = true then mn + 1 else mn) ∧ (b1 ≤ b2 ∧ b2 ≤ H'.size)) (fun q : Nat => q = rd ∨ q = oa ∨ H.size ≤ q)) (2) (22) ((fun q : Nat => q = rd ∨ q = oa ∨ H.size ≤ q)) := by
  refine Met.ofW (cc := cX9_order) (maxL := 3) (ret := none) (by decide) rfl ?_
  intro p e s m args below meth c s₁ B hml hv
  obtain ⟨rfl, hH, hK⟩ := hv
  subst hH
  have hx := B.exec
  have hb := B.bytes
  have hr := B.returns
  have hts := atoms_spec (ws := ws_ yX9_order cX9_order 3 none) B.pre
  have hts : ∀ w ∈ lw_all, w.before _ s = true := fun w h => hts w (List.mem_cons_of_mem _ h)
  have hown : s.vm.findClass RX9 = some m.cls := findClass_of_methodNamed B.named
  have hlk := B.notSynchronized
  have hS : va_S (fun q : Nat => q = rd ∨ q = oa ∨ s.heap.size ≤ q) s.heap s.heap [] := va_S.rf
  have hB : ∀ q, (fun q : Nat => q = rd ∨ q = oa ∨ s.heap.size ≤ q) q → kBase D ≤ q := fun q h => by (have h9 := hK.size; rcases h with h | h | h; (rw [h]; exact bs_rd); (rw [h]; exact bs_oa); omega)
  have hl := lv_entry ([.ref rd]) (n := 3) (Nat.le_of_ble_eq_true rfl)
  rw [lg_entry_eq]
  generalize (lg_sl ([.ref rd]) ++ List.replicate (3 - (lg_sl ([.ref rd])).length) Slot.unset).toArray = ls at hl ⊢
  have hl : lv_has ls 3 [(0, .ref rd)] := hl
  have hd9 := hK.dis
  have ne_x1_rd : x1 ≠ rd := kO_ne hd9 hO_x1 hO_rd (by decide) (by decide) (by decide)
  have ne_bu_rd : bu ≠ rd := kO_ne hd9 hO_bu hO_rd (by decide) (by decide) (by decide)
  have ne_rd_vb : rd ≠ vb := kOA_ne hd9 hO_rd hA_vb (by decide) (by decide)
  have hltx1 := hO_x1.lt
  have hltrd := hO_rd.lt
  have hltbu := hO_bu.lt
  have hltvb := hA_vb.lt
  have hcoP := csg_or t pl
  have hcrP := hT.cr pl
  have hltoa := hA_oa.lt
  have hcoP1 := csg_or t (pl + 1)
  have hcrP1 := hT.cr (pl + 1)
  have hrs9 := fun j => (hT.rng j).1
  by_cases hL0 : tx_let (csg t pl)
  · -- a letter
    have hL1 : csg t pl = tsg t pl := by unfold tx_let at hL0; omega
    rcases id hL0 with hlt | hlt | hlt | hlt | hlt | hlt | hlt | hlt
    · -- n
      have hl9 : tsg t pl = 110 := by omega
      by_cases hd1 : 48 ≤ csg t (pl + 1) ∧ csg t (pl + 1) ≤ 57
      · -- a number
        have hn1 : tx_numOK t 0 99 (pl + 1) := by unfold tx_numOK; omega
        have hcoP2 := csg_or t ((tx_num t 99 (pl + 1)).2)
        have hcrP2 := hT.cr ((tx_num t 99 (pl + 1)).2)
        have hcoP3 := csg_or t ((tx_num t 99 (pl + 1)).2 + 1)
        have hcrP3 := hT.cr ((tx_num t 99 (pl + 1)).2 + 1)
        have hpl3 := tx_num_place (t := t) 99 (i := pl + 1) (by omega)
        by_cases hd2 : csg t ((tx_num t 99 (pl + 1)).2) = 64
        · -- sign
          by_cases hd3 : 48 ≤ csg t ((tx_num t 99 (pl + 1)).2 + 1) ∧ csg t ((tx_num t 99 (pl + 1)).2 + 1) ≤ 57
          · -- whole
            have hrd9 : rdW t pl = (true, (tx_num t 383 ((tx_num t 99 (pl + 1)).2 + 1)).2, (tx_num t 99 (pl + 1)).1, (tx_num t 383 ((tx_num t 99 (pl + 1)).2 + 1)).1) := by rw [rd_n hl9, rd_two]; rw [if_pos hn1, if_pos (by omega), if_pos (by unfold tx_numOK; omega)]
            refine lv_aload_n hx hb dX9_order_0 rfl (lv_at hl 0 rfl) ?_
            refine kx_ci0 (va_runV (As := []) (rest := []) ⟨hx, hb, hml, hown, hts⟩ (m_sgn l D s.heap rd pl false oa mn x1 st snp hi bu vb ml cap g t hO_rd hO_x1 hO_bu hA_vb (by first | assumption | omega) (by first | assumption | omega) (by first | assumption | omega) (by first | assumption | omega) (by first | assumption | omega)) (cwV 0 hts (lw_V q1566 q1568 qs20 q125 q1569) rfl rfl rfl (by decide +kernel) ⟨Nat.le_of_ble_eq_true rfl, Nat.le_of_ble_eq_true rfl⟩) (kx_pv hK hS hB (kx_rc hK hO_rd (C := RX9) (T := TX9) (N := 5) rfl)) rfl rfl hl.1 rfl (lv_room (Nat.le_of_ble_eq_true rfl)) dX9_order_1 ⟨by first | exact Nat.le_of_ble_eq_true rfl | omega | (show _ ≤ _; omega) | (dsimp only [headSpec]; omega), by first | exact Nat.le_of_ble_eq_true rfl | omega | (show _ ≤ _; omega) | (dsimp only [headSpec]; omega)⟩) hS (fun z_4 locs_1 hz_3 hS_2 => ?_)
            subst z_4
            refine lv_istore_n (lv' := [(1, .int (kI (csg t pl))), (0, .ref rd)]) hx hb dX9_order_4 rfl hl (by decide) rfl (fun ls hl => ?_)
            refine lv_aload_n hx hb dX9_order_5 rfl (lv_at hl 1 rfl) ?_
            refine lv_dup hx hb dX9_order_6 rfl ?_
            refine kx_get (v := .int (kI ((pl : Nat) : Int))) (C := RX9) (T := TX9) (N := 5) hx hb hts in_X9 hown hK hO_rd rfl 0 (by decide) q1541 (fun _ h9 => h9) rfl dX9_order_7 ?_
            obtain ⟨hv_5, zv_6, hL_7⟩ := kK.ltO hK hS_2 hB
            refine va_ldcS hx hb hown hK.sLt dX9_order_10 ?_
            refine lv_iload_n hx hb dX9_order_12 rfl (lv_at hl 0 rfl) ?_
            refine kx_ci0 (va_runV (As := [.int (kI (csg t pl))]) (rest := [.int (kI ((pl : Nat) : Int)), .ref rd]) ⟨hx, hb, hml, hown, hts⟩ (m_J6_indexOf l D s.heap (csg t pl) hv_5 zv_6 hL_7 (by first | assumption | omega)) (cwV 1 hts (lw_V q1585 q1586 q1587 q87 q1588) rfl rfl rfl (by decide +kernel) ⟨Nat.le_of_ble_eq_true rfl, Nat.le_of_ble_eq_true rfl⟩) (kx_pv hK hS_2 hB (kx_rc hK hL_7 (C := RJ6) (T := TJ6) (N := 4) rfl)) rfl rfl hl.1 rfl (lv_room (Nat.le_of_ble_eq_true rfl)) dX9_order_13 ⟨by first | exact Nat.le_of_ble_eq_true rfl | omega | (show _ ≤ _; omega) | (dsimp only [headSpec]; omega), by first | exact Nat.le_of_ble_eq_true rfl | omega | (show _ ≤ _; omega) | (dsimp only [headSpec]; omega)⟩) hS_2 (fun z_11 locs_8 hz_10 hS_9 => ?_)
            subst z_11
            refine kx_if_lt (x := lt_ix (csg t pl)) (tgt := 23) hx hb dX9_order_16 (by decide) (by have := lt_ix_rng (csg t pl); omega) (by have := lt_ix_rng (csg t pl); omega) (fun c_16_12 => ?_) (fun c_16_12 => ?_)
            · -- taken at 16
              exfalso; have := lt_ix_in hL0; omega
            · -- not taken at 16
              refine kx_iconst hx hb dX9_order_19 ?_
              refine lv_goto (tgt := 24) hx hb dX9_order_20 (by decide) ?_
              refine kx_iadd hx hb dX9_order_24 ?_
              refine kx_eqi (((pl + 1 : Nat) : Int)) (by omega) ?_
              refine kx_put (v := .int (kI ((pl + 1 : Nat) : Int))) (C := RX9) (T := TX9) (N := 5) hx hb hts in_X9 hown hK hO_rd rfl 0 (by decide) tyX9 tyX9_ok nmX9 hS_9 (by first | rfl | exact Or.inl rfl | exact Or.inr rfl | exact Or.inr (Or.inl rfl) | exact Or.inr (Or.inr rfl) | exact Or.inr (Or.inr (Or.inl rfl)) | exact Or.inr (Or.inr (Or.inr rfl)) | ((try dsimp only); (try simp only [kNW]); omega)) q1541 (fun _ h9 => h9) rfl rfl rfl rfl (Nat.le_of_ble_eq_true rfl) dX9_order_25 (fun H_15 locs_16 hO_14 hU_13 hS_17 => ?_)
              have hO_14 : kO D H_15 rd 8 [.int (kI ((pl + 1 : Nat) : Int)), .int (kI (kb (false))), .ref oa, .int (kI ((mn : Nat) : Int)), .ref x1] := hO_14
              have hzu_18 := hU_13.1
              refine lv_null hx hb dX9_order_28 ?_
              refine lv_astore_nN (lv' := [(2, .null), (1, .int (kI (csg t pl))), (0, .ref rd)]) hx hb dX9_order_29 rfl hl (by decide) rfl (fun ls hl => ?_)
              refine lv_iload_n hx hb dX9_order_30 rfl (lv_at hl 1 rfl) ?_
              refine kx_eqi (110) (hlt) ?_
              refine lv_tableIn (off := 105) (tgt := 136) hx hb dX9_order_31 (by decide) (by decide) (by decide) (by decide) ?_
              refine lv_aload_n hx hb dX9_order_136 rfl (lv_at hl 2 rfl) ?_
              refine lv_aload_n hx hb dX9_order_137 rfl (lv_at hl 2 rfl) ?_
              refine kx_bipush hx hb (by decide) dX9_order_138 ?_
              have h_19 := hO_x1.up hU_13 (by first | assumption | exact Ne.symm (by assumption)  | omega | (have h9 := hO_x1.lt; omega))
              have h_20 := hO_bu.up hU_13 (by first | assumption | exact Ne.symm (by assumption)  | omega | (have h9 := hO_bu.lt; omega))
              have h_21 := hA_vb.up hU_13 (by first | assumption | exact Ne.symm (by assumption)  | omega | (have h9 := hA_vb.lt; omega))
              refine kx_ci (va_runV (As := [.int (kI (99))]) (rest := [.ref rd]) ⟨hx, hb, hml, hown, hts⟩ (m_num_y l D H_15 rd (pl + 1) oa mn x1 st snp hi bu vb ml cap g t 99 hO_14 h_19 h_20 h_21 (by first | assumption | omega) (by first | assumption | omega) (by first | assumption | omega) (by first | assumption | omega) (by first | assumption | omega) ((by omega)) bs_rd hd1) (cwV 1 hts (lw_V q1633 q1635 qs21 q125 q1636) rfl rfl rfl (by decide +kernel) ⟨Nat.le_of_ble_eq_true rfl, Nat.le_of_ble_eq_true rfl⟩) (kx_pv hK hS_17 hB (kx_rc hK hO_14 (C := RX9) (T := TX9) (N := 5) rfl)) rfl rfl hl.1 rfl (lv_room (Nat.le_of_ble_eq_true rfl)) dX9_order_140 ⟨by first | exact Nat.le_of_ble_eq_true rfl | omega | (show _ ≤ _; omega) | (dsimp only [headSpec]; omega), by first | exact Nat.le_of_ble_eq_true rfl | omega | (show _ ≤ _; omega) | (dsimp only [headSpec]; omega)⟩) hS_17 (fun q _ h => by have h9 := hS_17.1; (try dsimp only at h); (try dsimp only); (try simp only [kNW] at h); (try simp only [kNW]); omega) (fun q h => by have h9 := hS_17.1; (try dsimp only at h); (try dsimp only); (try simp only [kNW] at h); (try simp only [kNW]); omega) (fun z_27 H_25 locs_22 hz_24 hF_26 hS_23 => ?_)
              have hzf_28 := hF_26.1
              refine W.widen (k := 0) (n := 0) (Nat.le_of_ble_eq_true rfl) (Nat.le_of_ble_eq_true rfl) ?_
              obtain ⟨hv_29, ho_30⟩ := hz_24
              subst z_27
              have h_31 := h_19.fr hF_26 (fun h => by (try dsimp only at h); (try simp only [kNW] at h); omega)
              have h_32 := h_20.fr hF_26 (fun h => by (try dsimp only at h); (try simp only [kNW] at h); omega)
              have h_33 := h_21.fr hF_26 (fun h => by (try dsimp only at h); (try simp only [kNW] at h); omega)
              refine kx_cr (va_runV (As := [.int (kI ((tx_num t 99 (pl + 1)).1))]) (rest := []) ⟨hx, hb, hml, hown, hts⟩ (m_beg_y l D H_25 rd ((tx_num t 99 (pl + 1)).2) oa mn x1 st snp hi bu vb ml cap g t ((tx_num t 99 (pl + 1)).1) ho_30 h_31 h_32 h_33 (by first | assumption | omega) (by first | assumption | omega) (by first | assumption | omega) (by first | assumption | omega) (by first | assumption | omega) bs_rd hd2 hd3) (cwV 1 hts (lw_V q1641 q1643 qs23 q125 q1644) rfl rfl rfl (by decide +kernel) ⟨Nat.le_of_ble_eq_true rfl, Nat.le_of_ble_eq_true rfl⟩) (kx_pv hK hS_23 hB (kx_rc hK ho_30 (C := RX9) (T := TX9) (N := 5) rfl)) rfl rfl hl.1 rfl (lv_room (Nat.le_of_ble_eq_true rfl)) dX9_order_143 ⟨by first | exact Nat.le_of_ble_eq_true rfl | omega | (show _ ≤ _; omega) | (dsimp only [headSpec]; omega), by first | exact Nat.le_of_ble_eq_true rfl | omega | (show _ ≤ _; omega) | (dsimp only [headSpec]; omega)⟩) hS_23 (fun q _ h => by rcases h with h | h; exact Or.inl h; exact Or.inr (Or.inr (by omega))) (fun q h => by rcases h with h | h; exact Or.inl h; exact Or.inr (Or.inr (by omega))) (fun z_39 H_37 locs_34 hz_36 hF_38 hS_35 => ?_)
              have hzf_40 := hF_38.1
              refine W.widen (k := 1) (n := 2) (Nat.le_of_ble_eq_true rfl) (Nat.le_of_ble_eq_true rfl) ?_
              obtain ⟨ho_41, ho_42, hnew_43⟩ := hz_36
              refine lv_astore_n (lv' := [(2, .ref z_39), (1, .int (kI (csg t pl))), (0, .ref rd)]) hx hb dX9_order_146 rfl hl (by decide) rfl (fun ls hl => ?_)
              refine lv_goto (tgt := 254) hx hb dX9_order_147 (by decide) ?_
              refine lv_aload_n hx hb dX9_order_254 rfl (lv_at hl 2 rfl) ?_
              refine kx_get (v := .int (kI (kb (false)))) (C := RX9) (T := TX9) (N := 5) hx hb hts in_X9 hown hK ho_41 rfl 1 (by decide) q1543 (fun _ h9 => h9) rfl dX9_order_255 ?_
              refine kx_ifnz (tgt := 281) hx hb dX9_order_258 (by decide) (fun c_258_44 => ?_) (fun c_258_44 => ?_)
              · -- taken at 258
                first | exact absurd c_258_44 (by decide) | exact Bool.noConfusion c_258_44 | (simp at c_258_44; done)
              · -- not taken at 258
                refine lv_aload_n hx hb dX9_order_261 rfl (lv_at hl 2 rfl) ?_
                refine kx_get (v := .ref oa) (C := RX9) (T := TX9) (N := 5) hx hb hts in_X9 hown hK ho_41 rfl 2 (by decide) q1544 (fun _ h9 => h9) rfl dX9_order_262 ?_
                refine lv_aload_n hx hb dX9_order_265 rfl (lv_at hl 2 rfl) ?_
                refine kx_get (v := .int (kI ((mn : Nat) : Int))) (C := RX9) (T := TX9) (N := 5) hx hb hts in_X9 hown hK ho_41 rfl 3 (by decide) q1545 (fun _ h9 => h9) rfl dX9_order_266 ?_
                refine lv_aload_n hx hb dX9_order_269 rfl (lv_at hl 0 rfl) ?_
                have h_45 := hA_oa.up hU_13 (by first | assumption | exact Ne.symm (by assumption)  | omega | (have h9 := hA_oa.lt; omega))
                have h_46 := h_45.fr hF_26 (fun h => by (try dsimp only at h); (try simp only [kNW] at h); omega)
                have h_47 := h_46.fr hF_38 (fun h => by (try dsimp only at h); (try simp only [kNW] at h); omega)
                refine kx_aastL hx hb hK (t := 6) rfl h_47 hS_35 (by first | rfl | exact Or.inl rfl | exact Or.inr rfl | exact Or.inr (Or.inl rfl) | exact Or.inr (Or.inr rfl) | exact Or.inr (Or.inr (Or.inl rfl)) | exact Or.inr (Or.inr (Or.inr rfl)) | ((try dsimp only); (try simp only [kNW]); omega)) mn (rfl) (by omega) (by omega) ho_42 (q := _) rfl rfl dX9_order_270 (fun H_50 locs_51 hA_49 hU_48 hS_52 => ?_)
                have hzu_53 := hU_48.1
                refine lv_aload_n hx hb dX9_order_271 rfl (lv_at hl 2 rfl) ?_
                refine lv_dup hx hb dX9_order_272 rfl ?_
                have h_54 := ho_41.up hU_48 (by first | assumption | exact Ne.symm (by assumption)  | omega | (have h9 := ho_41.lt; omega))
                refine kx_get (v := .int (kI ((mn : Nat) : Int))) (C := RX9) (T := TX9) (N := 5) hx hb hts in_X9 hown hK h_54 rfl 3 (by decide) q1545 (fun _ h9 => h9) rfl dX9_order_273 ?_
                refine kx_iconst hx hb dX9_order_276 ?_
                refine kx_iadd hx hb dX9_order_277 ?_
                refine kx_eqi (((mn + 1 : Nat) : Int)) (by omega) ?_
                refine kx_put (v := .int (kI ((mn + 1 : Nat) : Int))) (C := RX9) (T := TX9) (N := 5) hx hb hts in_X9 hown hK h_54 rfl 3 (by decide) tyX9 tyX9_ok nmX9 hS_52 (by first | rfl | exact Or.inl rfl | exact Or.inr rfl | exact Or.inr (Or.inl rfl) | exact Or.inr (Or.inr rfl) | exact Or.inr (Or.inr (Or.inl rfl)) | exact Or.inr (Or.inr (Or.inr rfl)) | ((try dsimp only); (try simp only [kNW]); omega)) q1545 (fun _ h9 => h9) rfl rfl rfl rfl (Nat.le_of_ble_eq_true rfl) dX9_order_278 (fun H_57 locs_58 hO_56 hU_55 hS_59 => ?_)
                have hO_56 : kO D H_57 rd 8 [.int (kI (((tx_num t 383 ((((tx_num t 99 (pl + 1)).2)) + 1)).2 : Nat) : Int)), .int (kI (kb (false))), .ref oa, .int (kI ((mn + 1 : Nat) : Int)), .ref x1] := hO_56
                have hzu_60 := hU_55.1
                have h_61 := hA_49.up hU_55 (by first | assumption | exact Ne.symm (by assumption)  | omega | (have h9 := hA_49.lt; omega))
                have hOo9 : kOl D H_57 b0 H_57.size go mn t := (hP_kOl_b0.fr (va_S.toFr hS_59) (fun x hx => by rcases hx with z | z | z <;> omega)).mono (by omega)
                have hfin : kO D H_57 rd 8 [.int (kI (((rdW t pl).2.1 : Nat) : Int)), .int (kI (kb (!(rdW t pl).1))), .ref oa, .int (kI ((mn + 1 : Nat) : Int)), .ref x1] := by rw [hrd9]; exact hO_56
                have h_62 := ho_42.up hU_48 (by first | assumption | exact Ne.symm (by assumption)  | omega | (have h9 := ho_42.lt; omega))
                have h_63 := h_62.up hU_55 (by first | assumption | exact Ne.symm (by assumption)  | omega | (have h9 := h_62.lt; omega))
                have hkq9 : kOrd D H_57 b0 H_57.size t (opos t mn) z_39 := by rw [← hpo]; exact Or.inr ⟨⟨by omega, by have h9 := h_63.lt; omega⟩, Or.inr (Or.inl ⟨hl9, by rw [hrd9]; exact h_63⟩)⟩
                have hOl9 := hOo9.add hkq9
                have hmn9 : mn + 1 = if (rdW t pl).1 = true then mn + 1 else mn := by rw [hrd9]; rfl
                refine W.widen (k := 2) (n := 22) (by omega) (by omega) ?_
                exact kx_vret hx hb hr hlk (⟨(mn + 1), ((kupq go mn (some z_39))), H_57.size, hfin, h_61, hOl9, by exact hmn9, by exact ⟨by omega, Nat.le_refl _⟩⟩) hS_59 dX9_order_281
          · -- no second
            have hrd9 : rdW t pl = (false, (tx_num t 99 (pl + 1)).2 + 1, (tx_num t 99 (pl + 1)).1, tsg t ((tx_num t 99 (pl + 1)).2 + 1) - 48) := by rw [rd_n hl9, rd_two]; rw [if_pos hn1, if_pos (by omega), if_neg (by unfold tx_numOK; omega)]
            refine lv_aload_n hx hb dX9_order_0 rfl (lv_at hl 0 rfl) ?_
            refine kx_ci0 (va_runV (As := []) (rest := []) ⟨hx, hb, hml, hown, hts⟩ (m_sgn l D s.heap rd pl false oa mn x1 st snp hi bu vb ml cap g t hO_rd hO_x1 hO_bu hA_vb (by first | assumption | omega) (by first | assumption | omega) (by first | assumption | omega) (by first | assumption | omega) (by first | assumption | omega)) (cwV 0 hts (lw_V q1566 q1568 qs20 q125 q1569) rfl rfl rfl (by decide +kernel) ⟨Nat.le_of_ble_eq_true rfl, Nat.le_of_ble_eq_true rfl⟩) (kx_pv hK hS hB (kx_rc hK hO_rd (C := RX9) (T := TX9) (N := 5) rfl)) rfl rfl hl.1 rfl (lv_room (Nat.le_of_ble_eq_true rfl)) dX9_order_1 ⟨by first | exact Nat.le_of_ble_eq_true rfl | omega | (show _ ≤ _; omega) | (dsimp only [headSpec]; omega), by first | exact Nat.le_of_ble_eq_true rfl | omega | (show _ ≤ _; omega) | (dsimp only [headSpec]; omega)⟩) hS (fun z_67 locs_64 hz_66 hS_65 => ?_)
            subst z_67
            refine lv_istore_n (lv' := [(1, .int (kI (csg t pl))), (0, .ref rd)]) hx hb dX9_order_4 rfl hl (by decide) rfl (fun ls hl => ?_)
            refine lv_aload_n hx hb dX9_order_5 rfl (lv_at hl 1 rfl) ?_
            refine lv_dup hx hb dX9_order_6 rfl ?_
            refine kx_get (v := .int (kI ((pl : Nat) : Int))) (C := RX9) (T := TX9) (N := 5) hx hb hts in_X9 hown hK hO_rd rfl 0 (by decide) q1541 (fun _ h9 => h9) rfl dX9_order_7 ?_
            obtain ⟨hv_68, zv_69, hL_70⟩ := kK.ltO hK hS_65 hB
            refine va_ldcS hx hb hown hK.sLt dX9_order_10 ?_
            refine lv_iload_n hx hb dX9_order_12 rfl (lv_at hl 0 rfl) ?_
            refine kx_ci0 (va_runV (As := [.int (kI (csg t pl))]) (rest := [.int (kI ((pl : Nat) : Int)), .ref rd]) ⟨hx, hb, hml, hown, hts⟩ (m_J6_indexOf l D s.heap (csg t pl) hv_68 zv_69 hL_70 (by first | assumption | omega)) (cwV 1 hts (lw_V q1585 q1586 q1587 q87 q1588) rfl rfl rfl (by decide +kernel) ⟨Nat.le_of_ble_eq_true rfl, Nat.le_of_ble_eq_true rfl⟩) (kx_pv hK hS_65 hB (kx_rc hK hL_70 (C := RJ6) (T := TJ6) (N := 4) rfl)) rfl rfl hl.1 rfl (lv_room (Nat.le_of_ble_eq_true rfl)) dX9_order_13 ⟨by first | exact Nat.le_of_ble_eq_true rfl | omega | (show _ ≤ _; omega) | (dsimp only [headSpec]; omega), by first | exact Nat.le_of_ble_eq_true rfl | omega | (show _ ≤ _; omega) | (dsimp only [headSpec]; omega)⟩) hS_65 (fun z_74 locs_71 hz_73 hS_72 => ?_)
            subst z_74
            refine kx_if_lt (x := lt_ix (csg t pl)) (tgt := 23) hx hb dX9_order_16 (by decide) (by have := lt_ix_rng (csg t pl); omega) (by have := lt_ix_rng (csg t pl); omega) (fun c_16_75 => ?_) (fun c_16_75 => ?_)
            · -- taken at 16
              exfalso; have := lt_ix_in hL0; omega
            · -- not taken at 16
              refine kx_iconst hx hb dX9_order_19 ?_
              refine lv_goto (tgt := 24) hx hb dX9_order_20 (by decide) ?_
              refine kx_iadd hx hb dX9_order_24 ?_
              refine kx_eqi (((pl + 1 : Nat) : Int)) (by omega) ?_
              refine kx_put (v := .int (kI ((pl + 1 : Nat) : Int))) (C := RX9) (T := TX9) (N := 5) hx hb hts in_X9 hown hK hO_rd rfl 0 (by decide) tyX9 tyX9_ok nmX9 hS_72 (by first | rfl | exact Or.inl rfl | exact Or.inr rfl | exact Or.inr (Or.inl rfl) | exact Or.inr (Or.inr rfl) | exact Or.inr (Or.inr (Or.inl rfl)) | exact Or.inr (Or.inr (Or.inr rfl)) | ((try dsimp only); (try simp only [kNW]); omega)) q1541 (fun _ h9 => h9) rfl rfl rfl rfl (Nat.le_of_ble_eq_true rfl) dX9_order_25 (fun H_78 locs_79 hO_77 hU_76 hS_80 => ?_)
              have hO_77 : kO D H_78 rd 8 [.int (kI ((pl + 1 : Nat) : Int)), .int (kI (kb (false))), .ref oa, .int (kI ((mn : Nat) : Int)), .ref x1] := hO_77
              have hzu_81 := hU_76.1
              refine lv_null hx hb dX9_order_28 ?_
              refine lv_astore_nN (lv' := [(2, .null), (1, .int (kI (csg t pl))), (0, .ref rd)]) hx hb dX9_order_29 rfl hl (by decide) rfl (fun ls hl => ?_)
              refine lv_iload_n hx hb dX9_order_30 rfl (lv_at hl 1 rfl) ?_
              refine kx_eqi (110) (hlt) ?_
              refine lv_tableIn (off := 105) (tgt := 136) hx hb dX9_order_31 (by decide) (by decide) (by decide) (by decide) ?_
              refine lv_aload_n hx hb dX9_order_136 rfl (lv_at hl 2 rfl) ?_
              refine lv_aload_n hx hb dX9_order_137 rfl (lv_at hl 2 rfl) ?_
              refine kx_bipush hx hb (by decide) dX9_order_138 ?_
              have h_82 := hO_x1.up hU_76 (by first | assumption | exact Ne.symm (by assumption)  | omega | (have h9 := hO_x1.lt; omega))
              have h_83 := hO_bu.up hU_76 (by first | assumption | exact Ne.symm (by assumption)  | omega | (have h9 := hO_bu.lt; omega))
              have h_84 := hA_vb.up hU_76 (by first | assumption | exact Ne.symm (by assumption)  | omega | (have h9 := hA_vb.lt; omega))
              refine kx_ci (va_runV (As := [.int (kI (99))]) (rest := [.ref rd]) ⟨hx, hb, hml, hown, hts⟩ (m_num_y l D H_78 rd (pl + 1) oa mn x1 st snp hi bu vb ml cap g t 99 hO_77 h_82 h_83 h_84 (by first | assumption | omega) (by first | assumption | omega) (by first | assumption | omega) (by first | assumption | omega) (by first | assumption | omega) ((by omega)) bs_rd hd1) (cwV 1 hts (lw_V q1633 q1635 qs21 q125 q1636) rfl rfl rfl (by decide +kernel) ⟨Nat.le_of_ble_eq_true rfl, Nat.le_of_ble_eq_true rfl⟩) (kx_pv hK hS_80 hB (kx_rc hK hO_77 (C := RX9) (T := TX9) (N := 5) rfl)) rfl rfl hl.1 rfl (lv_room (Nat.le_of_ble_eq_true rfl)) dX9_order_140 ⟨by first | exact Nat.le_of_ble_eq_true rfl | omega | (show _ ≤ _; omega) | (dsimp only [headSpec]; omega), by first | exact Nat.le_of_ble_eq_true rfl | omega | (show _ ≤ _; omega) | (dsimp only [headSpec]; omega)⟩) hS_80 (fun q _ h => by have h9 := hS_80.1; (try dsimp only at h); (try dsimp only); (try simp only [kNW] at h); (try simp only [kNW]); omega) (fun q h => by have h9 := hS_80.1; (try dsimp only at h); (try dsimp only); (try simp only [kNW] at h); (try simp only [kNW]); omega) (fun z_90 H_88 locs_85 hz_87 hF_89 hS_86 => ?_)
              have hzf_91 := hF_89.1
              refine W.widen (k := 0) (n := 0) (Nat.le_of_ble_eq_true rfl) (Nat.le_of_ble_eq_true rfl) ?_
              obtain ⟨hv_92, ho_93⟩ := hz_87
              subst z_90
              have h_94 := h_82.fr hF_89 (fun h => by (try dsimp only at h); (try simp only [kNW] at h); omega)
              have h_95 := h_83.fr hF_89 (fun h => by (try dsimp only at h); (try simp only [kNW] at h); omega)
              have h_96 := h_84.fr hF_89 (fun h => by (try dsimp only at h); (try simp only [kNW] at h); omega)
              refine kx_cr (va_runV (As := [.int (kI ((tx_num t 99 (pl + 1)).1))]) (rest := []) ⟨hx, hb, hml, hown, hts⟩ (m_beg_n2 l D H_88 rd ((tx_num t 99 (pl + 1)).2) oa mn x1 st snp hi bu vb ml cap g t ((tx_num t 99 (pl + 1)).1) ho_93 h_94 h_95 h_96 (by first | assumption | omega) (by first | assumption | omega) (by first | assumption | omega) (by first | assumption | omega) (by first | assumption | omega) bs_rd hd2 hd3) (cwV 1 hts (lw_V q1641 q1643 qs23 q125 q1644) rfl rfl rfl (by decide +kernel) ⟨Nat.le_of_ble_eq_true rfl, Nat.le_of_ble_eq_true rfl⟩) (kx_pv hK hS_86 hB (kx_rc hK ho_93 (C := RX9) (T := TX9) (N := 5) rfl)) rfl rfl hl.1 rfl (lv_room (Nat.le_of_ble_eq_true rfl)) dX9_order_143 ⟨by first | exact Nat.le_of_ble_eq_true rfl | omega | (show _ ≤ _; omega) | (dsimp only [headSpec]; omega), by first | exact Nat.le_of_ble_eq_true rfl | omega | (show _ ≤ _; omega) | (dsimp only [headSpec]; omega)⟩) hS_86 (fun q _ h => by rcases h with h | h; exact Or.inl h; exact Or.inr (Or.inr (by omega))) (fun q h => by rcases h with h | h; exact Or.inl h; exact Or.inr (Or.inr (by omega))) (fun z_102 H_100 locs_97 hz_99 hF_101 hS_98 => ?_)
              have hzf_103 := hF_101.1
              refine W.widen (k := 1) (n := 2) (Nat.le_of_ble_eq_true rfl) (Nat.le_of_ble_eq_true rfl) ?_
              obtain ⟨ho_104, hnew_105⟩ := hz_99
              refine lv_astore_n (lv' := [(2, .ref z_102), (1, .int (kI (csg t pl))), (0, .ref rd)]) hx hb dX9_order_146 rfl hl (by decide) rfl (fun ls hl => ?_)
              refine lv_goto (tgt := 254) hx hb dX9_order_147 (by decide) ?_
              refine lv_aload_n hx hb dX9_order_254 rfl (lv_at hl 2 rfl) ?_
              refine kx_get (v := .int (kI (kb (true)))) (C := RX9) (T := TX9) (N := 5) hx hb hts in_X9 hown hK ho_104 rfl 1 (by decide) q1543 (fun _ h9 => h9) rfl dX9_order_255 ?_
              refine kx_ifnz (tgt := 281) hx hb dX9_order_258 (by decide) (fun c_258_106 => ?_) (fun c_258_106 => ?_)
              · -- taken at 258
                have h_107 := hA_oa.up hU_76 (by first | assumption | exact Ne.symm (by assumption)  | omega | (have h9 := hA_oa.lt; omega))
                have h_108 := h_107.fr hF_89 (fun h => by (try dsimp only at h); (try simp only [kNW] at h); omega)
                have h_109 := h_108.fr hF_101 (fun h => by (try dsimp only at h); (try simp only [kNW] at h); omega)
                have hOo9 : kOl D H_100 b0 H_100.size go mn t := (hP_kOl_b0.fr (va_S.toFr hS_98) (fun x hx => by rcases hx with z | z | z <;> omega)).mono (by omega)
                have hfin : kO D H_100 rd 8 [.int (kI (((rdW t pl).2.1 : Nat) : Int)), .int (kI (kb (!(rdW t pl).1))), .ref oa, .int (kI ((mn : Nat) : Int)), .ref x1] := by rw [hrd9]; exact ho_104
                have hmn9 : mn = if (rdW t pl).1 = true then mn + 1 else mn := by rw [hrd9]; rfl
                refine W.widen (k := 2) (n := 22) (by omega) (by omega) ?_
                exact kx_vret hx hb hr hlk (⟨mn, go, H_100.size, hfin, h_109, hOo9, by exact hmn9, by exact ⟨by omega, Nat.le_refl _⟩⟩) hS_98 dX9_order_281
              · -- not taken at 258
                first | exact absurd c_258_106 (by decide) | exact Bool.noConfusion c_258_106 | (simp at c_258_106; done)
        · -- no sign
          have hrd9 : rdW t pl = (false, (tx_num t 99 (pl + 1)).2, (tx_num t 99 (pl + 1)).1, 0) := by rw [rd_n hl9, rd_two]; rw [if_pos hn1, if_neg (by omega)]
          refine lv_aload_n hx hb dX9_order_0 rfl (lv_at hl 0 rfl) ?_
          refine kx_ci0 (va_runV (As := []) (rest := []) ⟨hx, hb, hml, hown, hts⟩ (m_sgn l D s.heap rd pl false oa mn x1 st snp hi bu vb ml cap g t hO_rd hO_x1 hO_bu hA_vb (by first | assumption | omega) (by first | assumption | omega) (by first | assumption | omega) (by first | assumption | omega) (by first | assumption | omega)) (cwV 0 hts (lw_V q1566 q1568 qs20 q125 q1569) rfl rfl rfl (by decide +kernel) ⟨Nat.le_of_ble_eq_true rfl, Nat.le_of_ble_eq_true rfl⟩) (kx_pv hK hS hB (kx_rc hK hO_rd (C := RX9) (T := TX9) (N := 5) rfl)) rfl rfl hl.1 rfl (lv_room (Nat.le_of_ble_eq_true rfl)) dX9_order_1 ⟨by first | exact Nat.le_of_ble_eq_true rfl | omega | (show _ ≤ _; omega) | (dsimp only [headSpec]; omega), by first | exact Nat.le_of_ble_eq_true rfl | omega | (show _ ≤ _; omega) | (dsimp only [headSpec]; omega)⟩) hS (fun z_113 locs_110 hz_112 hS_111 => ?_)
          subst z_113
          refine lv_istore_n (lv' := [(1, .int (kI (csg t pl))), (0, .ref rd)]) hx hb dX9_order_4 rfl hl (by decide) rfl (fun ls hl => ?_)
          refine lv_aload_n hx hb dX9_order_5 rfl (lv_at hl 1 rfl) ?_
          refine lv_dup hx hb dX9_order_6 rfl ?_
          refine kx_get (v := .int (kI ((pl : Nat) : Int))) (C := RX9) (T := TX9) (N := 5) hx hb hts in_X9 hown hK hO_rd rfl 0 (by decide) q1541 (fun _ h9 => h9) rfl dX9_order_7 ?_
          obtain ⟨hv_114, zv_115, hL_116⟩ := kK.ltO hK hS_111 hB
          refine va_ldcS hx hb hown hK.sLt dX9_order_10 ?_
          refine lv_iload_n hx hb dX9_order_12 rfl (lv_at hl 0 rfl) ?_
          refine kx_ci0 (va_runV (As := [.int (kI (csg t pl))]) (rest := [.int (kI ((pl : Nat) : Int)), .ref rd]) ⟨hx, hb, hml, hown, hts⟩ (m_J6_indexOf l D s.heap (csg t pl) hv_114 zv_115 hL_116 (by first | assumption | omega)) (cwV 1 hts (lw_V q1585 q1586 q1587 q87 q1588) rfl rfl rfl (by decide +kernel) ⟨Nat.le_of_ble_eq_true rfl, Nat.le_of_ble_eq_true rfl⟩) (kx_pv hK hS_111 hB (kx_rc hK hL_116 (C := RJ6) (T := TJ6) (N := 4) rfl)) rfl rfl hl.1 rfl (lv_room (Nat.le_of_ble_eq_true rfl)) dX9_order_13 ⟨by first | exact Nat.le_of_ble_eq_true rfl | omega | (show _ ≤ _; omega) | (dsimp only [headSpec]; omega), by first | exact Nat.le_of_ble_eq_true rfl | omega | (show _ ≤ _; omega) | (dsimp only [headSpec]; omega)⟩) hS_111 (fun z_120 locs_117 hz_119 hS_118 => ?_)
          subst z_120
          refine kx_if_lt (x := lt_ix (csg t pl)) (tgt := 23) hx hb dX9_order_16 (by decide) (by have := lt_ix_rng (csg t pl); omega) (by have := lt_ix_rng (csg t pl); omega) (fun c_16_121 => ?_) (fun c_16_121 => ?_)
          · -- taken at 16
            exfalso; have := lt_ix_in hL0; omega
          · -- not taken at 16
            refine kx_iconst hx hb dX9_order_19 ?_
            refine lv_goto (tgt := 24) hx hb dX9_order_20 (by decide) ?_
            refine kx_iadd hx hb dX9_order_24 ?_
            refine kx_eqi (((pl + 1 : Nat) : Int)) (by omega) ?_
            refine kx_put (v := .int (kI ((pl + 1 : Nat) : Int))) (C := RX9) (T := TX9) (N := 5) hx hb hts in_X9 hown hK hO_rd rfl 0 (by decide) tyX9 tyX9_ok nmX9 hS_118 (by first | rfl | exact Or.inl rfl | exact Or.inr rfl | exact Or.inr (Or.inl rfl) | exact Or.inr (Or.inr rfl) | exact Or.inr (Or.inr (Or.inl rfl)) | exact Or.inr (Or.inr (Or.inr rfl)) | ((try dsimp only); (try simp only [kNW]); omega)) q1541 (fun _ h9 => h9) rfl rfl rfl rfl (Nat.le_of_ble_eq_true rfl) dX9_order_25 (fun H_124 locs_125 hO_123 hU_122 hS_126 => ?_)
            have hO_123 : kO D H_124 rd 8 [.int (kI ((pl + 1 : Nat) : Int)), .int (kI (kb (false))), .ref oa, .int (kI ((mn : Nat) : Int)), .ref x1] := hO_123
            have hzu_127 := hU_122.1
            refine lv_null hx hb dX9_order_28 ?_
            refine lv_astore_nN (lv' := [(2, .null), (1, .int (kI (csg t pl))), (0, .ref rd)]) hx hb dX9_order_29 rfl hl (by decide) rfl (fun ls hl => ?_)
            refine lv_iload_n hx hb dX9_order_30 rfl (lv_at hl 1 rfl) ?_
            refine kx_eqi (110) (hlt) ?_
            refine lv_tableIn (off := 105) (tgt := 136) hx hb dX9_order_31 (by decide) (by decide) (by decide) (by decide) ?_
            refine lv_aload_n hx hb dX9_order_136 rfl (lv_at hl 2 rfl) ?_
            refine lv_aload_n hx hb dX9_order_137 rfl (lv_at hl 2 rfl) ?_
            refine kx_bipush hx hb (by decide) dX9_order_138 ?_
            have h_128 := hO_x1.up hU_122 (by first | assumption | exact Ne.symm (by assumption)  | omega | (have h9 := hO_x1.lt; omega))
            have h_129 := hO_bu.up hU_122 (by first | assumption | exact Ne.symm (by assumption)  | omega | (have h9 := hO_bu.lt; omega))
            have h_130 := hA_vb.up hU_122 (by first | assumption | exact Ne.symm (by assumption)  | omega | (have h9 := hA_vb.lt; omega))
            refine kx_ci (va_runV (As := [.int (kI (99))]) (rest := [.ref rd]) ⟨hx, hb, hml, hown, hts⟩ (m_num_y l D H_124 rd (pl + 1) oa mn x1 st snp hi bu vb ml cap g t 99 hO_123 h_128 h_129 h_130 (by first | assumption | omega) (by first | assumption | omega) (by first | assumption | omega) (by first | assumption | omega) (by first | assumption | omega) ((by omega)) bs_rd hd1) (cwV 1 hts (lw_V q1633 q1635 qs21 q125 q1636) rfl rfl rfl (by decide +kernel) ⟨Nat.le_of_ble_eq_true rfl, Nat.le_of_ble_eq_true rfl⟩) (kx_pv hK hS_126 hB (kx_rc hK hO_123 (C := RX9) (T := TX9) (N := 5) rfl)) rfl rfl hl.1 rfl (lv_room (Nat.le_of_ble_eq_true rfl)) dX9_order_140 ⟨by first | exact Nat.le_of_ble_eq_true rfl | omega | (show _ ≤ _; omega) | (dsimp only [headSpec]; omega), by first | exact Nat.le_of_ble_eq_true rfl | omega | (show _ ≤ _; omega) | (dsimp only [headSpec]; omega)⟩) hS_126 (fun q _ h => by have h9 := hS_126.1; (try dsimp only at h); (try dsimp only); (try simp only [kNW] at h); (try simp only [kNW]); omega) (fun q h => by have h9 := hS_126.1; (try dsimp only at h); (try dsimp only); (try simp only [kNW] at h); (try simp only [kNW]); omega) (fun z_136 H_134 locs_131 hz_133 hF_135 hS_132 => ?_)
            have hzf_137 := hF_135.1
            refine W.widen (k := 0) (n := 0) (Nat.le_of_ble_eq_true rfl) (Nat.le_of_ble_eq_true rfl) ?_
            obtain ⟨hv_138, ho_139⟩ := hz_133
            subst z_136
            have h_140 := h_128.fr hF_135 (fun h => by (try dsimp only at h); (try simp only [kNW] at h); omega)
            have h_141 := h_129.fr hF_135 (fun h => by (try dsimp only at h); (try simp only [kNW] at h); omega)
            have h_142 := h_130.fr hF_135 (fun h => by (try dsimp only at h); (try simp only [kNW] at h); omega)
            refine kx_cr (va_runV (As := [.int (kI ((tx_num t 99 (pl + 1)).1))]) (rest := []) ⟨hx, hb, hml, hown, hts⟩ (m_beg_n1 l D H_134 rd ((tx_num t 99 (pl + 1)).2) false oa mn x1 st snp hi bu vb ml cap g t ((tx_num t 99 (pl + 1)).1) ho_139 h_140 h_141 h_142 (by first | assumption | omega) (by first | assumption | omega) (by first | assumption | omega) (by first | assumption | omega) (by first | assumption | omega) bs_rd ((Or.inr hd2))) (cwV 1 hts (lw_V q1641 q1643 qs23 q125 q1644) rfl rfl rfl (by decide +kernel) ⟨Nat.le_of_ble_eq_true rfl, Nat.le_of_ble_eq_true rfl⟩) (kx_pv hK hS_132 hB (kx_rc hK ho_139 (C := RX9) (T := TX9) (N := 5) rfl)) rfl rfl hl.1 rfl (lv_room (Nat.le_of_ble_eq_true rfl)) dX9_order_143 ⟨by first | exact Nat.le_of_ble_eq_true rfl | omega | (show _ ≤ _; omega) | (dsimp only [headSpec]; omega), by first | exact Nat.le_of_ble_eq_true rfl | omega | (show _ ≤ _; omega) | (dsimp only [headSpec]; omega)⟩) hS_132 (fun q _ h => by rcases h with h | h; exact Or.inl h; exact Or.inr (Or.inr (by omega))) (fun q h => by rcases h with h | h; exact Or.inl h; exact Or.inr (Or.inr (by omega))) (fun z_148 H_146 locs_143 hz_145 hF_147 hS_144 => ?_)
            have hzf_149 := hF_147.1
            refine W.widen (k := 1) (n := 2) (Nat.le_of_ble_eq_true rfl) (Nat.le_of_ble_eq_true rfl) ?_
            obtain ⟨ho_150, hnew_151⟩ := hz_145
            refine lv_astore_n (lv' := [(2, .ref z_148), (1, .int (kI (csg t pl))), (0, .ref rd)]) hx hb dX9_order_146 rfl hl (by decide) rfl (fun ls hl => ?_)
            refine lv_goto (tgt := 254) hx hb dX9_order_147 (by decide) ?_
            refine lv_aload_n hx hb dX9_order_254 rfl (lv_at hl 2 rfl) ?_
            refine kx_get (v := .int (kI (kb (true)))) (C := RX9) (T := TX9) (N := 5) hx hb hts in_X9 hown hK ho_150 rfl 1 (by decide) q1543 (fun _ h9 => h9) rfl dX9_order_255 ?_
            refine kx_ifnz (tgt := 281) hx hb dX9_order_258 (by decide) (fun c_258_152 => ?_) (fun c_258_152 => ?_)
            · -- taken at 258
              have h_153 := hA_oa.up hU_122 (by first | assumption | exact Ne.symm (by assumption)  | omega | (have h9 := hA_oa.lt; omega))
              have h_154 := h_153.fr hF_135 (fun h => by (try dsimp only at h); (try simp only [kNW] at h); omega)
              have h_155 := h_154.fr hF_147 (fun h => by (try dsimp only at h); (try simp only [kNW] at h); omega)
              have hOo9 : kOl D H_146 b0 H_146.size go mn t := (hP_kOl_b0.fr (va_S.toFr hS_144) (fun x hx => by rcases hx with z | z | z <;> omega)).mono (by omega)
              have hfin : kO D H_146 rd 8 [.int (kI (((rdW t pl).2.1 : Nat) : Int)), .int (kI (kb (!(rdW t pl).1))), .ref oa, .int (kI ((mn : Nat) : Int)), .ref x1] := by rw [hrd9]; exact ho_150
              have hmn9 : mn = if (rdW t pl).1 = true then mn + 1 else mn := by rw [hrd9]; rfl
              refine W.widen (k := 2) (n := 22) (by omega) (by omega) ?_
              exact kx_vret hx hb hr hlk (⟨mn, go, H_146.size, hfin, h_155, hOo9, by exact hmn9, by exact ⟨by omega, Nat.le_refl _⟩⟩) hS_144 dX9_order_281
            · -- not taken at 258
              first | exact absurd c_258_152 (by decide) | exact Bool.noConfusion c_258_152 | (simp at c_258_152; done)
      · -- no number
        have hrd9 : rdW t pl = (false, pl + 1, tsg t (pl + 1) - 48, 0) := by rw [rd_n hl9, rd_two, if_neg (by unfold tx_numOK; omega)]
        refine lv_aload_n hx hb dX9_order_0 rfl (lv_at hl 0 rfl) ?_
        refine kx_ci0 (va_runV (As := []) (rest := []) ⟨hx, hb, hml, hown, hts⟩ (m_sgn l D s.heap rd pl false oa mn x1 st snp hi bu vb ml cap g t hO_rd hO_x1 hO_bu hA_vb (by first | assumption | omega) (by first | assumption | omega) (by first | assumption | omega) (by first | assumption | omega) (by first | assumption | omega)) (cwV 0 hts (lw_V q1566 q1568 qs20 q125 q1569) rfl rfl rfl (by decide +kernel) ⟨Nat.le_of_ble_eq_true rfl, Nat.le_of_ble_eq_true rfl⟩) (kx_pv hK hS hB (kx_rc hK hO_rd (C := RX9) (T := TX9) (N := 5) rfl)) rfl rfl hl.1 rfl (lv_room (Nat.le_of_ble_eq_true rfl)) dX9_order_1 ⟨by first | exact Nat.le_of_ble_eq_true rfl | omega | (show _ ≤ _; omega) | (dsimp only [headSpec]; omega), by first | exact Nat.le_of_ble_eq_true rfl | omega | (show _ ≤ _; omega) | (dsimp only [headSpec]; omega)⟩) hS (fun z_159 locs_156 hz_158 hS_157 => ?_)
        subst z_159
        refine lv_istore_n (lv' := [(1, .int (kI (csg t pl))), (0, .ref rd)]) hx hb dX9_order_4 rfl hl (by decide) rfl (fun ls hl => ?_)
        refine lv_aload_n hx hb dX9_order_5 rfl (lv_at hl 1 rfl) ?_
        refine lv_dup hx hb dX9_order_6 rfl ?_
        refine kx_get (v := .int (kI ((pl : Nat) : Int))) (C := RX9) (T := TX9) (N := 5) hx hb hts in_X9 hown hK hO_rd rfl 0 (by decide) q1541 (fun _ h9 => h9) rfl dX9_order_7 ?_
        obtain ⟨hv_160, zv_161, hL_162⟩ := kK.ltO hK hS_157 hB
        refine va_ldcS hx hb hown hK.sLt dX9_order_10 ?_
        refine lv_iload_n hx hb dX9_order_12 rfl (lv_at hl 0 rfl) ?_
        refine kx_ci0 (va_runV (As := [.int (kI (csg t pl))]) (rest := [.int (kI ((pl : Nat) : Int)), .ref rd]) ⟨hx, hb, hml, hown, hts⟩ (m_J6_indexOf l D s.heap (csg t pl) hv_160 zv_161 hL_162 (by first | assumption | omega)) (cwV 1 hts (lw_V q1585 q1586 q1587 q87 q1588) rfl rfl rfl (by decide +kernel) ⟨Nat.le_of_ble_eq_true rfl, Nat.le_of_ble_eq_true rfl⟩) (kx_pv hK hS_157 hB (kx_rc hK hL_162 (C := RJ6) (T := TJ6) (N := 4) rfl)) rfl rfl hl.1 rfl (lv_room (Nat.le_of_ble_eq_true rfl)) dX9_order_13 ⟨by first | exact Nat.le_of_ble_eq_true rfl | omega | (show _ ≤ _; omega) | (dsimp only [headSpec]; omega), by first | exact Nat.le_of_ble_eq_true rfl | omega | (show _ ≤ _; omega) | (dsimp only [headSpec]; omega)⟩) hS_157 (fun z_166 locs_163 hz_165 hS_164 => ?_)
        subst z_166
        refine kx_if_lt (x := lt_ix (csg t pl)) (tgt := 23) hx hb dX9_order_16 (by decide) (by have := lt_ix_rng (csg t pl); omega) (by have := lt_ix_rng (csg t pl); omega) (fun c_16_167 => ?_) (fun c_16_167 => ?_)
        · -- taken at 16
          exfalso; have := lt_ix_in hL0; omega
        · -- not taken at 16
          refine kx_iconst hx hb dX9_order_19 ?_
          refine lv_goto (tgt := 24) hx hb dX9_order_20 (by decide) ?_
          refine kx_iadd hx hb dX9_order_24 ?_
          refine kx_eqi (((pl + 1 : Nat) : Int)) (by omega) ?_
          refine kx_put (v := .int (kI ((pl + 1 : Nat) : Int))) (C := RX9) (T := TX9) (N := 5) hx hb hts in_X9 hown hK hO_rd rfl 0 (by decide) tyX9 tyX9_ok nmX9 hS_164 (by first | rfl | exact Or.inl rfl | exact Or.inr rfl | exact Or.inr (Or.inl rfl) | exact Or.inr (Or.inr rfl) | exact Or.inr (Or.inr (Or.inl rfl)) | exact Or.inr (Or.inr (Or.inr rfl)) | ((try dsimp only); (try simp only [kNW]); omega)) q1541 (fun _ h9 => h9) rfl rfl rfl rfl (Nat.le_of_ble_eq_true rfl) dX9_order_25 (fun H_170 locs_171 hO_169 hU_168 hS_172 => ?_)
          have hO_169 : kO D H_170 rd 8 [.int (kI ((pl + 1 : Nat) : Int)), .int (kI (kb (false))), .ref oa, .int (kI ((mn : Nat) : Int)), .ref x1] := hO_169
          have hzu_173 := hU_168.1
          refine lv_null hx hb dX9_order_28 ?_
          refine lv_astore_nN (lv' := [(2, .null), (1, .int (kI (csg t pl))), (0, .ref rd)]) hx hb dX9_order_29 rfl hl (by decide) rfl (fun ls hl => ?_)
          refine lv_iload_n hx hb dX9_order_30 rfl (lv_at hl 1 rfl) ?_
          refine kx_eqi (110) (hlt) ?_
          refine lv_tableIn (off := 105) (tgt := 136) hx hb dX9_order_31 (by decide) (by decide) (by decide) (by decide) ?_
          refine lv_aload_n hx hb dX9_order_136 rfl (lv_at hl 2 rfl) ?_
          refine lv_aload_n hx hb dX9_order_137 rfl (lv_at hl 2 rfl) ?_
          refine kx_bipush hx hb (by decide) dX9_order_138 ?_
          have h_174 := hO_x1.up hU_168 (by first | assumption | exact Ne.symm (by assumption)  | omega | (have h9 := hO_x1.lt; omega))
          have h_175 := hO_bu.up hU_168 (by first | assumption | exact Ne.symm (by assumption)  | omega | (have h9 := hO_bu.lt; omega))
          have h_176 := hA_vb.up hU_168 (by first | assumption | exact Ne.symm (by assumption)  | omega | (have h9 := hA_vb.lt; omega))
          refine kx_ci (va_runV (As := [.int (kI (99))]) (rest := [.ref rd]) ⟨hx, hb, hml, hown, hts⟩ (m_num_n l D H_170 rd (pl + 1) false oa mn x1 st snp hi bu vb ml cap g t 99 hO_169 h_174 h_175 h_176 (by first | assumption | omega) (by first | assumption | omega) (by first | assumption | omega) (by first | assumption | omega) (by first | assumption | omega) ((by omega)) bs_rd ((Or.inr hd1))) (cwV 1 hts (lw_V q1633 q1635 qs21 q125 q1636) rfl rfl rfl (by decide +kernel) ⟨Nat.le_of_ble_eq_true rfl, Nat.le_of_ble_eq_true rfl⟩) (kx_pv hK hS_172 hB (kx_rc hK hO_169 (C := RX9) (T := TX9) (N := 5) rfl)) rfl rfl hl.1 rfl (lv_room (Nat.le_of_ble_eq_true rfl)) dX9_order_140 ⟨by first | exact Nat.le_of_ble_eq_true rfl | omega | (show _ ≤ _; omega) | (dsimp only [headSpec]; omega), by first | exact Nat.le_of_ble_eq_true rfl | omega | (show _ ≤ _; omega) | (dsimp only [headSpec]; omega)⟩) hS_172 (fun q _ h => by have h9 := hS_172.1; (try dsimp only at h); (try dsimp only); (try simp only [kNW] at h); (try simp only [kNW]); omega) (fun q h => by have h9 := hS_172.1; (try dsimp only at h); (try dsimp only); (try simp only [kNW] at h); (try simp only [kNW]); omega) (fun z_182 H_180 locs_177 hz_179 hF_181 hS_178 => ?_)
          have hzf_183 := hF_181.1
          refine W.widen (k := 0) (n := 0) (Nat.le_of_ble_eq_true rfl) (Nat.le_of_ble_eq_true rfl) ?_
          obtain ⟨hv_184, ho_185⟩ := hz_179
          subst z_182
          have h_186 := h_174.fr hF_181 (fun h => by (try dsimp only at h); (try simp only [kNW] at h); omega)
          have h_187 := h_175.fr hF_181 (fun h => by (try dsimp only at h); (try simp only [kNW] at h); omega)
          have h_188 := h_176.fr hF_181 (fun h => by (try dsimp only at h); (try simp only [kNW] at h); omega)
          refine kx_cr (va_runV (As := [.int (kI ((csg t (pl + 1) - 48)))]) (rest := []) ⟨hx, hb, hml, hown, hts⟩ (m_beg_n1 l D H_180 rd ((pl + 1)) true oa mn x1 st snp hi bu vb ml cap g t ((csg t (pl + 1) - 48)) ho_185 h_186 h_187 h_188 (by first | assumption | omega) (by first | assumption | omega) (by first | assumption | omega) (by first | assumption | omega) (by first | assumption | omega) bs_rd ((Or.inl rfl))) (cwV 1 hts (lw_V q1641 q1643 qs23 q125 q1644) rfl rfl rfl (by decide +kernel) ⟨Nat.le_of_ble_eq_true rfl, Nat.le_of_ble_eq_true rfl⟩) (kx_pv hK hS_178 hB (kx_rc hK ho_185 (C := RX9) (T := TX9) (N := 5) rfl)) rfl rfl hl.1 rfl (lv_room (Nat.le_of_ble_eq_true rfl)) dX9_order_143 ⟨by first | exact Nat.le_of_ble_eq_true rfl | omega | (show _ ≤ _; omega) | (dsimp only [headSpec]; omega), by first | exact Nat.le_of_ble_eq_true rfl | omega | (show _ ≤ _; omega) | (dsimp only [headSpec]; omega)⟩) hS_178 (fun q _ h => by rcases h with h | h; exact Or.inl h; exact Or.inr (Or.inr (by omega))) (fun q h => by rcases h with h | h; exact Or.inl h; exact Or.inr (Or.inr (by omega))) (fun z_194 H_192 locs_189 hz_191 hF_193 hS_190 => ?_)
          have hzf_195 := hF_193.1
          refine W.widen (k := 1) (n := 2) (Nat.le_of_ble_eq_true rfl) (Nat.le_of_ble_eq_true rfl) ?_
          obtain ⟨ho_196, hnew_197⟩ := hz_191
          refine lv_astore_n (lv' := [(2, .ref z_194), (1, .int (kI (csg t pl))), (0, .ref rd)]) hx hb dX9_order_146 rfl hl (by decide) rfl (fun ls hl => ?_)
          refine lv_goto (tgt := 254) hx hb dX9_order_147 (by decide) ?_
          refine lv_aload_n hx hb dX9_order_254 rfl (lv_at hl 2 rfl) ?_
          refine kx_get (v := .int (kI (kb (true)))) (C := RX9) (T := TX9) (N := 5) hx hb hts in_X9 hown hK ho_196 rfl 1 (by decide) q1543 (fun _ h9 => h9) rfl dX9_order_255 ?_
          refine kx_ifnz (tgt := 281) hx hb dX9_order_258 (by decide) (fun c_258_198 => ?_) (fun c_258_198 => ?_)
          · -- taken at 258
            have h_199 := hA_oa.up hU_168 (by first | assumption | exact Ne.symm (by assumption)  | omega | (have h9 := hA_oa.lt; omega))
            have h_200 := h_199.fr hF_181 (fun h => by (try dsimp only at h); (try simp only [kNW] at h); omega)
            have h_201 := h_200.fr hF_193 (fun h => by (try dsimp only at h); (try simp only [kNW] at h); omega)
            have hOo9 : kOl D H_192 b0 H_192.size go mn t := (hP_kOl_b0.fr (va_S.toFr hS_190) (fun x hx => by rcases hx with z | z | z <;> omega)).mono (by omega)
            have hfin : kO D H_192 rd 8 [.int (kI (((rdW t pl).2.1 : Nat) : Int)), .int (kI (kb (!(rdW t pl).1))), .ref oa, .int (kI ((mn : Nat) : Int)), .ref x1] := by rw [hrd9]; exact ho_196
            have hmn9 : mn = if (rdW t pl).1 = true then mn + 1 else mn := by rw [hrd9]; rfl
            refine W.widen (k := 2) (n := 22) (by omega) (by omega) ?_
            exact kx_vret hx hb hr hlk (⟨mn, go, H_192.size, hfin, h_201, hOo9, by exact hmn9, by exact ⟨by omega, Nat.le_refl _⟩⟩) hS_190 dX9_order_281
          · -- not taken at 258
            first | exact absurd c_258_198 (by decide) | exact Bool.noConfusion c_258_198 | (simp at c_258_198; done)
    · -- s
      have hl9 : tsg t pl = 115 := by omega
      by_cases hd1 : 48 ≤ csg t (pl + 1) ∧ csg t (pl + 1) ≤ 55
      · -- steps
        have hrd9 : rdW t pl = (true, pl + 1 + tx_cnt t (pl + 1) 20, ((pl + 1 : Nat) : Int), (tx_cnt t (pl + 1) 20 : Int)) := by rw [rd_s hl9, decide_eq_true (by omega)]
        refine lv_aload_n hx hb dX9_order_0 rfl (lv_at hl 0 rfl) ?_
        refine kx_ci0 (va_runV (As := []) (rest := []) ⟨hx, hb, hml, hown, hts⟩ (m_sgn l D s.heap rd pl false oa mn x1 st snp hi bu vb ml cap g t hO_rd hO_x1 hO_bu hA_vb (by first | assumption | omega) (by first | assumption | omega) (by first | assumption | omega) (by first | assumption | omega) (by first | assumption | omega)) (cwV 0 hts (lw_V q1566 q1568 qs20 q125 q1569) rfl rfl rfl (by decide +kernel) ⟨Nat.le_of_ble_eq_true rfl, Nat.le_of_ble_eq_true rfl⟩) (kx_pv hK hS hB (kx_rc hK hO_rd (C := RX9) (T := TX9) (N := 5) rfl)) rfl rfl hl.1 rfl (lv_room (Nat.le_of_ble_eq_true rfl)) dX9_order_1 ⟨by first | exact Nat.le_of_ble_eq_true rfl | omega | (show _ ≤ _; omega) | (dsimp only [headSpec]; omega), by first | exact Nat.le_of_ble_eq_true rfl | omega | (show _ ≤ _; omega) | (dsimp only [headSpec]; omega)⟩) hS (fun z_205 locs_202 hz_204 hS_203 => ?_)
        subst z_205
        refine lv_istore_n (lv' := [(1, .int (kI (csg t pl))), (0, .ref rd)]) hx hb dX9_order_4 rfl hl (by decide) rfl (fun ls hl => ?_)
        refine lv_aload_n hx hb dX9_order_5 rfl (lv_at hl 1 rfl) ?_
        refine lv_dup hx hb dX9_order_6 rfl ?_
        refine kx_get (v := .int (kI ((pl : Nat) : Int))) (C := RX9) (T := TX9) (N := 5) hx hb hts in_X9 hown hK hO_rd rfl 0 (by decide) q1541 (fun _ h9 => h9) rfl dX9_order_7 ?_
        obtain ⟨hv_206, zv_207, hL_208⟩ := kK.ltO hK hS_203 hB
        refine va_ldcS hx hb hown hK.sLt dX9_order_10 ?_
        refine lv_iload_n hx hb dX9_order_12 rfl (lv_at hl 0 rfl) ?_
        refine kx_ci0 (va_runV (As := [.int (kI (csg t pl))]) (rest := [.int (kI ((pl : Nat) : Int)), .ref rd]) ⟨hx, hb, hml, hown, hts⟩ (m_J6_indexOf l D s.heap (csg t pl) hv_206 zv_207 hL_208 (by first | assumption | omega)) (cwV 1 hts (lw_V q1585 q1586 q1587 q87 q1588) rfl rfl rfl (by decide +kernel) ⟨Nat.le_of_ble_eq_true rfl, Nat.le_of_ble_eq_true rfl⟩) (kx_pv hK hS_203 hB (kx_rc hK hL_208 (C := RJ6) (T := TJ6) (N := 4) rfl)) rfl rfl hl.1 rfl (lv_room (Nat.le_of_ble_eq_true rfl)) dX9_order_13 ⟨by first | exact Nat.le_of_ble_eq_true rfl | omega | (show _ ≤ _; omega) | (dsimp only [headSpec]; omega), by first | exact Nat.le_of_ble_eq_true rfl | omega | (show _ ≤ _; omega) | (dsimp only [headSpec]; omega)⟩) hS_203 (fun z_212 locs_209 hz_211 hS_210 => ?_)
        subst z_212
        refine kx_if_lt (x := lt_ix (csg t pl)) (tgt := 23) hx hb dX9_order_16 (by decide) (by have := lt_ix_rng (csg t pl); omega) (by have := lt_ix_rng (csg t pl); omega) (fun c_16_213 => ?_) (fun c_16_213 => ?_)
        · -- taken at 16
          exfalso; have := lt_ix_in hL0; omega
        · -- not taken at 16
          refine kx_iconst hx hb dX9_order_19 ?_
          refine lv_goto (tgt := 24) hx hb dX9_order_20 (by decide) ?_
          refine kx_iadd hx hb dX9_order_24 ?_
          refine kx_eqi (((pl + 1 : Nat) : Int)) (by omega) ?_
          refine kx_put (v := .int (kI ((pl + 1 : Nat) : Int))) (C := RX9) (T := TX9) (N := 5) hx hb hts in_X9 hown hK hO_rd rfl 0 (by decide) tyX9 tyX9_ok nmX9 hS_210 (by first | rfl | exact Or.inl rfl | exact Or.inr rfl | exact Or.inr (Or.inl rfl) | exact Or.inr (Or.inr rfl) | exact Or.inr (Or.inr (Or.inl rfl)) | exact Or.inr (Or.inr (Or.inr rfl)) | ((try dsimp only); (try simp only [kNW]); omega)) q1541 (fun _ h9 => h9) rfl rfl rfl rfl (Nat.le_of_ble_eq_true rfl) dX9_order_25 (fun H_216 locs_217 hO_215 hU_214 hS_218 => ?_)
          have hO_215 : kO D H_216 rd 8 [.int (kI ((pl + 1 : Nat) : Int)), .int (kI (kb (false))), .ref oa, .int (kI ((mn : Nat) : Int)), .ref x1] := hO_215
          have hzu_219 := hU_214.1
          refine lv_null hx hb dX9_order_28 ?_
          refine lv_astore_nN (lv' := [(2, .null), (1, .int (kI (csg t pl))), (0, .ref rd)]) hx hb dX9_order_29 rfl hl (by decide) rfl (fun ls hl => ?_)
          refine lv_iload_n hx hb dX9_order_30 rfl (lv_at hl 1 rfl) ?_
          refine kx_eqi (115) (hlt) ?_
          refine lv_tableIn (off := 119) (tgt := 150) hx hb dX9_order_31 (by decide) (by decide) (by decide) (by decide) ?_
          refine lv_aload_n hx hb dX9_order_150 rfl (lv_at hl 2 rfl) ?_
          refine lv_aload_n hx hb dX9_order_151 rfl (lv_at hl 2 rfl) ?_
          refine kx_iconst hx hb dX9_order_152 ?_
          refine kx_bipush hx hb (by decide) dX9_order_153 ?_
          have h_220 := hO_x1.up hU_214 (by first | assumption | exact Ne.symm (by assumption)  | omega | (have h9 := hO_x1.lt; omega))
          have h_221 := hO_bu.up hU_214 (by first | assumption | exact Ne.symm (by assumption)  | omega | (have h9 := hO_bu.lt; omega))
          have h_222 := hA_vb.up hU_214 (by first | assumption | exact Ne.symm (by assumption)  | omega | (have h9 := hA_vb.lt; omega))
          refine kx_ci (va_runV (As := [.int (kI (0)), .int (kI (7))]) (rest := [.ref rd]) ⟨hx, hb, hml, hown, hts⟩ (m_dig_y l D H_216 rd (pl + 1) oa mn x1 st snp hi bu vb ml cap g t 0 7 hO_215 h_220 h_221 h_222 (by first | assumption | omega) (by first | assumption | omega) (by first | assumption | omega) (by first | assumption | omega) (by first | assumption | omega) ((by omega)) ((by omega)) bs_rd ((by omega))) (cwV 2 hts (lw_V q1637 q1639 qs22 q125 q1640) rfl rfl rfl (by decide +kernel) ⟨Nat.le_of_ble_eq_true rfl, Nat.le_of_ble_eq_true rfl⟩) (kx_pv hK hS_218 hB (kx_rc hK hO_215 (C := RX9) (T := TX9) (N := 5) rfl)) rfl rfl hl.1 rfl (lv_room (Nat.le_of_ble_eq_true rfl)) dX9_order_155 ⟨by first | exact Nat.le_of_ble_eq_true rfl | omega | (show _ ≤ _; omega) | (dsimp only [headSpec]; omega), by first | exact Nat.le_of_ble_eq_true rfl | omega | (show _ ≤ _; omega) | (dsimp only [headSpec]; omega)⟩) hS_218 (fun q _ h => by have h9 := hS_218.1; (try dsimp only at h); (try dsimp only); (try simp only [kNW] at h); (try simp only [kNW]); omega) (fun q h => by have h9 := hS_218.1; (try dsimp only at h); (try dsimp only); (try simp only [kNW] at h); (try simp only [kNW]); omega) (fun z_228 H_226 locs_223 hz_225 hF_227 hS_224 => ?_)
          have hzf_229 := hF_227.1
          refine W.widen (k := 0) (n := 0) (Nat.le_of_ble_eq_true rfl) (Nat.le_of_ble_eq_true rfl) ?_
          obtain ⟨hv_230, ho_231⟩ := hz_225
          subst z_228
          have h_232 := h_220.fr hF_227 (fun h => by (try dsimp only at h); (try simp only [kNW] at h); omega)
          have h_233 := h_221.fr hF_227 (fun h => by (try dsimp only at h); (try simp only [kNW] at h); omega)
          have h_234 := h_222.fr hF_227 (fun h => by (try dsimp only at h); (try simp only [kNW] at h); omega)
          refine kx_cr (va_runV (As := [.int (kI ((csg t (pl + 1) - 48)))]) (rest := []) ⟨hx, hb, hml, hown, hts⟩ (m_stp_y l D H_226 rd oa mn x1 st snp hi bu vb ml cap g t ((pl + 1)) ((csg t (pl + 1) - 48)) ho_231 h_232 h_233 h_234 (by first | assumption | omega) (by first | assumption | omega) (by first | assumption | omega) (by first | assumption | omega) bs_rd ((by omega)) rfl hd1) (cwV 1 hts (lw_V q1666 q1668 qs25 q125 q1669) rfl rfl rfl (by decide +kernel) ⟨Nat.le_of_ble_eq_true rfl, Nat.le_of_ble_eq_true rfl⟩) (kx_pv hK hS_224 hB (kx_rc hK ho_231 (C := RX9) (T := TX9) (N := 5) rfl)) rfl rfl hl.1 rfl (lv_room (Nat.le_of_ble_eq_true rfl)) dX9_order_158 ⟨by first | exact Nat.le_of_ble_eq_true rfl | omega | (show _ ≤ _; omega) | (dsimp only [headSpec]; omega), by first | exact Nat.le_of_ble_eq_true rfl | omega | (show _ ≤ _; omega) | (dsimp only [headSpec]; omega)⟩) hS_224 (fun q _ h => by rcases h with h | h; exact Or.inl h; exact Or.inr (Or.inr (by omega))) (fun q h => by rcases h with h | h; exact Or.inl h; exact Or.inr (Or.inr (by omega))) (fun z_240 H_238 locs_235 hz_237 hF_239 hS_236 => ?_)
          have hzf_241 := hF_239.1
          refine W.widen (k := 2) (n := 22) (Nat.le_of_ble_eq_true rfl) (Nat.le_of_ble_eq_true rfl) ?_
          obtain ⟨ar9, gs9, ho_244, ho_245, ho_246, hnst9, hgst9⟩ := hz_237
          refine lv_astore_n (lv' := [(2, .ref z_240), (1, .int (kI (csg t pl))), (0, .ref rd)]) hx hb dX9_order_161 rfl hl (by decide) rfl (fun ls hl => ?_)
          refine lv_goto (tgt := 254) hx hb dX9_order_162 (by decide) ?_
          refine lv_aload_n hx hb dX9_order_254 rfl (lv_at hl 2 rfl) ?_
          refine kx_get (v := .int (kI (kb (false)))) (C := RX9) (T := TX9) (N := 5) hx hb hts in_X9 hown hK ho_244 rfl 1 (by decide) q1543 (fun _ h9 => h9) rfl dX9_order_255 ?_
          refine kx_ifnz (tgt := 281) hx hb dX9_order_258 (by decide) (fun c_258_247 => ?_) (fun c_258_247 => ?_)
          · -- taken at 258
            first | exact absurd c_258_247 (by decide) | exact Bool.noConfusion c_258_247 | (simp at c_258_247; done)
          · -- not taken at 258
            refine lv_aload_n hx hb dX9_order_261 rfl (lv_at hl 2 rfl) ?_
            refine kx_get (v := .ref oa) (C := RX9) (T := TX9) (N := 5) hx hb hts in_X9 hown hK ho_244 rfl 2 (by decide) q1544 (fun _ h9 => h9) rfl dX9_order_262 ?_
            refine lv_aload_n hx hb dX9_order_265 rfl (lv_at hl 2 rfl) ?_
            refine kx_get (v := .int (kI ((mn : Nat) : Int))) (C := RX9) (T := TX9) (N := 5) hx hb hts in_X9 hown hK ho_244 rfl 3 (by decide) q1545 (fun _ h9 => h9) rfl dX9_order_266 ?_
            refine lv_aload_n hx hb dX9_order_269 rfl (lv_at hl 0 rfl) ?_
            have h_248 := hA_oa.up hU_214 (by first | assumption | exact Ne.symm (by assumption)  | omega | (have h9 := hA_oa.lt; omega))
            have h_249 := h_248.fr hF_227 (fun h => by (try dsimp only at h); (try simp only [kNW] at h); omega)
            have h_250 := h_249.fr hF_239 (fun h => by (try dsimp only at h); (try simp only [kNW] at h); omega)
            refine kx_aastL hx hb hK (t := 6) rfl h_250 hS_236 (by first | rfl | exact Or.inl rfl | exact Or.inr rfl | exact Or.inr (Or.inl rfl) | exact Or.inr (Or.inr rfl) | exact Or.inr (Or.inr (Or.inl rfl)) | exact Or.inr (Or.inr (Or.inr rfl)) | ((try dsimp only); (try simp only [kNW]); omega)) mn (rfl) (by omega) (by omega) ho_245 (q := _) rfl rfl dX9_order_270 (fun H_253 locs_254 hA_252 hU_251 hS_255 => ?_)
            have hzu_256 := hU_251.1
            refine lv_aload_n hx hb dX9_order_271 rfl (lv_at hl 2 rfl) ?_
            refine lv_dup hx hb dX9_order_272 rfl ?_
            have h_257 := ho_244.up hU_251 (by first | assumption | exact Ne.symm (by assumption)  | omega | (have h9 := ho_244.lt; omega))
            refine kx_get (v := .int (kI ((mn : Nat) : Int))) (C := RX9) (T := TX9) (N := 5) hx hb hts in_X9 hown hK h_257 rfl 3 (by decide) q1545 (fun _ h9 => h9) rfl dX9_order_273 ?_
            refine kx_iconst hx hb dX9_order_276 ?_
            refine kx_iadd hx hb dX9_order_277 ?_
            refine kx_eqi (((mn + 1 : Nat) : Int)) (by omega) ?_
            refine kx_put (v := .int (kI ((mn + 1 : Nat) : Int))) (C := RX9) (T := TX9) (N := 5) hx hb hts in_X9 hown hK h_257 rfl 3 (by decide) tyX9 tyX9_ok nmX9 hS_255 (by first | rfl | exact Or.inl rfl | exact Or.inr rfl | exact Or.inr (Or.inl rfl) | exact Or.inr (Or.inr rfl) | exact Or.inr (Or.inr (Or.inl rfl)) | exact Or.inr (Or.inr (Or.inr rfl)) | ((try dsimp only); (try simp only [kNW]); omega)) q1545 (fun _ h9 => h9) rfl rfl rfl rfl (Nat.le_of_ble_eq_true rfl) dX9_order_278 (fun H_260 locs_261 hO_259 hU_258 hS_262 => ?_)
            have hO_259 : kO D H_260 rd 8 [.int (kI (((((pl + 1))) + tx_cnt t (((pl + 1))) 20 : Nat) : Int)), .int (kI (kb (false))), .ref oa, .int (kI ((mn + 1 : Nat) : Int)), .ref x1] := hO_259
            have hzu_263 := hU_258.1
            have h_264 := hA_252.up hU_258 (by first | assumption | exact Ne.symm (by assumption)  | omega | (have h9 := hA_252.lt; omega))
            have hOo9 : kOl D H_260 b0 H_260.size go mn t := (hP_kOl_b0.fr (va_S.toFr hS_262) (fun x hx => by rcases hx with z | z | z <;> omega)).mono (by omega)
            have hfin : kO D H_260 rd 8 [.int (kI (((rdW t pl).2.1 : Nat) : Int)), .int (kI (kb (!(rdW t pl).1))), .ref oa, .int (kI ((mn + 1 : Nat) : Int)), .ref x1] := by rw [hrd9]; exact hO_259
            have h_265 := ho_245.up hU_251 (by first | assumption | exact Ne.symm (by assumption)  | omega | (have h9 := ho_245.lt; omega))
            have h_266 := h_265.up hU_258 (by first | assumption | exact Ne.symm (by assumption)  | omega | (have h9 := h_265.lt; omega))
            have h_267 := ho_246.up hU_251 (by first | assumption | exact Ne.symm (by assumption)  | omega | (have h9 := ho_246.lt; omega))
            have h_268 := h_267.up hU_258 (by first | assumption | exact Ne.symm (by assumption)  | omega | (have h9 := h_267.lt; omega))
            have hkq9 : kOrd D H_260 b0 H_260.size t (opos t mn) z_240 := by rw [← hpo]; exact Or.inr ⟨⟨by omega, by have h9 := h_266.lt; omega⟩, Or.inl ⟨hl9, by omega, ar9, gs9, ⟨by omega, by have h9 := h_268.lt; omega⟩, h_266, h_268, hgst9⟩⟩
            have hOl9 := hOo9.add hkq9
            have hmn9 : mn + 1 = if (rdW t pl).1 = true then mn + 1 else mn := by rw [hrd9]; rfl
            exact kx_vret hx hb hr hlk (⟨(mn + 1), ((kupq go mn (some z_240))), H_260.size, hfin, h_264, hOl9, by exact hmn9, by exact ⟨by omega, Nat.le_refl _⟩⟩) hS_262 dX9_order_281
      · -- no steps
        have hrd9 : rdW t pl = (false, pl + 1, ((pl + 1 : Nat) : Int), 0) := by rw [rd_s hl9, decide_eq_false (by omega), tx_cnt_e (Or.inr (by omega))]; rfl
        refine lv_aload_n hx hb dX9_order_0 rfl (lv_at hl 0 rfl) ?_
        refine kx_ci0 (va_runV (As := []) (rest := []) ⟨hx, hb, hml, hown, hts⟩ (m_sgn l D s.heap rd pl false oa mn x1 st snp hi bu vb ml cap g t hO_rd hO_x1 hO_bu hA_vb (by first | assumption | omega) (by first | assumption | omega) (by first | assumption | omega) (by first | assumption | omega) (by first | assumption | omega)) (cwV 0 hts (lw_V q1566 q1568 qs20 q125 q1569) rfl rfl rfl (by decide +kernel) ⟨Nat.le_of_ble_eq_true rfl, Nat.le_of_ble_eq_true rfl⟩) (kx_pv hK hS hB (kx_rc hK hO_rd (C := RX9) (T := TX9) (N := 5) rfl)) rfl rfl hl.1 rfl (lv_room (Nat.le_of_ble_eq_true rfl)) dX9_order_1 ⟨by first | exact Nat.le_of_ble_eq_true rfl | omega | (show _ ≤ _; omega) | (dsimp only [headSpec]; omega), by first | exact Nat.le_of_ble_eq_true rfl | omega | (show _ ≤ _; omega) | (dsimp only [headSpec]; omega)⟩) hS (fun z_272 locs_269 hz_271 hS_270 => ?_)
        subst z_272
        refine lv_istore_n (lv' := [(1, .int (kI (csg t pl))), (0, .ref rd)]) hx hb dX9_order_4 rfl hl (by decide) rfl (fun ls hl => ?_)
        refine lv_aload_n hx hb dX9_order_5 rfl (lv_at hl 1 rfl) ?_
        refine lv_dup hx hb dX9_order_6 rfl ?_
        refine kx_get (v := .int (kI ((pl : Nat) : Int))) (C := RX9) (T := TX9) (N := 5) hx hb hts in_X9 hown hK hO_rd rfl 0 (by decide) q1541 (fun _ h9 => h9) rfl dX9_order_7 ?_
        obtain ⟨hv_273, zv_274, hL_275⟩ := kK.ltO hK hS_270 hB
        refine va_ldcS hx hb hown hK.sLt dX9_order_10 ?_
        refine lv_iload_n hx hb dX9_order_12 rfl (lv_at hl 0 rfl) ?_
        refine kx_ci0 (va_runV (As := [.int (kI (csg t pl))]) (rest := [.int (kI ((pl : Nat) : Int)), .ref rd]) ⟨hx, hb, hml, hown, hts⟩ (m_J6_indexOf l D s.heap (csg t pl) hv_273 zv_274 hL_275 (by first | assumption | omega)) (cwV 1 hts (lw_V q1585 q1586 q1587 q87 q1588) rfl rfl rfl (by decide +kernel) ⟨Nat.le_of_ble_eq_true rfl, Nat.le_of_ble_eq_true rfl⟩) (kx_pv hK hS_270 hB (kx_rc hK hL_275 (C := RJ6) (T := TJ6) (N := 4) rfl)) rfl rfl hl.1 rfl (lv_room (Nat.le_of_ble_eq_true rfl)) dX9_order_13 ⟨by first | exact Nat.le_of_ble_eq_true rfl | omega | (show _ ≤ _; omega) | (dsimp only [headSpec]; omega), by first | exact Nat.le_of_ble_eq_true rfl | omega | (show _ ≤ _; omega) | (dsimp only [headSpec]; omega)⟩) hS_270 (fun z_279 locs_276 hz_278 hS_277 => ?_)
        subst z_279
        refine kx_if_lt (x := lt_ix (csg t pl)) (tgt := 23) hx hb dX9_order_16 (by decide) (by have := lt_ix_rng (csg t pl); omega) (by have := lt_ix_rng (csg t pl); omega) (fun c_16_280 => ?_) (fun c_16_280 => ?_)
        · -- taken at 16
          exfalso; have := lt_ix_in hL0; omega
        · -- not taken at 16
          refine kx_iconst hx hb dX9_order_19 ?_
          refine lv_goto (tgt := 24) hx hb dX9_order_20 (by decide) ?_
          refine kx_iadd hx hb dX9_order_24 ?_
          refine kx_eqi (((pl + 1 : Nat) : Int)) (by omega) ?_
          refine kx_put (v := .int (kI ((pl + 1 : Nat) : Int))) (C := RX9) (T := TX9) (N := 5) hx hb hts in_X9 hown hK hO_rd rfl 0 (by decide) tyX9 tyX9_ok nmX9 hS_277 (by first | rfl | exact Or.inl rfl | exact Or.inr rfl | exact Or.inr (Or.inl rfl) | exact Or.inr (Or.inr rfl) | exact Or.inr (Or.inr (Or.inl rfl)) | exact Or.inr (Or.inr (Or.inr rfl)) | ((try dsimp only); (try simp only [kNW]); omega)) q1541 (fun _ h9 => h9) rfl rfl rfl rfl (Nat.le_of_ble_eq_true rfl) dX9_order_25 (fun H_283 locs_284 hO_282 hU_281 hS_285 => ?_)
          have hO_282 : kO D H_283 rd 8 [.int (kI ((pl + 1 : Nat) : Int)), .int (kI (kb (false))), .ref oa, .int (kI ((mn : Nat) : Int)), .ref x1] := hO_282
          have hzu_286 := hU_281.1
          refine lv_null hx hb dX9_order_28 ?_
          refine lv_astore_nN (lv' := [(2, .null), (1, .int (kI (csg t pl))), (0, .ref rd)]) hx hb dX9_order_29 rfl hl (by decide) rfl (fun ls hl => ?_)
          refine lv_iload_n hx hb dX9_order_30 rfl (lv_at hl 1 rfl) ?_
          refine kx_eqi (115) (hlt) ?_
          refine lv_tableIn (off := 119) (tgt := 150) hx hb dX9_order_31 (by decide) (by decide) (by decide) (by decide) ?_
          refine lv_aload_n hx hb dX9_order_150 rfl (lv_at hl 2 rfl) ?_
          refine lv_aload_n hx hb dX9_order_151 rfl (lv_at hl 2 rfl) ?_
          refine kx_iconst hx hb dX9_order_152 ?_
          refine kx_bipush hx hb (by decide) dX9_order_153 ?_
          have h_287 := hO_x1.up hU_281 (by first | assumption | exact Ne.symm (by assumption)  | omega | (have h9 := hO_x1.lt; omega))
          have h_288 := hO_bu.up hU_281 (by first | assumption | exact Ne.symm (by assumption)  | omega | (have h9 := hO_bu.lt; omega))
          have h_289 := hA_vb.up hU_281 (by first | assumption | exact Ne.symm (by assumption)  | omega | (have h9 := hA_vb.lt; omega))
          refine kx_ci (va_runV (As := [.int (kI (0)), .int (kI (7))]) (rest := [.ref rd]) ⟨hx, hb, hml, hown, hts⟩ (m_dig_n l D H_283 rd (pl + 1) false oa mn x1 st snp hi bu vb ml cap g t 0 7 hO_282 h_287 h_288 h_289 (by first | assumption | omega) (by first | assumption | omega) (by first | assumption | omega) (by first | assumption | omega) (by first | assumption | omega) ((by omega)) ((by omega)) bs_rd ((Or.inr (by omega)))) (cwV 2 hts (lw_V q1637 q1639 qs22 q125 q1640) rfl rfl rfl (by decide +kernel) ⟨Nat.le_of_ble_eq_true rfl, Nat.le_of_ble_eq_true rfl⟩) (kx_pv hK hS_285 hB (kx_rc hK hO_282 (C := RX9) (T := TX9) (N := 5) rfl)) rfl rfl hl.1 rfl (lv_room (Nat.le_of_ble_eq_true rfl)) dX9_order_155 ⟨by first | exact Nat.le_of_ble_eq_true rfl | omega | (show _ ≤ _; omega) | (dsimp only [headSpec]; omega), by first | exact Nat.le_of_ble_eq_true rfl | omega | (show _ ≤ _; omega) | (dsimp only [headSpec]; omega)⟩) hS_285 (fun q _ h => by have h9 := hS_285.1; (try dsimp only at h); (try dsimp only); (try simp only [kNW] at h); (try simp only [kNW]); omega) (fun q h => by have h9 := hS_285.1; (try dsimp only at h); (try dsimp only); (try simp only [kNW] at h); (try simp only [kNW]); omega) (fun z_295 H_293 locs_290 hz_292 hF_294 hS_291 => ?_)
          have hzf_296 := hF_294.1
          refine W.widen (k := 0) (n := 0) (Nat.le_of_ble_eq_true rfl) (Nat.le_of_ble_eq_true rfl) ?_
          obtain ⟨hv_297, ho_298⟩ := hz_292
          subst z_295
          have h_299 := h_287.fr hF_294 (fun h => by (try dsimp only at h); (try simp only [kNW] at h); omega)
          have h_300 := h_288.fr hF_294 (fun h => by (try dsimp only at h); (try simp only [kNW] at h); omega)
          have h_301 := h_289.fr hF_294 (fun h => by (try dsimp only at h); (try simp only [kNW] at h); omega)
          refine kx_cr (va_runV (As := [.int (kI ((csg t (pl + 1) - 48)))]) (rest := []) ⟨hx, hb, hml, hown, hts⟩ (m_stp_n l D H_293 rd ((pl + 1)) oa mn x1 st snp hi bu vb ml cap g t ((csg t (pl + 1) - 48)) ho_298 h_299 h_300 h_301 (by first | assumption | omega) (by first | assumption | omega) (by first | assumption | omega) (by first | assumption | omega) (by first | assumption | omega) bs_rd) (cwV 1 hts (lw_V q1666 q1668 qs25 q125 q1669) rfl rfl rfl (by decide +kernel) ⟨Nat.le_of_ble_eq_true rfl, Nat.le_of_ble_eq_true rfl⟩) (kx_pv hK hS_291 hB (kx_rc hK ho_298 (C := RX9) (T := TX9) (N := 5) rfl)) rfl rfl hl.1 rfl (lv_room (Nat.le_of_ble_eq_true rfl)) dX9_order_158 ⟨by first | exact Nat.le_of_ble_eq_true rfl | omega | (show _ ≤ _; omega) | (dsimp only [headSpec]; omega), by first | exact Nat.le_of_ble_eq_true rfl | omega | (show _ ≤ _; omega) | (dsimp only [headSpec]; omega)⟩) hS_291 (fun q _ h => by rcases h with h | h; exact Or.inl h; exact Or.inr (Or.inr (by omega))) (fun q h => by rcases h with h | h; exact Or.inl h; exact Or.inr (Or.inr (by omega))) (fun z_307 H_305 locs_302 hz_304 hF_306 hS_303 => ?_)
          have hzf_308 := hF_306.1
          refine W.widen (k := 2) (n := 22) (Nat.le_of_ble_eq_true rfl) (Nat.le_of_ble_eq_true rfl) ?_
          obtain ⟨ho_309, hnew_310⟩ := hz_304
          refine lv_astore_n (lv' := [(2, .ref z_307), (1, .int (kI (csg t pl))), (0, .ref rd)]) hx hb dX9_order_161 rfl hl (by decide) rfl (fun ls hl => ?_)
          refine lv_goto (tgt := 254) hx hb dX9_order_162 (by decide) ?_
          refine lv_aload_n hx hb dX9_order_254 rfl (lv_at hl 2 rfl) ?_
          refine kx_get (v := .int (kI (kb (true)))) (C := RX9) (T := TX9) (N := 5) hx hb hts in_X9 hown hK ho_309 rfl 1 (by decide) q1543 (fun _ h9 => h9) rfl dX9_order_255 ?_
          refine kx_ifnz (tgt := 281) hx hb dX9_order_258 (by decide) (fun c_258_311 => ?_) (fun c_258_311 => ?_)
          · -- taken at 258
            have h_312 := hA_oa.up hU_281 (by first | assumption | exact Ne.symm (by assumption)  | omega | (have h9 := hA_oa.lt; omega))
            have h_313 := h_312.fr hF_294 (fun h => by (try dsimp only at h); (try simp only [kNW] at h); omega)
            have h_314 := h_313.fr hF_306 (fun h => by (try dsimp only at h); (try simp only [kNW] at h); omega)
            have hOo9 : kOl D H_305 b0 H_305.size go mn t := (hP_kOl_b0.fr (va_S.toFr hS_303) (fun x hx => by rcases hx with z | z | z <;> omega)).mono (by omega)
            have hfin : kO D H_305 rd 8 [.int (kI (((rdW t pl).2.1 : Nat) : Int)), .int (kI (kb (!(rdW t pl).1))), .ref oa, .int (kI ((mn : Nat) : Int)), .ref x1] := by rw [hrd9]; exact ho_309
            have hmn9 : mn = if (rdW t pl).1 = true then mn + 1 else mn := by rw [hrd9]; rfl
            exact kx_vret hx hb hr hlk (⟨mn, go, H_305.size, hfin, h_314, hOo9, by exact hmn9, by exact ⟨by omega, Nat.le_refl _⟩⟩) hS_303 dX9_order_281
          · -- not taken at 258
            first | exact absurd c_258_311 (by decide) | exact Bool.noConfusion c_258_311 | (simp at c_258_311; done)
    · -- w
      have hl9 : tsg t pl = 119 := by omega
      by_cases hd1 : 0 ≤ csg t (pl + 1) - 48 ∧ csg t (pl + 1) - 48 ≤ 7
      · -- one
        have hrd9 : rdW t pl = (true, pl + 1 + 1, tsg t (pl + 1) - 48, 0) := by rw [rd_1 (Or.inl hl9), rdW.rdOne, if_pos (by unfold tx_numOK; omega), tx_num_1 (by omega) (by omega) hrs9]
        refine lv_aload_n hx hb dX9_order_0 rfl (lv_at hl 0 rfl) ?_
        refine kx_ci0 (va_runV (As := []) (rest := []) ⟨hx, hb, hml, hown, hts⟩ (m_sgn l D s.heap rd pl false oa mn x1 st snp hi bu vb ml cap g t hO_rd hO_x1 hO_bu hA_vb (by first | assumption | omega) (by first | assumption | omega) (by first | assumption | omega) (by first | assumption | omega) (by first | assumption | omega)) (cwV 0 hts (lw_V q1566 q1568 qs20 q125 q1569) rfl rfl rfl (by decide +kernel) ⟨Nat.le_of_ble_eq_true rfl, Nat.le_of_ble_eq_true rfl⟩) (kx_pv hK hS hB (kx_rc hK hO_rd (C := RX9) (T := TX9) (N := 5) rfl)) rfl rfl hl.1 rfl (lv_room (Nat.le_of_ble_eq_true rfl)) dX9_order_1 ⟨by first | exact Nat.le_of_ble_eq_true rfl | omega | (show _ ≤ _; omega) | (dsimp only [headSpec]; omega), by first | exact Nat.le_of_ble_eq_true rfl | omega | (show _ ≤ _; omega) | (dsimp only [headSpec]; omega)⟩) hS (fun z_318 locs_315 hz_317 hS_316 => ?_)
        subst z_318
        refine lv_istore_n (lv' := [(1, .int (kI (csg t pl))), (0, .ref rd)]) hx hb dX9_order_4 rfl hl (by decide) rfl (fun ls hl => ?_)
        refine lv_aload_n hx hb dX9_order_5 rfl (lv_at hl 1 rfl) ?_
        refine lv_dup hx hb dX9_order_6 rfl ?_
        refine kx_get (v := .int (kI ((pl : Nat) : Int))) (C := RX9) (T := TX9) (N := 5) hx hb hts in_X9 hown hK hO_rd rfl 0 (by decide) q1541 (fun _ h9 => h9) rfl dX9_order_7 ?_
        obtain ⟨hv_319, zv_320, hL_321⟩ := kK.ltO hK hS_316 hB
        refine va_ldcS hx hb hown hK.sLt dX9_order_10 ?_
        refine lv_iload_n hx hb dX9_order_12 rfl (lv_at hl 0 rfl) ?_
        refine kx_ci0 (va_runV (As := [.int (kI (csg t pl))]) (rest := [.int (kI ((pl : Nat) : Int)), .ref rd]) ⟨hx, hb, hml, hown, hts⟩ (m_J6_indexOf l D s.heap (csg t pl) hv_319 zv_320 hL_321 (by first | assumption | omega)) (cwV 1 hts (lw_V q1585 q1586 q1587 q87 q1588) rfl rfl rfl (by decide +kernel) ⟨Nat.le_of_ble_eq_true rfl, Nat.le_of_ble_eq_true rfl⟩) (kx_pv hK hS_316 hB (kx_rc hK hL_321 (C := RJ6) (T := TJ6) (N := 4) rfl)) rfl rfl hl.1 rfl (lv_room (Nat.le_of_ble_eq_true rfl)) dX9_order_13 ⟨by first | exact Nat.le_of_ble_eq_true rfl | omega | (show _ ≤ _; omega) | (dsimp only [headSpec]; omega), by first | exact Nat.le_of_ble_eq_true rfl | omega | (show _ ≤ _; omega) | (dsimp only [headSpec]; omega)⟩) hS_316 (fun z_325 locs_322 hz_324 hS_323 => ?_)
        subst z_325
        refine kx_if_lt (x := lt_ix (csg t pl)) (tgt := 23) hx hb dX9_order_16 (by decide) (by have := lt_ix_rng (csg t pl); omega) (by have := lt_ix_rng (csg t pl); omega) (fun c_16_326 => ?_) (fun c_16_326 => ?_)
        · -- taken at 16
          exfalso; have := lt_ix_in hL0; omega
        · -- not taken at 16
          refine kx_iconst hx hb dX9_order_19 ?_
          refine lv_goto (tgt := 24) hx hb dX9_order_20 (by decide) ?_
          refine kx_iadd hx hb dX9_order_24 ?_
          refine kx_eqi (((pl + 1 : Nat) : Int)) (by omega) ?_
          refine kx_put (v := .int (kI ((pl + 1 : Nat) : Int))) (C := RX9) (T := TX9) (N := 5) hx hb hts in_X9 hown hK hO_rd rfl 0 (by decide) tyX9 tyX9_ok nmX9 hS_323 (by first | rfl | exact Or.inl rfl | exact Or.inr rfl | exact Or.inr (Or.inl rfl) | exact Or.inr (Or.inr rfl) | exact Or.inr (Or.inr (Or.inl rfl)) | exact Or.inr (Or.inr (Or.inr rfl)) | ((try dsimp only); (try simp only [kNW]); omega)) q1541 (fun _ h9 => h9) rfl rfl rfl rfl (Nat.le_of_ble_eq_true rfl) dX9_order_25 (fun H_329 locs_330 hO_328 hU_327 hS_331 => ?_)
          have hO_328 : kO D H_329 rd 8 [.int (kI ((pl + 1 : Nat) : Int)), .int (kI (kb (false))), .ref oa, .int (kI ((mn : Nat) : Int)), .ref x1] := hO_328
          have hzu_332 := hU_327.1
          refine lv_null hx hb dX9_order_28 ?_
          refine lv_astore_nN (lv' := [(2, .null), (1, .int (kI (csg t pl))), (0, .ref rd)]) hx hb dX9_order_29 rfl hl (by decide) rfl (fun ls hl => ?_)
          refine lv_iload_n hx hb dX9_order_30 rfl (lv_at hl 1 rfl) ?_
          refine kx_eqi (119) (hlt) ?_
          refine lv_tableIn (off := 134) (tgt := 165) hx hb dX9_order_31 (by decide) (by decide) (by decide) (by decide) ?_
          refine lv_aload_n hx hb dX9_order_165 rfl (lv_at hl 2 rfl) ?_
          refine lv_aload_n hx hb dX9_order_166 rfl (lv_at hl 2 rfl) ?_
          refine kx_iconst hx hb dX9_order_167 ?_
          refine kx_bipush hx hb (by decide) dX9_order_168 ?_
          have h_333 := hO_x1.up hU_327 (by first | assumption | exact Ne.symm (by assumption)  | omega | (have h9 := hO_x1.lt; omega))
          have h_334 := hO_bu.up hU_327 (by first | assumption | exact Ne.symm (by assumption)  | omega | (have h9 := hO_bu.lt; omega))
          have h_335 := hA_vb.up hU_327 (by first | assumption | exact Ne.symm (by assumption)  | omega | (have h9 := hA_vb.lt; omega))
          refine kx_ci (va_runV (As := [.int (kI (0)), .int (kI (7))]) (rest := [.ref rd]) ⟨hx, hb, hml, hown, hts⟩ (m_dig_y l D H_329 rd (pl + 1) oa mn x1 st snp hi bu vb ml cap g t 0 7 hO_328 h_333 h_334 h_335 (by first | assumption | omega) (by first | assumption | omega) (by first | assumption | omega) (by first | assumption | omega) (by first | assumption | omega) ((by omega)) ((by omega)) bs_rd hd1) (cwV 2 hts (lw_V q1637 q1639 qs22 q125 q1640) rfl rfl rfl (by decide +kernel) ⟨Nat.le_of_ble_eq_true rfl, Nat.le_of_ble_eq_true rfl⟩) (kx_pv hK hS_331 hB (kx_rc hK hO_328 (C := RX9) (T := TX9) (N := 5) rfl)) rfl rfl hl.1 rfl (lv_room (Nat.le_of_ble_eq_true rfl)) dX9_order_170 ⟨by first | exact Nat.le_of_ble_eq_true rfl | omega | (show _ ≤ _; omega) | (dsimp only [headSpec]; omega), by first | exact Nat.le_of_ble_eq_true rfl | omega | (show _ ≤ _; omega) | (dsimp only [headSpec]; omega)⟩) hS_331 (fun q _ h => by have h9 := hS_331.1; (try dsimp only at h); (try dsimp only); (try simp only [kNW] at h); (try simp only [kNW]); omega) (fun q h => by have h9 := hS_331.1; (try dsimp only at h); (try dsimp only); (try simp only [kNW] at h); (try simp only [kNW]); omega) (fun z_341 H_339 locs_336 hz_338 hF_340 hS_337 => ?_)
          have hzf_342 := hF_340.1
          refine W.widen (k := 0) (n := 0) (Nat.le_of_ble_eq_true rfl) (Nat.le_of_ble_eq_true rfl) ?_
          obtain ⟨hv_343, ho_344⟩ := hz_338
          subst z_341
          refine kx_cr (va_runV (As := [.int (kI ((csg t (pl + 1) - 48)))]) (rest := []) ⟨hx, hb, hml, hown, hts⟩ (m_X9_wiping l D H_339 rd ((csg t (pl + 1) - 48))  ) (cwV 1 hts (lw_V q1740 q1742 qs29 q125 q1743) rfl rfl rfl (by decide +kernel) ⟨Nat.le_of_ble_eq_true rfl, Nat.le_of_ble_eq_true rfl⟩) (kx_pv hK hS_337 hB (kx_rc hK ho_344 (C := RX9) (T := TX9) (N := 5) rfl)) rfl rfl hl.1 rfl (lv_room (Nat.le_of_ble_eq_true rfl)) dX9_order_173 ⟨by first | exact Nat.le_of_ble_eq_true rfl | omega | (show _ ≤ _; omega) | (dsimp only [headSpec]; omega), by first | exact Nat.le_of_ble_eq_true rfl | omega | (show _ ≤ _; omega) | (dsimp only [headSpec]; omega)⟩) hS_337 (fun q _ h => Or.inr (Or.inr (by (try dsimp only at h); (try simp only [kNW] at h); omega))) (fun q h => Or.inr (Or.inr (by (try dsimp only at h); (try simp only [kNW] at h); omega))) (fun z_350 H_348 locs_345 hz_347 hF_349 hS_346 => ?_)
          have hzf_351 := hF_349.1
          have hF_349 := hF_349.nw
          refine W.widen (k := 1) (n := 1) (Nat.le_of_ble_eq_true rfl) (Nat.le_of_ble_eq_true rfl) ?_
          obtain ⟨ho_352, hnew_353⟩ := hz_347
          refine lv_astore_n (lv' := [(2, .ref z_350), (1, .int (kI (csg t pl))), (0, .ref rd)]) hx hb dX9_order_176 rfl hl (by decide) rfl (fun ls hl => ?_)
          refine lv_goto (tgt := 254) hx hb dX9_order_177 (by decide) ?_
          refine lv_aload_n hx hb dX9_order_254 rfl (lv_at hl 2 rfl) ?_
          have h_354 := ho_344.ex hF_349
          refine kx_get (v := .int (kI (kb (false)))) (C := RX9) (T := TX9) (N := 5) hx hb hts in_X9 hown hK h_354 rfl 1 (by decide) q1543 (fun _ h9 => h9) rfl dX9_order_255 ?_
          refine kx_ifnz (tgt := 281) hx hb dX9_order_258 (by decide) (fun c_258_355 => ?_) (fun c_258_355 => ?_)
          · -- taken at 258
            first | exact absurd c_258_355 (by decide) | exact Bool.noConfusion c_258_355 | (simp at c_258_355; done)
          · -- not taken at 258
            refine lv_aload_n hx hb dX9_order_261 rfl (lv_at hl 2 rfl) ?_
            refine kx_get (v := .ref oa) (C := RX9) (T := TX9) (N := 5) hx hb hts in_X9 hown hK h_354 rfl 2 (by decide) q1544 (fun _ h9 => h9) rfl dX9_order_262 ?_
            refine lv_aload_n hx hb dX9_order_265 rfl (lv_at hl 2 rfl) ?_
            refine kx_get (v := .int (kI ((mn : Nat) : Int))) (C := RX9) (T := TX9) (N := 5) hx hb hts in_X9 hown hK h_354 rfl 3 (by decide) q1545 (fun _ h9 => h9) rfl dX9_order_266 ?_
            refine lv_aload_n hx hb dX9_order_269 rfl (lv_at hl 0 rfl) ?_
            have h_356 := hA_oa.up hU_327 (by first | assumption | exact Ne.symm (by assumption)  | omega | (have h9 := hA_oa.lt; omega))
            have h_357 := h_356.fr hF_340 (fun h => by (try dsimp only at h); (try simp only [kNW] at h); omega)
            have h_358 := h_357.ex hF_349
            refine kx_aastL hx hb hK (t := 6) rfl h_358 hS_346 (by first | rfl | exact Or.inl rfl | exact Or.inr rfl | exact Or.inr (Or.inl rfl) | exact Or.inr (Or.inr rfl) | exact Or.inr (Or.inr (Or.inl rfl)) | exact Or.inr (Or.inr (Or.inr rfl)) | ((try dsimp only); (try simp only [kNW]); omega)) mn (rfl) (by omega) (by omega) ho_352 (q := _) rfl rfl dX9_order_270 (fun H_361 locs_362 hA_360 hU_359 hS_363 => ?_)
            have hzu_364 := hU_359.1
            refine lv_aload_n hx hb dX9_order_271 rfl (lv_at hl 2 rfl) ?_
            refine lv_dup hx hb dX9_order_272 rfl ?_
            have h_365 := h_354.up hU_359 (by first | assumption | exact Ne.symm (by assumption)  | omega | (have h9 := h_354.lt; omega))
            refine kx_get (v := .int (kI ((mn : Nat) : Int))) (C := RX9) (T := TX9) (N := 5) hx hb hts in_X9 hown hK h_365 rfl 3 (by decide) q1545 (fun _ h9 => h9) rfl dX9_order_273 ?_
            refine kx_iconst hx hb dX9_order_276 ?_
            refine kx_iadd hx hb dX9_order_277 ?_
            refine kx_eqi (((mn + 1 : Nat) : Int)) (by omega) ?_
            refine kx_put (v := .int (kI ((mn + 1 : Nat) : Int))) (C := RX9) (T := TX9) (N := 5) hx hb hts in_X9 hown hK h_365 rfl 3 (by decide) tyX9 tyX9_ok nmX9 hS_363 (by first | rfl | exact Or.inl rfl | exact Or.inr rfl | exact Or.inr (Or.inl rfl) | exact Or.inr (Or.inr rfl) | exact Or.inr (Or.inr (Or.inl rfl)) | exact Or.inr (Or.inr (Or.inr rfl)) | ((try dsimp only); (try simp only [kNW]); omega)) q1545 (fun _ h9 => h9) rfl rfl rfl rfl (Nat.le_of_ble_eq_true rfl) dX9_order_278 (fun H_368 locs_369 hO_367 hU_366 hS_370 => ?_)
            have hO_367 : kO D H_368 rd 8 [.int (kI (((pl + 1) + 1 : Nat) : Int)), .int (kI (kb (false))), .ref oa, .int (kI ((mn + 1 : Nat) : Int)), .ref x1] := hO_367
            have hzu_371 := hU_366.1
            have h_372 := hA_360.up hU_366 (by first | assumption | exact Ne.symm (by assumption)  | omega | (have h9 := hA_360.lt; omega))
            have hOo9 : kOl D H_368 b0 H_368.size go mn t := (hP_kOl_b0.fr (va_S.toFr hS_370) (fun x hx => by rcases hx with z | z | z <;> omega)).mono (by omega)
            have hfin : kO D H_368 rd 8 [.int (kI (((rdW t pl).2.1 : Nat) : Int)), .int (kI (kb (!(rdW t pl).1))), .ref oa, .int (kI ((mn + 1 : Nat) : Int)), .ref x1] := by rw [hrd9]; exact hO_367
            have h_373 := ho_352.up hU_359 (by first | assumption | exact Ne.symm (by assumption)  | omega | (have h9 := ho_352.lt; omega))
            have h_374 := h_373.up hU_366 (by first | assumption | exact Ne.symm (by assumption)  | omega | (have h9 := h_373.lt; omega))
            have hkq9 : kOrd D H_368 b0 H_368.size t (opos t mn) z_350 := by rw [← hpo]; exact Or.inr ⟨⟨by omega, by have h9 := h_374.lt; omega⟩, Or.inr (Or.inr (Or.inr (Or.inl ⟨hl9, by rw [hrd9]; exact (by have h9 := h_374; rw [show csg t (pl + 1) - 48 = tsg t (pl + 1) - 48 by omega] at h9; exact h9)⟩)))⟩
            have hOl9 := hOo9.add hkq9
            have hmn9 : mn + 1 = if (rdW t pl).1 = true then mn + 1 else mn := by rw [hrd9]; rfl
            refine W.widen (k := 2) (n := 22) (by omega) (by omega) ?_
            exact kx_vret hx hb hr hlk (⟨(mn + 1), ((kupq go mn (some z_350))), H_368.size, hfin, h_372, hOl9, by exact hmn9, by exact ⟨by omega, Nat.le_refl _⟩⟩) hS_370 dX9_order_281
      · -- none
        have hrd9 : rdW t pl = (false, pl + 1, tsg t (pl + 1) - 48, 0) := by rw [rd_1 (Or.inl hl9), rdW.rdOne, if_neg (by unfold tx_numOK; omega)]
        refine lv_aload_n hx hb dX9_order_0 rfl (lv_at hl 0 rfl) ?_
        refine kx_ci0 (va_runV (As := []) (rest := []) ⟨hx, hb, hml, hown, hts⟩ (m_sgn l D s.heap rd pl false oa mn x1 st snp hi bu vb ml cap g t hO_rd hO_x1 hO_bu hA_vb (by first | assumption | omega) (by first | assumption | omega) (by first | assumption | omega) (by first | assumption | omega) (by first | assumption | omega)) (cwV 0 hts (lw_V q1566 q1568 qs20 q125 q1569) rfl rfl rfl (by decide +kernel) ⟨Nat.le_of_ble_eq_true rfl, Nat.le_of_ble_eq_true rfl⟩) (kx_pv hK hS hB (kx_rc hK hO_rd (C := RX9) (T := TX9) (N := 5) rfl)) rfl rfl hl.1 rfl (lv_room (Nat.le_of_ble_eq_true rfl)) dX9_order_1 ⟨by first | exact Nat.le_of_ble_eq_true rfl | omega | (show _ ≤ _; omega) | (dsimp only [headSpec]; omega), by first | exact Nat.le_of_ble_eq_true rfl | omega | (show _ ≤ _; omega) | (dsimp only [headSpec]; omega)⟩) hS (fun z_378 locs_375 hz_377 hS_376 => ?_)
        subst z_378
        refine lv_istore_n (lv' := [(1, .int (kI (csg t pl))), (0, .ref rd)]) hx hb dX9_order_4 rfl hl (by decide) rfl (fun ls hl => ?_)
        refine lv_aload_n hx hb dX9_order_5 rfl (lv_at hl 1 rfl) ?_
        refine lv_dup hx hb dX9_order_6 rfl ?_
        refine kx_get (v := .int (kI ((pl : Nat) : Int))) (C := RX9) (T := TX9) (N := 5) hx hb hts in_X9 hown hK hO_rd rfl 0 (by decide) q1541 (fun _ h9 => h9) rfl dX9_order_7 ?_
        obtain ⟨hv_379, zv_380, hL_381⟩ := kK.ltO hK hS_376 hB
        refine va_ldcS hx hb hown hK.sLt dX9_order_10 ?_
        refine lv_iload_n hx hb dX9_order_12 rfl (lv_at hl 0 rfl) ?_
        refine kx_ci0 (va_runV (As := [.int (kI (csg t pl))]) (rest := [.int (kI ((pl : Nat) : Int)), .ref rd]) ⟨hx, hb, hml, hown, hts⟩ (m_J6_indexOf l D s.heap (csg t pl) hv_379 zv_380 hL_381 (by first | assumption | omega)) (cwV 1 hts (lw_V q1585 q1586 q1587 q87 q1588) rfl rfl rfl (by decide +kernel) ⟨Nat.le_of_ble_eq_true rfl, Nat.le_of_ble_eq_true rfl⟩) (kx_pv hK hS_376 hB (kx_rc hK hL_381 (C := RJ6) (T := TJ6) (N := 4) rfl)) rfl rfl hl.1 rfl (lv_room (Nat.le_of_ble_eq_true rfl)) dX9_order_13 ⟨by first | exact Nat.le_of_ble_eq_true rfl | omega | (show _ ≤ _; omega) | (dsimp only [headSpec]; omega), by first | exact Nat.le_of_ble_eq_true rfl | omega | (show _ ≤ _; omega) | (dsimp only [headSpec]; omega)⟩) hS_376 (fun z_385 locs_382 hz_384 hS_383 => ?_)
        subst z_385
        refine kx_if_lt (x := lt_ix (csg t pl)) (tgt := 23) hx hb dX9_order_16 (by decide) (by have := lt_ix_rng (csg t pl); omega) (by have := lt_ix_rng (csg t pl); omega) (fun c_16_386 => ?_) (fun c_16_386 => ?_)
        · -- taken at 16
          exfalso; have := lt_ix_in hL0; omega
        · -- not taken at 16
          refine kx_iconst hx hb dX9_order_19 ?_
          refine lv_goto (tgt := 24) hx hb dX9_order_20 (by decide) ?_
          refine kx_iadd hx hb dX9_order_24 ?_
          refine kx_eqi (((pl + 1 : Nat) : Int)) (by omega) ?_
          refine kx_put (v := .int (kI ((pl + 1 : Nat) : Int))) (C := RX9) (T := TX9) (N := 5) hx hb hts in_X9 hown hK hO_rd rfl 0 (by decide) tyX9 tyX9_ok nmX9 hS_383 (by first | rfl | exact Or.inl rfl | exact Or.inr rfl | exact Or.inr (Or.inl rfl) | exact Or.inr (Or.inr rfl) | exact Or.inr (Or.inr (Or.inl rfl)) | exact Or.inr (Or.inr (Or.inr rfl)) | ((try dsimp only); (try simp only [kNW]); omega)) q1541 (fun _ h9 => h9) rfl rfl rfl rfl (Nat.le_of_ble_eq_true rfl) dX9_order_25 (fun H_389 locs_390 hO_388 hU_387 hS_391 => ?_)
          have hO_388 : kO D H_389 rd 8 [.int (kI ((pl + 1 : Nat) : Int)), .int (kI (kb (false))), .ref oa, .int (kI ((mn : Nat) : Int)), .ref x1] := hO_388
          have hzu_392 := hU_387.1
          refine lv_null hx hb dX9_order_28 ?_
          refine lv_astore_nN (lv' := [(2, .null), (1, .int (kI (csg t pl))), (0, .ref rd)]) hx hb dX9_order_29 rfl hl (by decide) rfl (fun ls hl => ?_)
          refine lv_iload_n hx hb dX9_order_30 rfl (lv_at hl 1 rfl) ?_
          refine kx_eqi (119) (hlt) ?_
          refine lv_tableIn (off := 134) (tgt := 165) hx hb dX9_order_31 (by decide) (by decide) (by decide) (by decide) ?_
          refine lv_aload_n hx hb dX9_order_165 rfl (lv_at hl 2 rfl) ?_
          refine lv_aload_n hx hb dX9_order_166 rfl (lv_at hl 2 rfl) ?_
          refine kx_iconst hx hb dX9_order_167 ?_
          refine kx_bipush hx hb (by decide) dX9_order_168 ?_
          have h_393 := hO_x1.up hU_387 (by first | assumption | exact Ne.symm (by assumption)  | omega | (have h9 := hO_x1.lt; omega))
          have h_394 := hO_bu.up hU_387 (by first | assumption | exact Ne.symm (by assumption)  | omega | (have h9 := hO_bu.lt; omega))
          have h_395 := hA_vb.up hU_387 (by first | assumption | exact Ne.symm (by assumption)  | omega | (have h9 := hA_vb.lt; omega))
          refine kx_ci (va_runV (As := [.int (kI (0)), .int (kI (7))]) (rest := [.ref rd]) ⟨hx, hb, hml, hown, hts⟩ (m_dig_n l D H_389 rd (pl + 1) false oa mn x1 st snp hi bu vb ml cap g t 0 7 hO_388 h_393 h_394 h_395 (by first | assumption | omega) (by first | assumption | omega) (by first | assumption | omega) (by first | assumption | omega) (by first | assumption | omega) ((by omega)) ((by omega)) bs_rd ((Or.inr hd1))) (cwV 2 hts (lw_V q1637 q1639 qs22 q125 q1640) rfl rfl rfl (by decide +kernel) ⟨Nat.le_of_ble_eq_true rfl, Nat.le_of_ble_eq_true rfl⟩) (kx_pv hK hS_391 hB (kx_rc hK hO_388 (C := RX9) (T := TX9) (N := 5) rfl)) rfl rfl hl.1 rfl (lv_room (Nat.le_of_ble_eq_true rfl)) dX9_order_170 ⟨by first | exact Nat.le_of_ble_eq_true rfl | omega | (show _ ≤ _; omega) | (dsimp only [headSpec]; omega), by first | exact Nat.le_of_ble_eq_true rfl | omega | (show _ ≤ _; omega) | (dsimp only [headSpec]; omega)⟩) hS_391 (fun q _ h => by have h9 := hS_391.1; (try dsimp only at h); (try dsimp only); (try simp only [kNW] at h); (try simp only [kNW]); omega) (fun q h => by have h9 := hS_391.1; (try dsimp only at h); (try dsimp only); (try simp only [kNW] at h); (try simp only [kNW]); omega) (fun z_401 H_399 locs_396 hz_398 hF_400 hS_397 => ?_)
          have hzf_402 := hF_400.1
          refine W.widen (k := 0) (n := 0) (Nat.le_of_ble_eq_true rfl) (Nat.le_of_ble_eq_true rfl) ?_
          obtain ⟨hv_403, ho_404⟩ := hz_398
          subst z_401
          refine kx_cr (va_runV (As := [.int (kI ((csg t (pl + 1) - 48)))]) (rest := []) ⟨hx, hb, hml, hown, hts⟩ (m_X9_wiping l D H_399 rd ((csg t (pl + 1) - 48))  ) (cwV 1 hts (lw_V q1740 q1742 qs29 q125 q1743) rfl rfl rfl (by decide +kernel) ⟨Nat.le_of_ble_eq_true rfl, Nat.le_of_ble_eq_true rfl⟩) (kx_pv hK hS_397 hB (kx_rc hK ho_404 (C := RX9) (T := TX9) (N := 5) rfl)) rfl rfl hl.1 rfl (lv_room (Nat.le_of_ble_eq_true rfl)) dX9_order_173 ⟨by first | exact Nat.le_of_ble_eq_true rfl | omega | (show _ ≤ _; omega) | (dsimp only [headSpec]; omega), by first | exact Nat.le_of_ble_eq_true rfl | omega | (show _ ≤ _; omega) | (dsimp only [headSpec]; omega)⟩) hS_397 (fun q _ h => Or.inr (Or.inr (by (try dsimp only at h); (try simp only [kNW] at h); omega))) (fun q h => Or.inr (Or.inr (by (try dsimp only at h); (try simp only [kNW] at h); omega))) (fun z_410 H_408 locs_405 hz_407 hF_409 hS_406 => ?_)
          have hzf_411 := hF_409.1
          have hF_409 := hF_409.nw
          refine W.widen (k := 1) (n := 1) (Nat.le_of_ble_eq_true rfl) (Nat.le_of_ble_eq_true rfl) ?_
          obtain ⟨ho_412, hnew_413⟩ := hz_407
          refine lv_astore_n (lv' := [(2, .ref z_410), (1, .int (kI (csg t pl))), (0, .ref rd)]) hx hb dX9_order_176 rfl hl (by decide) rfl (fun ls hl => ?_)
          refine lv_goto (tgt := 254) hx hb dX9_order_177 (by decide) ?_
          refine lv_aload_n hx hb dX9_order_254 rfl (lv_at hl 2 rfl) ?_
          have h_414 := ho_404.ex hF_409
          refine kx_get (v := .int (kI (kb (true)))) (C := RX9) (T := TX9) (N := 5) hx hb hts in_X9 hown hK h_414 rfl 1 (by decide) q1543 (fun _ h9 => h9) rfl dX9_order_255 ?_
          refine kx_ifnz (tgt := 281) hx hb dX9_order_258 (by decide) (fun c_258_415 => ?_) (fun c_258_415 => ?_)
          · -- taken at 258
            have h_416 := hA_oa.up hU_387 (by first | assumption | exact Ne.symm (by assumption)  | omega | (have h9 := hA_oa.lt; omega))
            have h_417 := h_416.fr hF_400 (fun h => by (try dsimp only at h); (try simp only [kNW] at h); omega)
            have h_418 := h_417.ex hF_409
            have hOo9 : kOl D H_408 b0 H_408.size go mn t := (hP_kOl_b0.fr (va_S.toFr hS_406) (fun x hx => by rcases hx with z | z | z <;> omega)).mono (by omega)
            have hfin : kO D H_408 rd 8 [.int (kI (((rdW t pl).2.1 : Nat) : Int)), .int (kI (kb (!(rdW t pl).1))), .ref oa, .int (kI ((mn : Nat) : Int)), .ref x1] := by rw [hrd9]; exact h_414
            have hmn9 : mn = if (rdW t pl).1 = true then mn + 1 else mn := by rw [hrd9]; rfl
            refine W.widen (k := 2) (n := 22) (by omega) (by omega) ?_
            exact kx_vret hx hb hr hlk (⟨mn, go, H_408.size, hfin, h_418, hOo9, by exact hmn9, by exact ⟨by omega, Nat.le_refl _⟩⟩) hS_406 dX9_order_281
          · -- not taken at 258
            first | exact absurd c_258_415 (by decide) | exact Bool.noConfusion c_258_415 | (simp at c_258_415; done)
    · -- l
      have hl9 : tsg t pl = 108 := by omega
      by_cases hd1 : 48 ≤ csg t (pl + 1) ∧ csg t (pl + 1) ≤ 55
      · -- a number
        have hn1 : tx_numOK t 0 7 (pl + 1) := by unfold tx_numOK; omega
        have hq1 : tx_num t 7 (pl + 1) = (tsg t (pl + 1) - 48, pl + 1 + 1) := tx_num_1 (by omega) (by omega) hrs9
        have hcoP2 := csg_or t (pl + 1 + 1)
        have hcrP2 := hT.cr (pl + 1 + 1)
        have hcoP3 := csg_or t (pl + 1 + 1 + 1)
        have hcrP3 := hT.cr (pl + 1 + 1 + 1)
        by_cases hd2 : csg t (pl + 1 + 1) = 46
        · -- sign
          by_cases hd3 : 48 ≤ csg t (pl + 1 + 1 + 1) ∧ csg t (pl + 1 + 1 + 1) ≤ 57
          · -- whole
            have hrd9 : rdW t pl = (true, (tx_num t 59 (pl + 1 + 1 + 1)).2, (tsg t (pl + 1) - 48), (tx_num t 59 (pl + 1 + 1 + 1)).1) := by rw [rd_l hl9, rd_two]; simp only [hq1]; rw [if_pos hn1, if_pos (by omega), if_pos (by unfold tx_numOK; omega)]
            refine lv_aload_n hx hb dX9_order_0 rfl (lv_at hl 0 rfl) ?_
            refine kx_ci0 (va_runV (As := []) (rest := []) ⟨hx, hb, hml, hown, hts⟩ (m_sgn l D s.heap rd pl false oa mn x1 st snp hi bu vb ml cap g t hO_rd hO_x1 hO_bu hA_vb (by first | assumption | omega) (by first | assumption | omega) (by first | assumption | omega) (by first | assumption | omega) (by first | assumption | omega)) (cwV 0 hts (lw_V q1566 q1568 qs20 q125 q1569) rfl rfl rfl (by decide +kernel) ⟨Nat.le_of_ble_eq_true rfl, Nat.le_of_ble_eq_true rfl⟩) (kx_pv hK hS hB (kx_rc hK hO_rd (C := RX9) (T := TX9) (N := 5) rfl)) rfl rfl hl.1 rfl (lv_room (Nat.le_of_ble_eq_true rfl)) dX9_order_1 ⟨by first | exact Nat.le_of_ble_eq_true rfl | omega | (show _ ≤ _; omega) | (dsimp only [headSpec]; omega), by first | exact Nat.le_of_ble_eq_true rfl | omega | (show _ ≤ _; omega) | (dsimp only [headSpec]; omega)⟩) hS (fun z_422 locs_419 hz_421 hS_420 => ?_)
            subst z_422
            refine lv_istore_n (lv' := [(1, .int (kI (csg t pl))), (0, .ref rd)]) hx hb dX9_order_4 rfl hl (by decide) rfl (fun ls hl => ?_)
            refine lv_aload_n hx hb dX9_order_5 rfl (lv_at hl 1 rfl) ?_
            refine lv_dup hx hb dX9_order_6 rfl ?_
            refine kx_get (v := .int (kI ((pl : Nat) : Int))) (C := RX9) (T := TX9) (N := 5) hx hb hts in_X9 hown hK hO_rd rfl 0 (by decide) q1541 (fun _ h9 => h9) rfl dX9_order_7 ?_
            obtain ⟨hv_423, zv_424, hL_425⟩ := kK.ltO hK hS_420 hB
            refine va_ldcS hx hb hown hK.sLt dX9_order_10 ?_
            refine lv_iload_n hx hb dX9_order_12 rfl (lv_at hl 0 rfl) ?_
            refine kx_ci0 (va_runV (As := [.int (kI (csg t pl))]) (rest := [.int (kI ((pl : Nat) : Int)), .ref rd]) ⟨hx, hb, hml, hown, hts⟩ (m_J6_indexOf l D s.heap (csg t pl) hv_423 zv_424 hL_425 (by first | assumption | omega)) (cwV 1 hts (lw_V q1585 q1586 q1587 q87 q1588) rfl rfl rfl (by decide +kernel) ⟨Nat.le_of_ble_eq_true rfl, Nat.le_of_ble_eq_true rfl⟩) (kx_pv hK hS_420 hB (kx_rc hK hL_425 (C := RJ6) (T := TJ6) (N := 4) rfl)) rfl rfl hl.1 rfl (lv_room (Nat.le_of_ble_eq_true rfl)) dX9_order_13 ⟨by first | exact Nat.le_of_ble_eq_true rfl | omega | (show _ ≤ _; omega) | (dsimp only [headSpec]; omega), by first | exact Nat.le_of_ble_eq_true rfl | omega | (show _ ≤ _; omega) | (dsimp only [headSpec]; omega)⟩) hS_420 (fun z_429 locs_426 hz_428 hS_427 => ?_)
            subst z_429
            refine kx_if_lt (x := lt_ix (csg t pl)) (tgt := 23) hx hb dX9_order_16 (by decide) (by have := lt_ix_rng (csg t pl); omega) (by have := lt_ix_rng (csg t pl); omega) (fun c_16_430 => ?_) (fun c_16_430 => ?_)
            · -- taken at 16
              exfalso; have := lt_ix_in hL0; omega
            · -- not taken at 16
              refine kx_iconst hx hb dX9_order_19 ?_
              refine lv_goto (tgt := 24) hx hb dX9_order_20 (by decide) ?_
              refine kx_iadd hx hb dX9_order_24 ?_
              refine kx_eqi (((pl + 1 : Nat) : Int)) (by omega) ?_
              refine kx_put (v := .int (kI ((pl + 1 : Nat) : Int))) (C := RX9) (T := TX9) (N := 5) hx hb hts in_X9 hown hK hO_rd rfl 0 (by decide) tyX9 tyX9_ok nmX9 hS_427 (by first | rfl | exact Or.inl rfl | exact Or.inr rfl | exact Or.inr (Or.inl rfl) | exact Or.inr (Or.inr rfl) | exact Or.inr (Or.inr (Or.inl rfl)) | exact Or.inr (Or.inr (Or.inr rfl)) | ((try dsimp only); (try simp only [kNW]); omega)) q1541 (fun _ h9 => h9) rfl rfl rfl rfl (Nat.le_of_ble_eq_true rfl) dX9_order_25 (fun H_433 locs_434 hO_432 hU_431 hS_435 => ?_)
              have hO_432 : kO D H_433 rd 8 [.int (kI ((pl + 1 : Nat) : Int)), .int (kI (kb (false))), .ref oa, .int (kI ((mn : Nat) : Int)), .ref x1] := hO_432
              have hzu_436 := hU_431.1
              refine lv_null hx hb dX9_order_28 ?_
              refine lv_astore_nN (lv' := [(2, .null), (1, .int (kI (csg t pl))), (0, .ref rd)]) hx hb dX9_order_29 rfl hl (by decide) rfl (fun ls hl => ?_)
              refine lv_iload_n hx hb dX9_order_30 rfl (lv_at hl 1 rfl) ?_
              refine kx_eqi (108) (hlt) ?_
              refine lv_tableIn (off := 149) (tgt := 180) hx hb dX9_order_31 (by decide) (by decide) (by decide) (by decide) ?_
              refine lv_aload_n hx hb dX9_order_180 rfl (lv_at hl 2 rfl) ?_
              refine lv_aload_n hx hb dX9_order_181 rfl (lv_at hl 2 rfl) ?_
              refine kx_iconst hx hb dX9_order_182 ?_
              refine kx_bipush hx hb (by decide) dX9_order_183 ?_
              have h_437 := hO_x1.up hU_431 (by first | assumption | exact Ne.symm (by assumption)  | omega | (have h9 := hO_x1.lt; omega))
              have h_438 := hO_bu.up hU_431 (by first | assumption | exact Ne.symm (by assumption)  | omega | (have h9 := hO_bu.lt; omega))
              have h_439 := hA_vb.up hU_431 (by first | assumption | exact Ne.symm (by assumption)  | omega | (have h9 := hA_vb.lt; omega))
              refine kx_ci (va_runV (As := [.int (kI (0)), .int (kI (7))]) (rest := [.ref rd]) ⟨hx, hb, hml, hown, hts⟩ (m_dig_y l D H_433 rd (pl + 1) oa mn x1 st snp hi bu vb ml cap g t 0 7 hO_432 h_437 h_438 h_439 (by first | assumption | omega) (by first | assumption | omega) (by first | assumption | omega) (by first | assumption | omega) (by first | assumption | omega) ((by omega)) ((by omega)) bs_rd ((by omega))) (cwV 2 hts (lw_V q1637 q1639 qs22 q125 q1640) rfl rfl rfl (by decide +kernel) ⟨Nat.le_of_ble_eq_true rfl, Nat.le_of_ble_eq_true rfl⟩) (kx_pv hK hS_435 hB (kx_rc hK hO_432 (C := RX9) (T := TX9) (N := 5) rfl)) rfl rfl hl.1 rfl (lv_room (Nat.le_of_ble_eq_true rfl)) dX9_order_185 ⟨by first | exact Nat.le_of_ble_eq_true rfl | omega | (show _ ≤ _; omega) | (dsimp only [headSpec]; omega), by first | exact Nat.le_of_ble_eq_true rfl | omega | (show _ ≤ _; omega) | (dsimp only [headSpec]; omega)⟩) hS_435 (fun q _ h => by have h9 := hS_435.1; (try dsimp only at h); (try dsimp only); (try simp only [kNW] at h); (try simp only [kNW]); omega) (fun q h => by have h9 := hS_435.1; (try dsimp only at h); (try dsimp only); (try simp only [kNW] at h); (try simp only [kNW]); omega) (fun z_445 H_443 locs_440 hz_442 hF_444 hS_441 => ?_)
              have hzf_446 := hF_444.1
              refine W.widen (k := 0) (n := 0) (Nat.le_of_ble_eq_true rfl) (Nat.le_of_ble_eq_true rfl) ?_
              obtain ⟨hv_447, ho_448⟩ := hz_442
              subst z_445
              have h_449 := h_437.fr hF_444 (fun h => by (try dsimp only at h); (try simp only [kNW] at h); omega)
              have h_450 := h_438.fr hF_444 (fun h => by (try dsimp only at h); (try simp only [kNW] at h); omega)
              have h_451 := h_439.fr hF_444 (fun h => by (try dsimp only at h); (try simp only [kNW] at h); omega)
              refine kx_cr (va_runV (As := [.int (kI ((csg t (pl + 1) - 48)))]) (rest := []) ⟨hx, hb, hml, hown, hts⟩ (m_lab_y l D H_443 rd ((pl + 1) + 1) oa mn x1 st snp hi bu vb ml cap g t ((csg t (pl + 1) - 48)) ho_448 h_449 h_450 h_451 (by first | assumption | omega) (by first | assumption | omega) (by first | assumption | omega) (by first | assumption | omega) (by first | assumption | omega) bs_rd hd2 hd3) (cwV 1 hts (lw_V q1764 q1766 qs31 q125 q1767) rfl rfl rfl (by decide +kernel) ⟨Nat.le_of_ble_eq_true rfl, Nat.le_of_ble_eq_true rfl⟩) (kx_pv hK hS_441 hB (kx_rc hK ho_448 (C := RX9) (T := TX9) (N := 5) rfl)) rfl rfl hl.1 rfl (lv_room (Nat.le_of_ble_eq_true rfl)) dX9_order_188 ⟨by first | exact Nat.le_of_ble_eq_true rfl | omega | (show _ ≤ _; omega) | (dsimp only [headSpec]; omega), by first | exact Nat.le_of_ble_eq_true rfl | omega | (show _ ≤ _; omega) | (dsimp only [headSpec]; omega)⟩) hS_441 (fun q _ h => by rcases h with h | h; exact Or.inl h; exact Or.inr (Or.inr (by omega))) (fun q h => by rcases h with h | h; exact Or.inl h; exact Or.inr (Or.inr (by omega))) (fun z_457 H_455 locs_452 hz_454 hF_456 hS_453 => ?_)
              have hzf_458 := hF_456.1
              refine W.widen (k := 1) (n := 2) (Nat.le_of_ble_eq_true rfl) (Nat.le_of_ble_eq_true rfl) ?_
              obtain ⟨ho_459, ho_460, hnew_461⟩ := hz_454
              refine lv_astore_n (lv' := [(2, .ref z_457), (1, .int (kI (csg t pl))), (0, .ref rd)]) hx hb dX9_order_191 rfl hl (by decide) rfl (fun ls hl => ?_)
              refine lv_goto (tgt := 254) hx hb dX9_order_192 (by decide) ?_
              refine lv_aload_n hx hb dX9_order_254 rfl (lv_at hl 2 rfl) ?_
              refine kx_get (v := .int (kI (kb (false)))) (C := RX9) (T := TX9) (N := 5) hx hb hts in_X9 hown hK ho_459 rfl 1 (by decide) q1543 (fun _ h9 => h9) rfl dX9_order_255 ?_
              refine kx_ifnz (tgt := 281) hx hb dX9_order_258 (by decide) (fun c_258_462 => ?_) (fun c_258_462 => ?_)
              · -- taken at 258
                first | exact absurd c_258_462 (by decide) | exact Bool.noConfusion c_258_462 | (simp at c_258_462; done)
              · -- not taken at 258
                refine lv_aload_n hx hb dX9_order_261 rfl (lv_at hl 2 rfl) ?_
                refine kx_get (v := .ref oa) (C := RX9) (T := TX9) (N := 5) hx hb hts in_X9 hown hK ho_459 rfl 2 (by decide) q1544 (fun _ h9 => h9) rfl dX9_order_262 ?_
                refine lv_aload_n hx hb dX9_order_265 rfl (lv_at hl 2 rfl) ?_
                refine kx_get (v := .int (kI ((mn : Nat) : Int))) (C := RX9) (T := TX9) (N := 5) hx hb hts in_X9 hown hK ho_459 rfl 3 (by decide) q1545 (fun _ h9 => h9) rfl dX9_order_266 ?_
                refine lv_aload_n hx hb dX9_order_269 rfl (lv_at hl 0 rfl) ?_
                have h_463 := hA_oa.up hU_431 (by first | assumption | exact Ne.symm (by assumption)  | omega | (have h9 := hA_oa.lt; omega))
                have h_464 := h_463.fr hF_444 (fun h => by (try dsimp only at h); (try simp only [kNW] at h); omega)
                have h_465 := h_464.fr hF_456 (fun h => by (try dsimp only at h); (try simp only [kNW] at h); omega)
                refine kx_aastL hx hb hK (t := 6) rfl h_465 hS_453 (by first | rfl | exact Or.inl rfl | exact Or.inr rfl | exact Or.inr (Or.inl rfl) | exact Or.inr (Or.inr rfl) | exact Or.inr (Or.inr (Or.inl rfl)) | exact Or.inr (Or.inr (Or.inr rfl)) | ((try dsimp only); (try simp only [kNW]); omega)) mn (rfl) (by omega) (by omega) ho_460 (q := _) rfl rfl dX9_order_270 (fun H_468 locs_469 hA_467 hU_466 hS_470 => ?_)
                have hzu_471 := hU_466.1
                refine lv_aload_n hx hb dX9_order_271 rfl (lv_at hl 2 rfl) ?_
                refine lv_dup hx hb dX9_order_272 rfl ?_
                have h_472 := ho_459.up hU_466 (by first | assumption | exact Ne.symm (by assumption)  | omega | (have h9 := ho_459.lt; omega))
                refine kx_get (v := .int (kI ((mn : Nat) : Int))) (C := RX9) (T := TX9) (N := 5) hx hb hts in_X9 hown hK h_472 rfl 3 (by decide) q1545 (fun _ h9 => h9) rfl dX9_order_273 ?_
                refine kx_iconst hx hb dX9_order_276 ?_
                refine kx_iadd hx hb dX9_order_277 ?_
                refine kx_eqi (((mn + 1 : Nat) : Int)) (by omega) ?_
                refine kx_put (v := .int (kI ((mn + 1 : Nat) : Int))) (C := RX9) (T := TX9) (N := 5) hx hb hts in_X9 hown hK h_472 rfl 3 (by decide) tyX9 tyX9_ok nmX9 hS_470 (by first | rfl | exact Or.inl rfl | exact Or.inr rfl | exact Or.inr (Or.inl rfl) | exact Or.inr (Or.inr rfl) | exact Or.inr (Or.inr (Or.inl rfl)) | exact Or.inr (Or.inr (Or.inr rfl)) | ((try dsimp only); (try simp only [kNW]); omega)) q1545 (fun _ h9 => h9) rfl rfl rfl rfl (Nat.le_of_ble_eq_true rfl) dX9_order_278 (fun H_475 locs_476 hO_474 hU_473 hS_477 => ?_)
                have hO_474 : kO D H_475 rd 8 [.int (kI (((tx_num t 59 ((((pl + 1) + 1)) + 1)).2 : Nat) : Int)), .int (kI (kb (false))), .ref oa, .int (kI ((mn + 1 : Nat) : Int)), .ref x1] := hO_474
                have hzu_478 := hU_473.1
                have h_479 := hA_467.up hU_473 (by first | assumption | exact Ne.symm (by assumption)  | omega | (have h9 := hA_467.lt; omega))
                have hOo9 : kOl D H_475 b0 H_475.size go mn t := (hP_kOl_b0.fr (va_S.toFr hS_477) (fun x hx => by rcases hx with z | z | z <;> omega)).mono (by omega)
                have hfin : kO D H_475 rd 8 [.int (kI (((rdW t pl).2.1 : Nat) : Int)), .int (kI (kb (!(rdW t pl).1))), .ref oa, .int (kI ((mn + 1 : Nat) : Int)), .ref x1] := by rw [hrd9]; exact hO_474
                have h_480 := ho_460.up hU_466 (by first | assumption | exact Ne.symm (by assumption)  | omega | (have h9 := ho_460.lt; omega))
                have h_481 := h_480.up hU_473 (by first | assumption | exact Ne.symm (by assumption)  | omega | (have h9 := h_480.lt; omega))
                have hkq9 : kOrd D H_475 b0 H_475.size t (opos t mn) z_457 := by rw [← hpo]; exact Or.inr ⟨⟨by omega, by have h9 := h_481.lt; omega⟩, Or.inr (Or.inr (Or.inl ⟨hl9, by rw [hrd9]; exact (by have h9 := h_481; rw [show csg t (pl + 1) - 48 = tsg t (pl + 1) - 48 by omega] at h9; exact h9)⟩))⟩
                have hOl9 := hOo9.add hkq9
                have hmn9 : mn + 1 = if (rdW t pl).1 = true then mn + 1 else mn := by rw [hrd9]; rfl
                refine W.widen (k := 2) (n := 22) (by omega) (by omega) ?_
                exact kx_vret hx hb hr hlk (⟨(mn + 1), ((kupq go mn (some z_457))), H_475.size, hfin, h_479, hOl9, by exact hmn9, by exact ⟨by omega, Nat.le_refl _⟩⟩) hS_477 dX9_order_281
          · -- no second
            have hrd9 : rdW t pl = (false, pl + 1 + 1 + 1, (tsg t (pl + 1) - 48), tsg t (pl + 1 + 1 + 1) - 48) := by rw [rd_l hl9, rd_two]; simp only [hq1]; rw [if_pos hn1, if_pos (by omega), if_neg (by unfold tx_numOK; omega)]
            refine lv_aload_n hx hb dX9_order_0 rfl (lv_at hl 0 rfl) ?_
            refine kx_ci0 (va_runV (As := []) (rest := []) ⟨hx, hb, hml, hown, hts⟩ (m_sgn l D s.heap rd pl false oa mn x1 st snp hi bu vb ml cap g t hO_rd hO_x1 hO_bu hA_vb (by first | assumption | omega) (by first | assumption | omega) (by first | assumption | omega) (by first | assumption | omega) (by first | assumption | omega)) (cwV 0 hts (lw_V q1566 q1568 qs20 q125 q1569) rfl rfl rfl (by decide +kernel) ⟨Nat.le_of_ble_eq_true rfl, Nat.le_of_ble_eq_true rfl⟩) (kx_pv hK hS hB (kx_rc hK hO_rd (C := RX9) (T := TX9) (N := 5) rfl)) rfl rfl hl.1 rfl (lv_room (Nat.le_of_ble_eq_true rfl)) dX9_order_1 ⟨by first | exact Nat.le_of_ble_eq_true rfl | omega | (show _ ≤ _; omega) | (dsimp only [headSpec]; omega), by first | exact Nat.le_of_ble_eq_true rfl | omega | (show _ ≤ _; omega) | (dsimp only [headSpec]; omega)⟩) hS (fun z_485 locs_482 hz_484 hS_483 => ?_)
            subst z_485
            refine lv_istore_n (lv' := [(1, .int (kI (csg t pl))), (0, .ref rd)]) hx hb dX9_order_4 rfl hl (by decide) rfl (fun ls hl => ?_)
            refine lv_aload_n hx hb dX9_order_5 rfl (lv_at hl 1 rfl) ?_
            refine lv_dup hx hb dX9_order_6 rfl ?_
            refine kx_get (v := .int (kI ((pl : Nat) : Int))) (C := RX9) (T := TX9) (N := 5) hx hb hts in_X9 hown hK hO_rd rfl 0 (by decide) q1541 (fun _ h9 => h9) rfl dX9_order_7 ?_
            obtain ⟨hv_486, zv_487, hL_488⟩ := kK.ltO hK hS_483 hB
            refine va_ldcS hx hb hown hK.sLt dX9_order_10 ?_
            refine lv_iload_n hx hb dX9_order_12 rfl (lv_at hl 0 rfl) ?_
            refine kx_ci0 (va_runV (As := [.int (kI (csg t pl))]) (rest := [.int (kI ((pl : Nat) : Int)), .ref rd]) ⟨hx, hb, hml, hown, hts⟩ (m_J6_indexOf l D s.heap (csg t pl) hv_486 zv_487 hL_488 (by first | assumption | omega)) (cwV 1 hts (lw_V q1585 q1586 q1587 q87 q1588) rfl rfl rfl (by decide +kernel) ⟨Nat.le_of_ble_eq_true rfl, Nat.le_of_ble_eq_true rfl⟩) (kx_pv hK hS_483 hB (kx_rc hK hL_488 (C := RJ6) (T := TJ6) (N := 4) rfl)) rfl rfl hl.1 rfl (lv_room (Nat.le_of_ble_eq_true rfl)) dX9_order_13 ⟨by first | exact Nat.le_of_ble_eq_true rfl | omega | (show _ ≤ _; omega) | (dsimp only [headSpec]; omega), by first | exact Nat.le_of_ble_eq_true rfl | omega | (show _ ≤ _; omega) | (dsimp only [headSpec]; omega)⟩) hS_483 (fun z_492 locs_489 hz_491 hS_490 => ?_)
            subst z_492
            refine kx_if_lt (x := lt_ix (csg t pl)) (tgt := 23) hx hb dX9_order_16 (by decide) (by have := lt_ix_rng (csg t pl); omega) (by have := lt_ix_rng (csg t pl); omega) (fun c_16_493 => ?_) (fun c_16_493 => ?_)
            · -- taken at 16
              exfalso; have := lt_ix_in hL0; omega
            · -- not taken at 16
              refine kx_iconst hx hb dX9_order_19 ?_
              refine lv_goto (tgt := 24) hx hb dX9_order_20 (by decide) ?_
              refine kx_iadd hx hb dX9_order_24 ?_
              refine kx_eqi (((pl + 1 : Nat) : Int)) (by omega) ?_
              refine kx_put (v := .int (kI ((pl + 1 : Nat) : Int))) (C := RX9) (T := TX9) (N := 5) hx hb hts in_X9 hown hK hO_rd rfl 0 (by decide) tyX9 tyX9_ok nmX9 hS_490 (by first | rfl | exact Or.inl rfl | exact Or.inr rfl | exact Or.inr (Or.inl rfl) | exact Or.inr (Or.inr rfl) | exact Or.inr (Or.inr (Or.inl rfl)) | exact Or.inr (Or.inr (Or.inr rfl)) | ((try dsimp only); (try simp only [kNW]); omega)) q1541 (fun _ h9 => h9) rfl rfl rfl rfl (Nat.le_of_ble_eq_true rfl) dX9_order_25 (fun H_496 locs_497 hO_495 hU_494 hS_498 => ?_)
              have hO_495 : kO D H_496 rd 8 [.int (kI ((pl + 1 : Nat) : Int)), .int (kI (kb (false))), .ref oa, .int (kI ((mn : Nat) : Int)), .ref x1] := hO_495
              have hzu_499 := hU_494.1
              refine lv_null hx hb dX9_order_28 ?_
              refine lv_astore_nN (lv' := [(2, .null), (1, .int (kI (csg t pl))), (0, .ref rd)]) hx hb dX9_order_29 rfl hl (by decide) rfl (fun ls hl => ?_)
              refine lv_iload_n hx hb dX9_order_30 rfl (lv_at hl 1 rfl) ?_
              refine kx_eqi (108) (hlt) ?_
              refine lv_tableIn (off := 149) (tgt := 180) hx hb dX9_order_31 (by decide) (by decide) (by decide) (by decide) ?_
              refine lv_aload_n hx hb dX9_order_180 rfl (lv_at hl 2 rfl) ?_
              refine lv_aload_n hx hb dX9_order_181 rfl (lv_at hl 2 rfl) ?_
              refine kx_iconst hx hb dX9_order_182 ?_
              refine kx_bipush hx hb (by decide) dX9_order_183 ?_
              have h_500 := hO_x1.up hU_494 (by first | assumption | exact Ne.symm (by assumption)  | omega | (have h9 := hO_x1.lt; omega))
              have h_501 := hO_bu.up hU_494 (by first | assumption | exact Ne.symm (by assumption)  | omega | (have h9 := hO_bu.lt; omega))
              have h_502 := hA_vb.up hU_494 (by first | assumption | exact Ne.symm (by assumption)  | omega | (have h9 := hA_vb.lt; omega))
              refine kx_ci (va_runV (As := [.int (kI (0)), .int (kI (7))]) (rest := [.ref rd]) ⟨hx, hb, hml, hown, hts⟩ (m_dig_y l D H_496 rd (pl + 1) oa mn x1 st snp hi bu vb ml cap g t 0 7 hO_495 h_500 h_501 h_502 (by first | assumption | omega) (by first | assumption | omega) (by first | assumption | omega) (by first | assumption | omega) (by first | assumption | omega) ((by omega)) ((by omega)) bs_rd ((by omega))) (cwV 2 hts (lw_V q1637 q1639 qs22 q125 q1640) rfl rfl rfl (by decide +kernel) ⟨Nat.le_of_ble_eq_true rfl, Nat.le_of_ble_eq_true rfl⟩) (kx_pv hK hS_498 hB (kx_rc hK hO_495 (C := RX9) (T := TX9) (N := 5) rfl)) rfl rfl hl.1 rfl (lv_room (Nat.le_of_ble_eq_true rfl)) dX9_order_185 ⟨by first | exact Nat.le_of_ble_eq_true rfl | omega | (show _ ≤ _; omega) | (dsimp only [headSpec]; omega), by first | exact Nat.le_of_ble_eq_true rfl | omega | (show _ ≤ _; omega) | (dsimp only [headSpec]; omega)⟩) hS_498 (fun q _ h => by have h9 := hS_498.1; (try dsimp only at h); (try dsimp only); (try simp only [kNW] at h); (try simp only [kNW]); omega) (fun q h => by have h9 := hS_498.1; (try dsimp only at h); (try dsimp only); (try simp only [kNW] at h); (try simp only [kNW]); omega) (fun z_508 H_506 locs_503 hz_505 hF_507 hS_504 => ?_)
              have hzf_509 := hF_507.1
              refine W.widen (k := 0) (n := 0) (Nat.le_of_ble_eq_true rfl) (Nat.le_of_ble_eq_true rfl) ?_
              obtain ⟨hv_510, ho_511⟩ := hz_505
              subst z_508
              have h_512 := h_500.fr hF_507 (fun h => by (try dsimp only at h); (try simp only [kNW] at h); omega)
              have h_513 := h_501.fr hF_507 (fun h => by (try dsimp only at h); (try simp only [kNW] at h); omega)
              have h_514 := h_502.fr hF_507 (fun h => by (try dsimp only at h); (try simp only [kNW] at h); omega)
              refine kx_cr (va_runV (As := [.int (kI ((csg t (pl + 1) - 48)))]) (rest := []) ⟨hx, hb, hml, hown, hts⟩ (m_lab_n2 l D H_506 rd ((pl + 1) + 1) oa mn x1 st snp hi bu vb ml cap g t ((csg t (pl + 1) - 48)) ho_511 h_512 h_513 h_514 (by first | assumption | omega) (by first | assumption | omega) (by first | assumption | omega) (by first | assumption | omega) (by first | assumption | omega) bs_rd hd2 hd3) (cwV 1 hts (lw_V q1764 q1766 qs31 q125 q1767) rfl rfl rfl (by decide +kernel) ⟨Nat.le_of_ble_eq_true rfl, Nat.le_of_ble_eq_true rfl⟩) (kx_pv hK hS_504 hB (kx_rc hK ho_511 (C := RX9) (T := TX9) (N := 5) rfl)) rfl rfl hl.1 rfl (lv_room (Nat.le_of_ble_eq_true rfl)) dX9_order_188 ⟨by first | exact Nat.le_of_ble_eq_true rfl | omega | (show _ ≤ _; omega) | (dsimp only [headSpec]; omega), by first | exact Nat.le_of_ble_eq_true rfl | omega | (show _ ≤ _; omega) | (dsimp only [headSpec]; omega)⟩) hS_504 (fun q _ h => by rcases h with h | h; exact Or.inl h; exact Or.inr (Or.inr (by omega))) (fun q h => by rcases h with h | h; exact Or.inl h; exact Or.inr (Or.inr (by omega))) (fun z_520 H_518 locs_515 hz_517 hF_519 hS_516 => ?_)
              have hzf_521 := hF_519.1
              refine W.widen (k := 1) (n := 2) (Nat.le_of_ble_eq_true rfl) (Nat.le_of_ble_eq_true rfl) ?_
              obtain ⟨ho_522, hnew_523⟩ := hz_517
              refine lv_astore_n (lv' := [(2, .ref z_520), (1, .int (kI (csg t pl))), (0, .ref rd)]) hx hb dX9_order_191 rfl hl (by decide) rfl (fun ls hl => ?_)
              refine lv_goto (tgt := 254) hx hb dX9_order_192 (by decide) ?_
              refine lv_aload_n hx hb dX9_order_254 rfl (lv_at hl 2 rfl) ?_
              refine kx_get (v := .int (kI (kb (true)))) (C := RX9) (T := TX9) (N := 5) hx hb hts in_X9 hown hK ho_522 rfl 1 (by decide) q1543 (fun _ h9 => h9) rfl dX9_order_255 ?_
              refine kx_ifnz (tgt := 281) hx hb dX9_order_258 (by decide) (fun c_258_524 => ?_) (fun c_258_524 => ?_)
              · -- taken at 258
                have h_525 := hA_oa.up hU_494 (by first | assumption | exact Ne.symm (by assumption)  | omega | (have h9 := hA_oa.lt; omega))
                have h_526 := h_525.fr hF_507 (fun h => by (try dsimp only at h); (try simp only [kNW] at h); omega)
                have h_527 := h_526.fr hF_519 (fun h => by (try dsimp only at h); (try simp only [kNW] at h); omega)
                have hOo9 : kOl D H_518 b0 H_518.size go mn t := (hP_kOl_b0.fr (va_S.toFr hS_516) (fun x hx => by rcases hx with z | z | z <;> omega)).mono (by omega)
                have hfin : kO D H_518 rd 8 [.int (kI (((rdW t pl).2.1 : Nat) : Int)), .int (kI (kb (!(rdW t pl).1))), .ref oa, .int (kI ((mn : Nat) : Int)), .ref x1] := by rw [hrd9]; exact ho_522
                have hmn9 : mn = if (rdW t pl).1 = true then mn + 1 else mn := by rw [hrd9]; rfl
                refine W.widen (k := 2) (n := 22) (by omega) (by omega) ?_
                exact kx_vret hx hb hr hlk (⟨mn, go, H_518.size, hfin, h_527, hOo9, by exact hmn9, by exact ⟨by omega, Nat.le_refl _⟩⟩) hS_516 dX9_order_281
              · -- not taken at 258
                first | exact absurd c_258_524 (by decide) | exact Bool.noConfusion c_258_524 | (simp at c_258_524; done)
        · -- no sign
          have hrd9 : rdW t pl = (false, pl + 1 + 1, (tsg t (pl + 1) - 48), 0) := by rw [rd_l hl9, rd_two]; simp only [hq1]; rw [if_pos hn1, if_neg (by omega)]
          refine lv_aload_n hx hb dX9_order_0 rfl (lv_at hl 0 rfl) ?_
          refine kx_ci0 (va_runV (As := []) (rest := []) ⟨hx, hb, hml, hown, hts⟩ (m_sgn l D s.heap rd pl false oa mn x1 st snp hi bu vb ml cap g t hO_rd hO_x1 hO_bu hA_vb (by first | assumption | omega) (by first | assumption | omega) (by first | assumption | omega) (by first | assumption | omega) (by first | assumption | omega)) (cwV 0 hts (lw_V q1566 q1568 qs20 q125 q1569) rfl rfl rfl (by decide +kernel) ⟨Nat.le_of_ble_eq_true rfl, Nat.le_of_ble_eq_true rfl⟩) (kx_pv hK hS hB (kx_rc hK hO_rd (C := RX9) (T := TX9) (N := 5) rfl)) rfl rfl hl.1 rfl (lv_room (Nat.le_of_ble_eq_true rfl)) dX9_order_1 ⟨by first | exact Nat.le_of_ble_eq_true rfl | omega | (show _ ≤ _; omega) | (dsimp only [headSpec]; omega), by first | exact Nat.le_of_ble_eq_true rfl | omega | (show _ ≤ _; omega) | (dsimp only [headSpec]; omega)⟩) hS (fun z_531 locs_528 hz_530 hS_529 => ?_)
          subst z_531
          refine lv_istore_n (lv' := [(1, .int (kI (csg t pl))), (0, .ref rd)]) hx hb dX9_order_4 rfl hl (by decide) rfl (fun ls hl => ?_)
          refine lv_aload_n hx hb dX9_order_5 rfl (lv_at hl 1 rfl) ?_
          refine lv_dup hx hb dX9_order_6 rfl ?_
          refine kx_get (v := .int (kI ((pl : Nat) : Int))) (C := RX9) (T := TX9) (N := 5) hx hb hts in_X9 hown hK hO_rd rfl 0 (by decide) q1541 (fun _ h9 => h9) rfl dX9_order_7 ?_
          obtain ⟨hv_532, zv_533, hL_534⟩ := kK.ltO hK hS_529 hB
          refine va_ldcS hx hb hown hK.sLt dX9_order_10 ?_
          refine lv_iload_n hx hb dX9_order_12 rfl (lv_at hl 0 rfl) ?_
          refine kx_ci0 (va_runV (As := [.int (kI (csg t pl))]) (rest := [.int (kI ((pl : Nat) : Int)), .ref rd]) ⟨hx, hb, hml, hown, hts⟩ (m_J6_indexOf l D s.heap (csg t pl) hv_532 zv_533 hL_534 (by first | assumption | omega)) (cwV 1 hts (lw_V q1585 q1586 q1587 q87 q1588) rfl rfl rfl (by decide +kernel) ⟨Nat.le_of_ble_eq_true rfl, Nat.le_of_ble_eq_true rfl⟩) (kx_pv hK hS_529 hB (kx_rc hK hL_534 (C := RJ6) (T := TJ6) (N := 4) rfl)) rfl rfl hl.1 rfl (lv_room (Nat.le_of_ble_eq_true rfl)) dX9_order_13 ⟨by first | exact Nat.le_of_ble_eq_true rfl | omega | (show _ ≤ _; omega) | (dsimp only [headSpec]; omega), by first | exact Nat.le_of_ble_eq_true rfl | omega | (show _ ≤ _; omega) | (dsimp only [headSpec]; omega)⟩) hS_529 (fun z_538 locs_535 hz_537 hS_536 => ?_)
          subst z_538
          refine kx_if_lt (x := lt_ix (csg t pl)) (tgt := 23) hx hb dX9_order_16 (by decide) (by have := lt_ix_rng (csg t pl); omega) (by have := lt_ix_rng (csg t pl); omega) (fun c_16_539 => ?_) (fun c_16_539 => ?_)
          · -- taken at 16
            exfalso; have := lt_ix_in hL0; omega
          · -- not taken at 16
            refine kx_iconst hx hb dX9_order_19 ?_
            refine lv_goto (tgt := 24) hx hb dX9_order_20 (by decide) ?_
            refine kx_iadd hx hb dX9_order_24 ?_
            refine kx_eqi (((pl + 1 : Nat) : Int)) (by omega) ?_
            refine kx_put (v := .int (kI ((pl + 1 : Nat) : Int))) (C := RX9) (T := TX9) (N := 5) hx hb hts in_X9 hown hK hO_rd rfl 0 (by decide) tyX9 tyX9_ok nmX9 hS_536 (by first | rfl | exact Or.inl rfl | exact Or.inr rfl | exact Or.inr (Or.inl rfl) | exact Or.inr (Or.inr rfl) | exact Or.inr (Or.inr (Or.inl rfl)) | exact Or.inr (Or.inr (Or.inr rfl)) | ((try dsimp only); (try simp only [kNW]); omega)) q1541 (fun _ h9 => h9) rfl rfl rfl rfl (Nat.le_of_ble_eq_true rfl) dX9_order_25 (fun H_542 locs_543 hO_541 hU_540 hS_544 => ?_)
            have hO_541 : kO D H_542 rd 8 [.int (kI ((pl + 1 : Nat) : Int)), .int (kI (kb (false))), .ref oa, .int (kI ((mn : Nat) : Int)), .ref x1] := hO_541
            have hzu_545 := hU_540.1
            refine lv_null hx hb dX9_order_28 ?_
            refine lv_astore_nN (lv' := [(2, .null), (1, .int (kI (csg t pl))), (0, .ref rd)]) hx hb dX9_order_29 rfl hl (by decide) rfl (fun ls hl => ?_)
            refine lv_iload_n hx hb dX9_order_30 rfl (lv_at hl 1 rfl) ?_
            refine kx_eqi (108) (hlt) ?_
            refine lv_tableIn (off := 149) (tgt := 180) hx hb dX9_order_31 (by decide) (by decide) (by decide) (by decide) ?_
            refine lv_aload_n hx hb dX9_order_180 rfl (lv_at hl 2 rfl) ?_
            refine lv_aload_n hx hb dX9_order_181 rfl (lv_at hl 2 rfl) ?_
            refine kx_iconst hx hb dX9_order_182 ?_
            refine kx_bipush hx hb (by decide) dX9_order_183 ?_
            have h_546 := hO_x1.up hU_540 (by first | assumption | exact Ne.symm (by assumption)  | omega | (have h9 := hO_x1.lt; omega))
            have h_547 := hO_bu.up hU_540 (by first | assumption | exact Ne.symm (by assumption)  | omega | (have h9 := hO_bu.lt; omega))
            have h_548 := hA_vb.up hU_540 (by first | assumption | exact Ne.symm (by assumption)  | omega | (have h9 := hA_vb.lt; omega))
            refine kx_ci (va_runV (As := [.int (kI (0)), .int (kI (7))]) (rest := [.ref rd]) ⟨hx, hb, hml, hown, hts⟩ (m_dig_y l D H_542 rd (pl + 1) oa mn x1 st snp hi bu vb ml cap g t 0 7 hO_541 h_546 h_547 h_548 (by first | assumption | omega) (by first | assumption | omega) (by first | assumption | omega) (by first | assumption | omega) (by first | assumption | omega) ((by omega)) ((by omega)) bs_rd ((by omega))) (cwV 2 hts (lw_V q1637 q1639 qs22 q125 q1640) rfl rfl rfl (by decide +kernel) ⟨Nat.le_of_ble_eq_true rfl, Nat.le_of_ble_eq_true rfl⟩) (kx_pv hK hS_544 hB (kx_rc hK hO_541 (C := RX9) (T := TX9) (N := 5) rfl)) rfl rfl hl.1 rfl (lv_room (Nat.le_of_ble_eq_true rfl)) dX9_order_185 ⟨by first | exact Nat.le_of_ble_eq_true rfl | omega | (show _ ≤ _; omega) | (dsimp only [headSpec]; omega), by first | exact Nat.le_of_ble_eq_true rfl | omega | (show _ ≤ _; omega) | (dsimp only [headSpec]; omega)⟩) hS_544 (fun q _ h => by have h9 := hS_544.1; (try dsimp only at h); (try dsimp only); (try simp only [kNW] at h); (try simp only [kNW]); omega) (fun q h => by have h9 := hS_544.1; (try dsimp only at h); (try dsimp only); (try simp only [kNW] at h); (try simp only [kNW]); omega) (fun z_554 H_552 locs_549 hz_551 hF_553 hS_550 => ?_)
            have hzf_555 := hF_553.1
            refine W.widen (k := 0) (n := 0) (Nat.le_of_ble_eq_true rfl) (Nat.le_of_ble_eq_true rfl) ?_
            obtain ⟨hv_556, ho_557⟩ := hz_551
            subst z_554
            have h_558 := h_546.fr hF_553 (fun h => by (try dsimp only at h); (try simp only [kNW] at h); omega)
            have h_559 := h_547.fr hF_553 (fun h => by (try dsimp only at h); (try simp only [kNW] at h); omega)
            have h_560 := h_548.fr hF_553 (fun h => by (try dsimp only at h); (try simp only [kNW] at h); omega)
            refine kx_cr (va_runV (As := [.int (kI ((csg t (pl + 1) - 48)))]) (rest := []) ⟨hx, hb, hml, hown, hts⟩ (m_lab_n1 l D H_552 rd ((pl + 1) + 1) false oa mn x1 st snp hi bu vb ml cap g t ((csg t (pl + 1) - 48)) ho_557 h_558 h_559 h_560 (by first | assumption | omega) (by first | assumption | omega) (by first | assumption | omega) (by first | assumption | omega) (by first | assumption | omega) bs_rd ((Or.inr hd2))) (cwV 1 hts (lw_V q1764 q1766 qs31 q125 q1767) rfl rfl rfl (by decide +kernel) ⟨Nat.le_of_ble_eq_true rfl, Nat.le_of_ble_eq_true rfl⟩) (kx_pv hK hS_550 hB (kx_rc hK ho_557 (C := RX9) (T := TX9) (N := 5) rfl)) rfl rfl hl.1 rfl (lv_room (Nat.le_of_ble_eq_true rfl)) dX9_order_188 ⟨by first | exact Nat.le_of_ble_eq_true rfl | omega | (show _ ≤ _; omega) | (dsimp only [headSpec]; omega), by first | exact Nat.le_of_ble_eq_true rfl | omega | (show _ ≤ _; omega) | (dsimp only [headSpec]; omega)⟩) hS_550 (fun q _ h => by rcases h with h | h; exact Or.inl h; exact Or.inr (Or.inr (by omega))) (fun q h => by rcases h with h | h; exact Or.inl h; exact Or.inr (Or.inr (by omega))) (fun z_566 H_564 locs_561 hz_563 hF_565 hS_562 => ?_)
            have hzf_567 := hF_565.1
            refine W.widen (k := 1) (n := 2) (Nat.le_of_ble_eq_true rfl) (Nat.le_of_ble_eq_true rfl) ?_
            obtain ⟨ho_568, hnew_569⟩ := hz_563
            refine lv_astore_n (lv' := [(2, .ref z_566), (1, .int (kI (csg t pl))), (0, .ref rd)]) hx hb dX9_order_191 rfl hl (by decide) rfl (fun ls hl => ?_)
            refine lv_goto (tgt := 254) hx hb dX9_order_192 (by decide) ?_
            refine lv_aload_n hx hb dX9_order_254 rfl (lv_at hl 2 rfl) ?_
            refine kx_get (v := .int (kI (kb (true)))) (C := RX9) (T := TX9) (N := 5) hx hb hts in_X9 hown hK ho_568 rfl 1 (by decide) q1543 (fun _ h9 => h9) rfl dX9_order_255 ?_
            refine kx_ifnz (tgt := 281) hx hb dX9_order_258 (by decide) (fun c_258_570 => ?_) (fun c_258_570 => ?_)
            · -- taken at 258
              have h_571 := hA_oa.up hU_540 (by first | assumption | exact Ne.symm (by assumption)  | omega | (have h9 := hA_oa.lt; omega))
              have h_572 := h_571.fr hF_553 (fun h => by (try dsimp only at h); (try simp only [kNW] at h); omega)
              have h_573 := h_572.fr hF_565 (fun h => by (try dsimp only at h); (try simp only [kNW] at h); omega)
              have hOo9 : kOl D H_564 b0 H_564.size go mn t := (hP_kOl_b0.fr (va_S.toFr hS_562) (fun x hx => by rcases hx with z | z | z <;> omega)).mono (by omega)
              have hfin : kO D H_564 rd 8 [.int (kI (((rdW t pl).2.1 : Nat) : Int)), .int (kI (kb (!(rdW t pl).1))), .ref oa, .int (kI ((mn : Nat) : Int)), .ref x1] := by rw [hrd9]; exact ho_568
              have hmn9 : mn = if (rdW t pl).1 = true then mn + 1 else mn := by rw [hrd9]; rfl
              refine W.widen (k := 2) (n := 22) (by omega) (by omega) ?_
              exact kx_vret hx hb hr hlk (⟨mn, go, H_564.size, hfin, h_573, hOo9, by exact hmn9, by exact ⟨by omega, Nat.le_refl _⟩⟩) hS_562 dX9_order_281
            · -- not taken at 258
              first | exact absurd c_258_570 (by decide) | exact Bool.noConfusion c_258_570 | (simp at c_258_570; done)
      · -- no number
        have hrd9 : rdW t pl = (false, pl + 1, tsg t (pl + 1) - 48, 0) := by rw [rd_l hl9, rd_two, if_neg (by unfold tx_numOK; omega)]
        refine lv_aload_n hx hb dX9_order_0 rfl (lv_at hl 0 rfl) ?_
        refine kx_ci0 (va_runV (As := []) (rest := []) ⟨hx, hb, hml, hown, hts⟩ (m_sgn l D s.heap rd pl false oa mn x1 st snp hi bu vb ml cap g t hO_rd hO_x1 hO_bu hA_vb (by first | assumption | omega) (by first | assumption | omega) (by first | assumption | omega) (by first | assumption | omega) (by first | assumption | omega)) (cwV 0 hts (lw_V q1566 q1568 qs20 q125 q1569) rfl rfl rfl (by decide +kernel) ⟨Nat.le_of_ble_eq_true rfl, Nat.le_of_ble_eq_true rfl⟩) (kx_pv hK hS hB (kx_rc hK hO_rd (C := RX9) (T := TX9) (N := 5) rfl)) rfl rfl hl.1 rfl (lv_room (Nat.le_of_ble_eq_true rfl)) dX9_order_1 ⟨by first | exact Nat.le_of_ble_eq_true rfl | omega | (show _ ≤ _; omega) | (dsimp only [headSpec]; omega), by first | exact Nat.le_of_ble_eq_true rfl | omega | (show _ ≤ _; omega) | (dsimp only [headSpec]; omega)⟩) hS (fun z_577 locs_574 hz_576 hS_575 => ?_)
        subst z_577
        refine lv_istore_n (lv' := [(1, .int (kI (csg t pl))), (0, .ref rd)]) hx hb dX9_order_4 rfl hl (by decide) rfl (fun ls hl => ?_)
        refine lv_aload_n hx hb dX9_order_5 rfl (lv_at hl 1 rfl) ?_
        refine lv_dup hx hb dX9_order_6 rfl ?_
        refine kx_get (v := .int (kI ((pl : Nat) : Int))) (C := RX9) (T := TX9) (N := 5) hx hb hts in_X9 hown hK hO_rd rfl 0 (by decide) q1541 (fun _ h9 => h9) rfl dX9_order_7 ?_
        obtain ⟨hv_578, zv_579, hL_580⟩ := kK.ltO hK hS_575 hB
        refine va_ldcS hx hb hown hK.sLt dX9_order_10 ?_
        refine lv_iload_n hx hb dX9_order_12 rfl (lv_at hl 0 rfl) ?_
        refine kx_ci0 (va_runV (As := [.int (kI (csg t pl))]) (rest := [.int (kI ((pl : Nat) : Int)), .ref rd]) ⟨hx, hb, hml, hown, hts⟩ (m_J6_indexOf l D s.heap (csg t pl) hv_578 zv_579 hL_580 (by first | assumption | omega)) (cwV 1 hts (lw_V q1585 q1586 q1587 q87 q1588) rfl rfl rfl (by decide +kernel) ⟨Nat.le_of_ble_eq_true rfl, Nat.le_of_ble_eq_true rfl⟩) (kx_pv hK hS_575 hB (kx_rc hK hL_580 (C := RJ6) (T := TJ6) (N := 4) rfl)) rfl rfl hl.1 rfl (lv_room (Nat.le_of_ble_eq_true rfl)) dX9_order_13 ⟨by first | exact Nat.le_of_ble_eq_true rfl | omega | (show _ ≤ _; omega) | (dsimp only [headSpec]; omega), by first | exact Nat.le_of_ble_eq_true rfl | omega | (show _ ≤ _; omega) | (dsimp only [headSpec]; omega)⟩) hS_575 (fun z_584 locs_581 hz_583 hS_582 => ?_)
        subst z_584
        refine kx_if_lt (x := lt_ix (csg t pl)) (tgt := 23) hx hb dX9_order_16 (by decide) (by have := lt_ix_rng (csg t pl); omega) (by have := lt_ix_rng (csg t pl); omega) (fun c_16_585 => ?_) (fun c_16_585 => ?_)
        · -- taken at 16
          exfalso; have := lt_ix_in hL0; omega
        · -- not taken at 16
          refine kx_iconst hx hb dX9_order_19 ?_
          refine lv_goto (tgt := 24) hx hb dX9_order_20 (by decide) ?_
          refine kx_iadd hx hb dX9_order_24 ?_
          refine kx_eqi (((pl + 1 : Nat) : Int)) (by omega) ?_
          refine kx_put (v := .int (kI ((pl + 1 : Nat) : Int))) (C := RX9) (T := TX9) (N := 5) hx hb hts in_X9 hown hK hO_rd rfl 0 (by decide) tyX9 tyX9_ok nmX9 hS_582 (by first | rfl | exact Or.inl rfl | exact Or.inr rfl | exact Or.inr (Or.inl rfl) | exact Or.inr (Or.inr rfl) | exact Or.inr (Or.inr (Or.inl rfl)) | exact Or.inr (Or.inr (Or.inr rfl)) | ((try dsimp only); (try simp only [kNW]); omega)) q1541 (fun _ h9 => h9) rfl rfl rfl rfl (Nat.le_of_ble_eq_true rfl) dX9_order_25 (fun H_588 locs_589 hO_587 hU_586 hS_590 => ?_)
          have hO_587 : kO D H_588 rd 8 [.int (kI ((pl + 1 : Nat) : Int)), .int (kI (kb (false))), .ref oa, .int (kI ((mn : Nat) : Int)), .ref x1] := hO_587
          have hzu_591 := hU_586.1
          refine lv_null hx hb dX9_order_28 ?_
          refine lv_astore_nN (lv' := [(2, .null), (1, .int (kI (csg t pl))), (0, .ref rd)]) hx hb dX9_order_29 rfl hl (by decide) rfl (fun ls hl => ?_)
          refine lv_iload_n hx hb dX9_order_30 rfl (lv_at hl 1 rfl) ?_
          refine kx_eqi (108) (hlt) ?_
          refine lv_tableIn (off := 149) (tgt := 180) hx hb dX9_order_31 (by decide) (by decide) (by decide) (by decide) ?_
          refine lv_aload_n hx hb dX9_order_180 rfl (lv_at hl 2 rfl) ?_
          refine lv_aload_n hx hb dX9_order_181 rfl (lv_at hl 2 rfl) ?_
          refine kx_iconst hx hb dX9_order_182 ?_
          refine kx_bipush hx hb (by decide) dX9_order_183 ?_
          have h_592 := hO_x1.up hU_586 (by first | assumption | exact Ne.symm (by assumption)  | omega | (have h9 := hO_x1.lt; omega))
          have h_593 := hO_bu.up hU_586 (by first | assumption | exact Ne.symm (by assumption)  | omega | (have h9 := hO_bu.lt; omega))
          have h_594 := hA_vb.up hU_586 (by first | assumption | exact Ne.symm (by assumption)  | omega | (have h9 := hA_vb.lt; omega))
          refine kx_ci (va_runV (As := [.int (kI (0)), .int (kI (7))]) (rest := [.ref rd]) ⟨hx, hb, hml, hown, hts⟩ (m_dig_n l D H_588 rd (pl + 1) false oa mn x1 st snp hi bu vb ml cap g t 0 7 hO_587 h_592 h_593 h_594 (by first | assumption | omega) (by first | assumption | omega) (by first | assumption | omega) (by first | assumption | omega) (by first | assumption | omega) ((by omega)) ((by omega)) bs_rd ((Or.inr (by omega)))) (cwV 2 hts (lw_V q1637 q1639 qs22 q125 q1640) rfl rfl rfl (by decide +kernel) ⟨Nat.le_of_ble_eq_true rfl, Nat.le_of_ble_eq_true rfl⟩) (kx_pv hK hS_590 hB (kx_rc hK hO_587 (C := RX9) (T := TX9) (N := 5) rfl)) rfl rfl hl.1 rfl (lv_room (Nat.le_of_ble_eq_true rfl)) dX9_order_185 ⟨by first | exact Nat.le_of_ble_eq_true rfl | omega | (show _ ≤ _; omega) | (dsimp only [headSpec]; omega), by first | exact Nat.le_of_ble_eq_true rfl | omega | (show _ ≤ _; omega) | (dsimp only [headSpec]; omega)⟩) hS_590 (fun q _ h => by have h9 := hS_590.1; (try dsimp only at h); (try dsimp only); (try simp only [kNW] at h); (try simp only [kNW]); omega) (fun q h => by have h9 := hS_590.1; (try dsimp only at h); (try dsimp only); (try simp only [kNW] at h); (try simp only [kNW]); omega) (fun z_600 H_598 locs_595 hz_597 hF_599 hS_596 => ?_)
          have hzf_601 := hF_599.1
          refine W.widen (k := 0) (n := 0) (Nat.le_of_ble_eq_true rfl) (Nat.le_of_ble_eq_true rfl) ?_
          obtain ⟨hv_602, ho_603⟩ := hz_597
          subst z_600
          have h_604 := h_592.fr hF_599 (fun h => by (try dsimp only at h); (try simp only [kNW] at h); omega)
          have h_605 := h_593.fr hF_599 (fun h => by (try dsimp only at h); (try simp only [kNW] at h); omega)
          have h_606 := h_594.fr hF_599 (fun h => by (try dsimp only at h); (try simp only [kNW] at h); omega)
          refine kx_cr (va_runV (As := [.int (kI ((csg t (pl + 1) - 48)))]) (rest := []) ⟨hx, hb, hml, hown, hts⟩ (m_lab_n1 l D H_598 rd ((pl + 1)) true oa mn x1 st snp hi bu vb ml cap g t ((csg t (pl + 1) - 48)) ho_603 h_604 h_605 h_606 (by first | assumption | omega) (by first | assumption | omega) (by first | assumption | omega) (by first | assumption | omega) (by first | assumption | omega) bs_rd ((Or.inl rfl))) (cwV 1 hts (lw_V q1764 q1766 qs31 q125 q1767) rfl rfl rfl (by decide +kernel) ⟨Nat.le_of_ble_eq_true rfl, Nat.le_of_ble_eq_true rfl⟩) (kx_pv hK hS_596 hB (kx_rc hK ho_603 (C := RX9) (T := TX9) (N := 5) rfl)) rfl rfl hl.1 rfl (lv_room (Nat.le_of_ble_eq_true rfl)) dX9_order_188 ⟨by first | exact Nat.le_of_ble_eq_true rfl | omega | (show _ ≤ _; omega) | (dsimp only [headSpec]; omega), by first | exact Nat.le_of_ble_eq_true rfl | omega | (show _ ≤ _; omega) | (dsimp only [headSpec]; omega)⟩) hS_596 (fun q _ h => by rcases h with h | h; exact Or.inl h; exact Or.inr (Or.inr (by omega))) (fun q h => by rcases h with h | h; exact Or.inl h; exact Or.inr (Or.inr (by omega))) (fun z_612 H_610 locs_607 hz_609 hF_611 hS_608 => ?_)
          have hzf_613 := hF_611.1
          refine W.widen (k := 1) (n := 2) (Nat.le_of_ble_eq_true rfl) (Nat.le_of_ble_eq_true rfl) ?_
          obtain ⟨ho_614, hnew_615⟩ := hz_609
          refine lv_astore_n (lv' := [(2, .ref z_612), (1, .int (kI (csg t pl))), (0, .ref rd)]) hx hb dX9_order_191 rfl hl (by decide) rfl (fun ls hl => ?_)
          refine lv_goto (tgt := 254) hx hb dX9_order_192 (by decide) ?_
          refine lv_aload_n hx hb dX9_order_254 rfl (lv_at hl 2 rfl) ?_
          refine kx_get (v := .int (kI (kb (true)))) (C := RX9) (T := TX9) (N := 5) hx hb hts in_X9 hown hK ho_614 rfl 1 (by decide) q1543 (fun _ h9 => h9) rfl dX9_order_255 ?_
          refine kx_ifnz (tgt := 281) hx hb dX9_order_258 (by decide) (fun c_258_616 => ?_) (fun c_258_616 => ?_)
          · -- taken at 258
            have h_617 := hA_oa.up hU_586 (by first | assumption | exact Ne.symm (by assumption)  | omega | (have h9 := hA_oa.lt; omega))
            have h_618 := h_617.fr hF_599 (fun h => by (try dsimp only at h); (try simp only [kNW] at h); omega)
            have h_619 := h_618.fr hF_611 (fun h => by (try dsimp only at h); (try simp only [kNW] at h); omega)
            have hOo9 : kOl D H_610 b0 H_610.size go mn t := (hP_kOl_b0.fr (va_S.toFr hS_608) (fun x hx => by rcases hx with z | z | z <;> omega)).mono (by omega)
            have hfin : kO D H_610 rd 8 [.int (kI (((rdW t pl).2.1 : Nat) : Int)), .int (kI (kb (!(rdW t pl).1))), .ref oa, .int (kI ((mn : Nat) : Int)), .ref x1] := by rw [hrd9]; exact ho_614
            have hmn9 : mn = if (rdW t pl).1 = true then mn + 1 else mn := by rw [hrd9]; rfl
            refine W.widen (k := 2) (n := 22) (by omega) (by omega) ?_
            exact kx_vret hx hb hr hlk (⟨mn, go, H_610.size, hfin, h_619, hOo9, by exact hmn9, by exact ⟨by omega, Nat.le_refl _⟩⟩) hS_608 dX9_order_281
          · -- not taken at 258
            first | exact absurd c_258_616 (by decide) | exact Bool.noConfusion c_258_616 | (simp at c_258_616; done)
    · -- u
      have hl9 : tsg t pl = 117 := by omega
      by_cases hd1 : 0 ≤ csg t (pl + 1) - 48 ∧ csg t (pl + 1) - 48 ≤ 7
      · -- one
        have hrd9 : rdW t pl = (true, pl + 1 + 1, tsg t (pl + 1) - 48, 0) := by rw [rd_1 (Or.inr (Or.inl hl9)), rdW.rdOne, if_pos (by unfold tx_numOK; omega), tx_num_1 (by omega) (by omega) hrs9]
        refine lv_aload_n hx hb dX9_order_0 rfl (lv_at hl 0 rfl) ?_
        refine kx_ci0 (va_runV (As := []) (rest := []) ⟨hx, hb, hml, hown, hts⟩ (m_sgn l D s.heap rd pl false oa mn x1 st snp hi bu vb ml cap g t hO_rd hO_x1 hO_bu hA_vb (by first | assumption | omega) (by first | assumption | omega) (by first | assumption | omega) (by first | assumption | omega) (by first | assumption | omega)) (cwV 0 hts (lw_V q1566 q1568 qs20 q125 q1569) rfl rfl rfl (by decide +kernel) ⟨Nat.le_of_ble_eq_true rfl, Nat.le_of_ble_eq_true rfl⟩) (kx_pv hK hS hB (kx_rc hK hO_rd (C := RX9) (T := TX9) (N := 5) rfl)) rfl rfl hl.1 rfl (lv_room (Nat.le_of_ble_eq_true rfl)) dX9_order_1 ⟨by first | exact Nat.le_of_ble_eq_true rfl | omega | (show _ ≤ _; omega) | (dsimp only [headSpec]; omega), by first | exact Nat.le_of_ble_eq_true rfl | omega | (show _ ≤ _; omega) | (dsimp only [headSpec]; omega)⟩) hS (fun z_623 locs_620 hz_622 hS_621 => ?_)
        subst z_623
        refine lv_istore_n (lv' := [(1, .int (kI (csg t pl))), (0, .ref rd)]) hx hb dX9_order_4 rfl hl (by decide) rfl (fun ls hl => ?_)
        refine lv_aload_n hx hb dX9_order_5 rfl (lv_at hl 1 rfl) ?_
        refine lv_dup hx hb dX9_order_6 rfl ?_
        refine kx_get (v := .int (kI ((pl : Nat) : Int))) (C := RX9) (T := TX9) (N := 5) hx hb hts in_X9 hown hK hO_rd rfl 0 (by decide) q1541 (fun _ h9 => h9) rfl dX9_order_7 ?_
        obtain ⟨hv_624, zv_625, hL_626⟩ := kK.ltO hK hS_621 hB
        refine va_ldcS hx hb hown hK.sLt dX9_order_10 ?_
        refine lv_iload_n hx hb dX9_order_12 rfl (lv_at hl 0 rfl) ?_
        refine kx_ci0 (va_runV (As := [.int (kI (csg t pl))]) (rest := [.int (kI ((pl : Nat) : Int)), .ref rd]) ⟨hx, hb, hml, hown, hts⟩ (m_J6_indexOf l D s.heap (csg t pl) hv_624 zv_625 hL_626 (by first | assumption | omega)) (cwV 1 hts (lw_V q1585 q1586 q1587 q87 q1588) rfl rfl rfl (by decide +kernel) ⟨Nat.le_of_ble_eq_true rfl, Nat.le_of_ble_eq_true rfl⟩) (kx_pv hK hS_621 hB (kx_rc hK hL_626 (C := RJ6) (T := TJ6) (N := 4) rfl)) rfl rfl hl.1 rfl (lv_room (Nat.le_of_ble_eq_true rfl)) dX9_order_13 ⟨by first | exact Nat.le_of_ble_eq_true rfl | omega | (show _ ≤ _; omega) | (dsimp only [headSpec]; omega), by first | exact Nat.le_of_ble_eq_true rfl | omega | (show _ ≤ _; omega) | (dsimp only [headSpec]; omega)⟩) hS_621 (fun z_630 locs_627 hz_629 hS_628 => ?_)
        subst z_630
        refine kx_if_lt (x := lt_ix (csg t pl)) (tgt := 23) hx hb dX9_order_16 (by decide) (by have := lt_ix_rng (csg t pl); omega) (by have := lt_ix_rng (csg t pl); omega) (fun c_16_631 => ?_) (fun c_16_631 => ?_)
        · -- taken at 16
          exfalso; have := lt_ix_in hL0; omega
        · -- not taken at 16
          refine kx_iconst hx hb dX9_order_19 ?_
          refine lv_goto (tgt := 24) hx hb dX9_order_20 (by decide) ?_
          refine kx_iadd hx hb dX9_order_24 ?_
          refine kx_eqi (((pl + 1 : Nat) : Int)) (by omega) ?_
          refine kx_put (v := .int (kI ((pl + 1 : Nat) : Int))) (C := RX9) (T := TX9) (N := 5) hx hb hts in_X9 hown hK hO_rd rfl 0 (by decide) tyX9 tyX9_ok nmX9 hS_628 (by first | rfl | exact Or.inl rfl | exact Or.inr rfl | exact Or.inr (Or.inl rfl) | exact Or.inr (Or.inr rfl) | exact Or.inr (Or.inr (Or.inl rfl)) | exact Or.inr (Or.inr (Or.inr rfl)) | ((try dsimp only); (try simp only [kNW]); omega)) q1541 (fun _ h9 => h9) rfl rfl rfl rfl (Nat.le_of_ble_eq_true rfl) dX9_order_25 (fun H_634 locs_635 hO_633 hU_632 hS_636 => ?_)
          have hO_633 : kO D H_634 rd 8 [.int (kI ((pl + 1 : Nat) : Int)), .int (kI (kb (false))), .ref oa, .int (kI ((mn : Nat) : Int)), .ref x1] := hO_633
          have hzu_637 := hU_632.1
          refine lv_null hx hb dX9_order_28 ?_
          refine lv_astore_nN (lv' := [(2, .null), (1, .int (kI (csg t pl))), (0, .ref rd)]) hx hb dX9_order_29 rfl hl (by decide) rfl (fun ls hl => ?_)
          refine lv_iload_n hx hb dX9_order_30 rfl (lv_at hl 1 rfl) ?_
          refine kx_eqi (117) (hlt) ?_
          refine lv_tableIn (off := 164) (tgt := 195) hx hb dX9_order_31 (by decide) (by decide) (by decide) (by decide) ?_
          refine lv_aload_n hx hb dX9_order_195 rfl (lv_at hl 2 rfl) ?_
          refine lv_aload_n hx hb dX9_order_196 rfl (lv_at hl 2 rfl) ?_
          refine kx_iconst hx hb dX9_order_197 ?_
          refine kx_bipush hx hb (by decide) dX9_order_198 ?_
          have h_638 := hO_x1.up hU_632 (by first | assumption | exact Ne.symm (by assumption)  | omega | (have h9 := hO_x1.lt; omega))
          have h_639 := hO_bu.up hU_632 (by first | assumption | exact Ne.symm (by assumption)  | omega | (have h9 := hO_bu.lt; omega))
          have h_640 := hA_vb.up hU_632 (by first | assumption | exact Ne.symm (by assumption)  | omega | (have h9 := hA_vb.lt; omega))
          refine kx_ci (va_runV (As := [.int (kI (0)), .int (kI (7))]) (rest := [.ref rd]) ⟨hx, hb, hml, hown, hts⟩ (m_dig_y l D H_634 rd (pl + 1) oa mn x1 st snp hi bu vb ml cap g t 0 7 hO_633 h_638 h_639 h_640 (by first | assumption | omega) (by first | assumption | omega) (by first | assumption | omega) (by first | assumption | omega) (by first | assumption | omega) ((by omega)) ((by omega)) bs_rd hd1) (cwV 2 hts (lw_V q1637 q1639 qs22 q125 q1640) rfl rfl rfl (by decide +kernel) ⟨Nat.le_of_ble_eq_true rfl, Nat.le_of_ble_eq_true rfl⟩) (kx_pv hK hS_636 hB (kx_rc hK hO_633 (C := RX9) (T := TX9) (N := 5) rfl)) rfl rfl hl.1 rfl (lv_room (Nat.le_of_ble_eq_true rfl)) dX9_order_200 ⟨by first | exact Nat.le_of_ble_eq_true rfl | omega | (show _ ≤ _; omega) | (dsimp only [headSpec]; omega), by first | exact Nat.le_of_ble_eq_true rfl | omega | (show _ ≤ _; omega) | (dsimp only [headSpec]; omega)⟩) hS_636 (fun q _ h => by have h9 := hS_636.1; (try dsimp only at h); (try dsimp only); (try simp only [kNW] at h); (try simp only [kNW]); omega) (fun q h => by have h9 := hS_636.1; (try dsimp only at h); (try dsimp only); (try simp only [kNW] at h); (try simp only [kNW]); omega) (fun z_646 H_644 locs_641 hz_643 hF_645 hS_642 => ?_)
          have hzf_647 := hF_645.1
          refine W.widen (k := 0) (n := 0) (Nat.le_of_ble_eq_true rfl) (Nat.le_of_ble_eq_true rfl) ?_
          obtain ⟨hv_648, ho_649⟩ := hz_643
          subst z_646
          refine kx_cr (va_runV (As := [.int (kI ((csg t (pl + 1) - 48)))]) (rest := []) ⟨hx, hb, hml, hown, hts⟩ (m_X9_unlabelling l D H_644 rd ((csg t (pl + 1) - 48))  ) (cwV 1 hts (lw_V q1771 q1773 qs32 q125 q1774) rfl rfl rfl (by decide +kernel) ⟨Nat.le_of_ble_eq_true rfl, Nat.le_of_ble_eq_true rfl⟩) (kx_pv hK hS_642 hB (kx_rc hK ho_649 (C := RX9) (T := TX9) (N := 5) rfl)) rfl rfl hl.1 rfl (lv_room (Nat.le_of_ble_eq_true rfl)) dX9_order_203 ⟨by first | exact Nat.le_of_ble_eq_true rfl | omega | (show _ ≤ _; omega) | (dsimp only [headSpec]; omega), by first | exact Nat.le_of_ble_eq_true rfl | omega | (show _ ≤ _; omega) | (dsimp only [headSpec]; omega)⟩) hS_642 (fun q _ h => Or.inr (Or.inr (by (try dsimp only at h); (try simp only [kNW] at h); omega))) (fun q h => Or.inr (Or.inr (by (try dsimp only at h); (try simp only [kNW] at h); omega))) (fun z_655 H_653 locs_650 hz_652 hF_654 hS_651 => ?_)
          have hzf_656 := hF_654.1
          have hF_654 := hF_654.nw
          refine W.widen (k := 1) (n := 1) (Nat.le_of_ble_eq_true rfl) (Nat.le_of_ble_eq_true rfl) ?_
          obtain ⟨ho_657, hnew_658⟩ := hz_652
          refine lv_astore_n (lv' := [(2, .ref z_655), (1, .int (kI (csg t pl))), (0, .ref rd)]) hx hb dX9_order_206 rfl hl (by decide) rfl (fun ls hl => ?_)
          refine lv_goto (tgt := 254) hx hb dX9_order_207 (by decide) ?_
          refine lv_aload_n hx hb dX9_order_254 rfl (lv_at hl 2 rfl) ?_
          have h_659 := ho_649.ex hF_654
          refine kx_get (v := .int (kI (kb (false)))) (C := RX9) (T := TX9) (N := 5) hx hb hts in_X9 hown hK h_659 rfl 1 (by decide) q1543 (fun _ h9 => h9) rfl dX9_order_255 ?_
          refine kx_ifnz (tgt := 281) hx hb dX9_order_258 (by decide) (fun c_258_660 => ?_) (fun c_258_660 => ?_)
          · -- taken at 258
            first | exact absurd c_258_660 (by decide) | exact Bool.noConfusion c_258_660 | (simp at c_258_660; done)
          · -- not taken at 258
            refine lv_aload_n hx hb dX9_order_261 rfl (lv_at hl 2 rfl) ?_
            refine kx_get (v := .ref oa) (C := RX9) (T := TX9) (N := 5) hx hb hts in_X9 hown hK h_659 rfl 2 (by decide) q1544 (fun _ h9 => h9) rfl dX9_order_262 ?_
            refine lv_aload_n hx hb dX9_order_265 rfl (lv_at hl 2 rfl) ?_
            refine kx_get (v := .int (kI ((mn : Nat) : Int))) (C := RX9) (T := TX9) (N := 5) hx hb hts in_X9 hown hK h_659 rfl 3 (by decide) q1545 (fun _ h9 => h9) rfl dX9_order_266 ?_
            refine lv_aload_n hx hb dX9_order_269 rfl (lv_at hl 0 rfl) ?_
            have h_661 := hA_oa.up hU_632 (by first | assumption | exact Ne.symm (by assumption)  | omega | (have h9 := hA_oa.lt; omega))
            have h_662 := h_661.fr hF_645 (fun h => by (try dsimp only at h); (try simp only [kNW] at h); omega)
            have h_663 := h_662.ex hF_654
            refine kx_aastL hx hb hK (t := 6) rfl h_663 hS_651 (by first | rfl | exact Or.inl rfl | exact Or.inr rfl | exact Or.inr (Or.inl rfl) | exact Or.inr (Or.inr rfl) | exact Or.inr (Or.inr (Or.inl rfl)) | exact Or.inr (Or.inr (Or.inr rfl)) | ((try dsimp only); (try simp only [kNW]); omega)) mn (rfl) (by omega) (by omega) ho_657 (q := _) rfl rfl dX9_order_270 (fun H_666 locs_667 hA_665 hU_664 hS_668 => ?_)
            have hzu_669 := hU_664.1
            refine lv_aload_n hx hb dX9_order_271 rfl (lv_at hl 2 rfl) ?_
            refine lv_dup hx hb dX9_order_272 rfl ?_
            have h_670 := h_659.up hU_664 (by first | assumption | exact Ne.symm (by assumption)  | omega | (have h9 := h_659.lt; omega))
            refine kx_get (v := .int (kI ((mn : Nat) : Int))) (C := RX9) (T := TX9) (N := 5) hx hb hts in_X9 hown hK h_670 rfl 3 (by decide) q1545 (fun _ h9 => h9) rfl dX9_order_273 ?_
            refine kx_iconst hx hb dX9_order_276 ?_
            refine kx_iadd hx hb dX9_order_277 ?_
            refine kx_eqi (((mn + 1 : Nat) : Int)) (by omega) ?_
            refine kx_put (v := .int (kI ((mn + 1 : Nat) : Int))) (C := RX9) (T := TX9) (N := 5) hx hb hts in_X9 hown hK h_670 rfl 3 (by decide) tyX9 tyX9_ok nmX9 hS_668 (by first | rfl | exact Or.inl rfl | exact Or.inr rfl | exact Or.inr (Or.inl rfl) | exact Or.inr (Or.inr rfl) | exact Or.inr (Or.inr (Or.inl rfl)) | exact Or.inr (Or.inr (Or.inr rfl)) | ((try dsimp only); (try simp only [kNW]); omega)) q1545 (fun _ h9 => h9) rfl rfl rfl rfl (Nat.le_of_ble_eq_true rfl) dX9_order_278 (fun H_673 locs_674 hO_672 hU_671 hS_675 => ?_)
            have hO_672 : kO D H_673 rd 8 [.int (kI (((pl + 1) + 1 : Nat) : Int)), .int (kI (kb (false))), .ref oa, .int (kI ((mn + 1 : Nat) : Int)), .ref x1] := hO_672
            have hzu_676 := hU_671.1
            have h_677 := hA_665.up hU_671 (by first | assumption | exact Ne.symm (by assumption)  | omega | (have h9 := hA_665.lt; omega))
            have hOo9 : kOl D H_673 b0 H_673.size go mn t := (hP_kOl_b0.fr (va_S.toFr hS_675) (fun x hx => by rcases hx with z | z | z <;> omega)).mono (by omega)
            have hfin : kO D H_673 rd 8 [.int (kI (((rdW t pl).2.1 : Nat) : Int)), .int (kI (kb (!(rdW t pl).1))), .ref oa, .int (kI ((mn + 1 : Nat) : Int)), .ref x1] := by rw [hrd9]; exact hO_672
            have h_678 := ho_657.up hU_664 (by first | assumption | exact Ne.symm (by assumption)  | omega | (have h9 := ho_657.lt; omega))
            have h_679 := h_678.up hU_671 (by first | assumption | exact Ne.symm (by assumption)  | omega | (have h9 := h_678.lt; omega))
            have hkq9 : kOrd D H_673 b0 H_673.size t (opos t mn) z_655 := by rw [← hpo]; exact Or.inr ⟨⟨by omega, by have h9 := h_679.lt; omega⟩, Or.inr (Or.inr (Or.inr (Or.inr (Or.inl ⟨hl9, by rw [hrd9]; exact (by have h9 := h_679; rw [show csg t (pl + 1) - 48 = tsg t (pl + 1) - 48 by omega] at h9; exact h9)⟩))))⟩
            have hOl9 := hOo9.add hkq9
            have hmn9 : mn + 1 = if (rdW t pl).1 = true then mn + 1 else mn := by rw [hrd9]; rfl
            refine W.widen (k := 2) (n := 22) (by omega) (by omega) ?_
            exact kx_vret hx hb hr hlk (⟨(mn + 1), ((kupq go mn (some z_655))), H_673.size, hfin, h_677, hOl9, by exact hmn9, by exact ⟨by omega, Nat.le_refl _⟩⟩) hS_675 dX9_order_281
      · -- none
        have hrd9 : rdW t pl = (false, pl + 1, tsg t (pl + 1) - 48, 0) := by rw [rd_1 (Or.inr (Or.inl hl9)), rdW.rdOne, if_neg (by unfold tx_numOK; omega)]
        refine lv_aload_n hx hb dX9_order_0 rfl (lv_at hl 0 rfl) ?_
        refine kx_ci0 (va_runV (As := []) (rest := []) ⟨hx, hb, hml, hown, hts⟩ (m_sgn l D s.heap rd pl false oa mn x1 st snp hi bu vb ml cap g t hO_rd hO_x1 hO_bu hA_vb (by first | assumption | omega) (by first | assumption | omega) (by first | assumption | omega) (by first | assumption | omega) (by first | assumption | omega)) (cwV 0 hts (lw_V q1566 q1568 qs20 q125 q1569) rfl rfl rfl (by decide +kernel) ⟨Nat.le_of_ble_eq_true rfl, Nat.le_of_ble_eq_true rfl⟩) (kx_pv hK hS hB (kx_rc hK hO_rd (C := RX9) (T := TX9) (N := 5) rfl)) rfl rfl hl.1 rfl (lv_room (Nat.le_of_ble_eq_true rfl)) dX9_order_1 ⟨by first | exact Nat.le_of_ble_eq_true rfl | omega | (show _ ≤ _; omega) | (dsimp only [headSpec]; omega), by first | exact Nat.le_of_ble_eq_true rfl | omega | (show _ ≤ _; omega) | (dsimp only [headSpec]; omega)⟩) hS (fun z_683 locs_680 hz_682 hS_681 => ?_)
        subst z_683
        refine lv_istore_n (lv' := [(1, .int (kI (csg t pl))), (0, .ref rd)]) hx hb dX9_order_4 rfl hl (by decide) rfl (fun ls hl => ?_)
        refine lv_aload_n hx hb dX9_order_5 rfl (lv_at hl 1 rfl) ?_
        refine lv_dup hx hb dX9_order_6 rfl ?_
        refine kx_get (v := .int (kI ((pl : Nat) : Int))) (C := RX9) (T := TX9) (N := 5) hx hb hts in_X9 hown hK hO_rd rfl 0 (by decide) q1541 (fun _ h9 => h9) rfl dX9_order_7 ?_
        obtain ⟨hv_684, zv_685, hL_686⟩ := kK.ltO hK hS_681 hB
        refine va_ldcS hx hb hown hK.sLt dX9_order_10 ?_
        refine lv_iload_n hx hb dX9_order_12 rfl (lv_at hl 0 rfl) ?_
        refine kx_ci0 (va_runV (As := [.int (kI (csg t pl))]) (rest := [.int (kI ((pl : Nat) : Int)), .ref rd]) ⟨hx, hb, hml, hown, hts⟩ (m_J6_indexOf l D s.heap (csg t pl) hv_684 zv_685 hL_686 (by first | assumption | omega)) (cwV 1 hts (lw_V q1585 q1586 q1587 q87 q1588) rfl rfl rfl (by decide +kernel) ⟨Nat.le_of_ble_eq_true rfl, Nat.le_of_ble_eq_true rfl⟩) (kx_pv hK hS_681 hB (kx_rc hK hL_686 (C := RJ6) (T := TJ6) (N := 4) rfl)) rfl rfl hl.1 rfl (lv_room (Nat.le_of_ble_eq_true rfl)) dX9_order_13 ⟨by first | exact Nat.le_of_ble_eq_true rfl | omega | (show _ ≤ _; omega) | (dsimp only [headSpec]; omega), by first | exact Nat.le_of_ble_eq_true rfl | omega | (show _ ≤ _; omega) | (dsimp only [headSpec]; omega)⟩) hS_681 (fun z_690 locs_687 hz_689 hS_688 => ?_)
        subst z_690
        refine kx_if_lt (x := lt_ix (csg t pl)) (tgt := 23) hx hb dX9_order_16 (by decide) (by have := lt_ix_rng (csg t pl); omega) (by have := lt_ix_rng (csg t pl); omega) (fun c_16_691 => ?_) (fun c_16_691 => ?_)
        · -- taken at 16
          exfalso; have := lt_ix_in hL0; omega
        · -- not taken at 16
          refine kx_iconst hx hb dX9_order_19 ?_
          refine lv_goto (tgt := 24) hx hb dX9_order_20 (by decide) ?_
          refine kx_iadd hx hb dX9_order_24 ?_
          refine kx_eqi (((pl + 1 : Nat) : Int)) (by omega) ?_
          refine kx_put (v := .int (kI ((pl + 1 : Nat) : Int))) (C := RX9) (T := TX9) (N := 5) hx hb hts in_X9 hown hK hO_rd rfl 0 (by decide) tyX9 tyX9_ok nmX9 hS_688 (by first | rfl | exact Or.inl rfl | exact Or.inr rfl | exact Or.inr (Or.inl rfl) | exact Or.inr (Or.inr rfl) | exact Or.inr (Or.inr (Or.inl rfl)) | exact Or.inr (Or.inr (Or.inr rfl)) | ((try dsimp only); (try simp only [kNW]); omega)) q1541 (fun _ h9 => h9) rfl rfl rfl rfl (Nat.le_of_ble_eq_true rfl) dX9_order_25 (fun H_694 locs_695 hO_693 hU_692 hS_696 => ?_)
          have hO_693 : kO D H_694 rd 8 [.int (kI ((pl + 1 : Nat) : Int)), .int (kI (kb (false))), .ref oa, .int (kI ((mn : Nat) : Int)), .ref x1] := hO_693
          have hzu_697 := hU_692.1
          refine lv_null hx hb dX9_order_28 ?_
          refine lv_astore_nN (lv' := [(2, .null), (1, .int (kI (csg t pl))), (0, .ref rd)]) hx hb dX9_order_29 rfl hl (by decide) rfl (fun ls hl => ?_)
          refine lv_iload_n hx hb dX9_order_30 rfl (lv_at hl 1 rfl) ?_
          refine kx_eqi (117) (hlt) ?_
          refine lv_tableIn (off := 164) (tgt := 195) hx hb dX9_order_31 (by decide) (by decide) (by decide) (by decide) ?_
          refine lv_aload_n hx hb dX9_order_195 rfl (lv_at hl 2 rfl) ?_
          refine lv_aload_n hx hb dX9_order_196 rfl (lv_at hl 2 rfl) ?_
          refine kx_iconst hx hb dX9_order_197 ?_
          refine kx_bipush hx hb (by decide) dX9_order_198 ?_
          have h_698 := hO_x1.up hU_692 (by first | assumption | exact Ne.symm (by assumption)  | omega | (have h9 := hO_x1.lt; omega))
          have h_699 := hO_bu.up hU_692 (by first | assumption | exact Ne.symm (by assumption)  | omega | (have h9 := hO_bu.lt; omega))
          have h_700 := hA_vb.up hU_692 (by first | assumption | exact Ne.symm (by assumption)  | omega | (have h9 := hA_vb.lt; omega))
          refine kx_ci (va_runV (As := [.int (kI (0)), .int (kI (7))]) (rest := [.ref rd]) ⟨hx, hb, hml, hown, hts⟩ (m_dig_n l D H_694 rd (pl + 1) false oa mn x1 st snp hi bu vb ml cap g t 0 7 hO_693 h_698 h_699 h_700 (by first | assumption | omega) (by first | assumption | omega) (by first | assumption | omega) (by first | assumption | omega) (by first | assumption | omega) ((by omega)) ((by omega)) bs_rd ((Or.inr hd1))) (cwV 2 hts (lw_V q1637 q1639 qs22 q125 q1640) rfl rfl rfl (by decide +kernel) ⟨Nat.le_of_ble_eq_true rfl, Nat.le_of_ble_eq_true rfl⟩) (kx_pv hK hS_696 hB (kx_rc hK hO_693 (C := RX9) (T := TX9) (N := 5) rfl)) rfl rfl hl.1 rfl (lv_room (Nat.le_of_ble_eq_true rfl)) dX9_order_200 ⟨by first | exact Nat.le_of_ble_eq_true rfl | omega | (show _ ≤ _; omega) | (dsimp only [headSpec]; omega), by first | exact Nat.le_of_ble_eq_true rfl | omega | (show _ ≤ _; omega) | (dsimp only [headSpec]; omega)⟩) hS_696 (fun q _ h => by have h9 := hS_696.1; (try dsimp only at h); (try dsimp only); (try simp only [kNW] at h); (try simp only [kNW]); omega) (fun q h => by have h9 := hS_696.1; (try dsimp only at h); (try dsimp only); (try simp only [kNW] at h); (try simp only [kNW]); omega) (fun z_706 H_704 locs_701 hz_703 hF_705 hS_702 => ?_)
          have hzf_707 := hF_705.1
          refine W.widen (k := 0) (n := 0) (Nat.le_of_ble_eq_true rfl) (Nat.le_of_ble_eq_true rfl) ?_
          obtain ⟨hv_708, ho_709⟩ := hz_703
          subst z_706
          refine kx_cr (va_runV (As := [.int (kI ((csg t (pl + 1) - 48)))]) (rest := []) ⟨hx, hb, hml, hown, hts⟩ (m_X9_unlabelling l D H_704 rd ((csg t (pl + 1) - 48))  ) (cwV 1 hts (lw_V q1771 q1773 qs32 q125 q1774) rfl rfl rfl (by decide +kernel) ⟨Nat.le_of_ble_eq_true rfl, Nat.le_of_ble_eq_true rfl⟩) (kx_pv hK hS_702 hB (kx_rc hK ho_709 (C := RX9) (T := TX9) (N := 5) rfl)) rfl rfl hl.1 rfl (lv_room (Nat.le_of_ble_eq_true rfl)) dX9_order_203 ⟨by first | exact Nat.le_of_ble_eq_true rfl | omega | (show _ ≤ _; omega) | (dsimp only [headSpec]; omega), by first | exact Nat.le_of_ble_eq_true rfl | omega | (show _ ≤ _; omega) | (dsimp only [headSpec]; omega)⟩) hS_702 (fun q _ h => Or.inr (Or.inr (by (try dsimp only at h); (try simp only [kNW] at h); omega))) (fun q h => Or.inr (Or.inr (by (try dsimp only at h); (try simp only [kNW] at h); omega))) (fun z_715 H_713 locs_710 hz_712 hF_714 hS_711 => ?_)
          have hzf_716 := hF_714.1
          have hF_714 := hF_714.nw
          refine W.widen (k := 1) (n := 1) (Nat.le_of_ble_eq_true rfl) (Nat.le_of_ble_eq_true rfl) ?_
          obtain ⟨ho_717, hnew_718⟩ := hz_712
          refine lv_astore_n (lv' := [(2, .ref z_715), (1, .int (kI (csg t pl))), (0, .ref rd)]) hx hb dX9_order_206 rfl hl (by decide) rfl (fun ls hl => ?_)
          refine lv_goto (tgt := 254) hx hb dX9_order_207 (by decide) ?_
          refine lv_aload_n hx hb dX9_order_254 rfl (lv_at hl 2 rfl) ?_
          have h_719 := ho_709.ex hF_714
          refine kx_get (v := .int (kI (kb (true)))) (C := RX9) (T := TX9) (N := 5) hx hb hts in_X9 hown hK h_719 rfl 1 (by decide) q1543 (fun _ h9 => h9) rfl dX9_order_255 ?_
          refine kx_ifnz (tgt := 281) hx hb dX9_order_258 (by decide) (fun c_258_720 => ?_) (fun c_258_720 => ?_)
          · -- taken at 258
            have h_721 := hA_oa.up hU_692 (by first | assumption | exact Ne.symm (by assumption)  | omega | (have h9 := hA_oa.lt; omega))
            have h_722 := h_721.fr hF_705 (fun h => by (try dsimp only at h); (try simp only [kNW] at h); omega)
            have h_723 := h_722.ex hF_714
            have hOo9 : kOl D H_713 b0 H_713.size go mn t := (hP_kOl_b0.fr (va_S.toFr hS_711) (fun x hx => by rcases hx with z | z | z <;> omega)).mono (by omega)
            have hfin : kO D H_713 rd 8 [.int (kI (((rdW t pl).2.1 : Nat) : Int)), .int (kI (kb (!(rdW t pl).1))), .ref oa, .int (kI ((mn : Nat) : Int)), .ref x1] := by rw [hrd9]; exact h_719
            have hmn9 : mn = if (rdW t pl).1 = true then mn + 1 else mn := by rw [hrd9]; rfl
            refine W.widen (k := 2) (n := 22) (by omega) (by omega) ?_
            exact kx_vret hx hb hr hlk (⟨mn, go, H_713.size, hfin, h_723, hOo9, by exact hmn9, by exact ⟨by omega, Nat.le_refl _⟩⟩) hS_711 dX9_order_281
          · -- not taken at 258
            first | exact absurd c_258_720 (by decide) | exact Bool.noConfusion c_258_720 | (simp at c_258_720; done)
    · -- b
      have hl9 : tsg t pl = 98 := by omega
      by_cases hd1 : 0 ≤ csg t (pl + 1) - 48 ∧ csg t (pl + 1) - 48 ≤ 7
      · -- one
        have hrd9 : rdW t pl = (true, pl + 1 + 1, tsg t (pl + 1) - 48, 0) := by rw [rd_1 (Or.inr (Or.inr hl9)), rdW.rdOne, if_pos (by unfold tx_numOK; omega), tx_num_1 (by omega) (by omega) hrs9]
        refine lv_aload_n hx hb dX9_order_0 rfl (lv_at hl 0 rfl) ?_
        refine kx_ci0 (va_runV (As := []) (rest := []) ⟨hx, hb, hml, hown, hts⟩ (m_sgn l D s.heap rd pl false oa mn x1 st snp hi bu vb ml cap g t hO_rd hO_x1 hO_bu hA_vb (by first | assumption | omega) (by first | assumption | omega) (by first | assumption | omega) (by first | assumption | omega) (by first | assumption | omega)) (cwV 0 hts (lw_V q1566 q1568 qs20 q125 q1569) rfl rfl rfl (by decide +kernel) ⟨Nat.le_of_ble_eq_true rfl, Nat.le_of_ble_eq_true rfl⟩) (kx_pv hK hS hB (kx_rc hK hO_rd (C := RX9) (T := TX9) (N := 5) rfl)) rfl rfl hl.1 rfl (lv_room (Nat.le_of_ble_eq_true rfl)) dX9_order_1 ⟨by first | exact Nat.le_of_ble_eq_true rfl | omega | (show _ ≤ _; omega) | (dsimp only [headSpec]; omega), by first | exact Nat.le_of_ble_eq_true rfl | omega | (show _ ≤ _; omega) | (dsimp only [headSpec]; omega)⟩) hS (fun z_727 locs_724 hz_726 hS_725 => ?_)
        subst z_727
        refine lv_istore_n (lv' := [(1, .int (kI (csg t pl))), (0, .ref rd)]) hx hb dX9_order_4 rfl hl (by decide) rfl (fun ls hl => ?_)
        refine lv_aload_n hx hb dX9_order_5 rfl (lv_at hl 1 rfl) ?_
        refine lv_dup hx hb dX9_order_6 rfl ?_
        refine kx_get (v := .int (kI ((pl : Nat) : Int))) (C := RX9) (T := TX9) (N := 5) hx hb hts in_X9 hown hK hO_rd rfl 0 (by decide) q1541 (fun _ h9 => h9) rfl dX9_order_7 ?_
        obtain ⟨hv_728, zv_729, hL_730⟩ := kK.ltO hK hS_725 hB
        refine va_ldcS hx hb hown hK.sLt dX9_order_10 ?_
        refine lv_iload_n hx hb dX9_order_12 rfl (lv_at hl 0 rfl) ?_
        refine kx_ci0 (va_runV (As := [.int (kI (csg t pl))]) (rest := [.int (kI ((pl : Nat) : Int)), .ref rd]) ⟨hx, hb, hml, hown, hts⟩ (m_J6_indexOf l D s.heap (csg t pl) hv_728 zv_729 hL_730 (by first | assumption | omega)) (cwV 1 hts (lw_V q1585 q1586 q1587 q87 q1588) rfl rfl rfl (by decide +kernel) ⟨Nat.le_of_ble_eq_true rfl, Nat.le_of_ble_eq_true rfl⟩) (kx_pv hK hS_725 hB (kx_rc hK hL_730 (C := RJ6) (T := TJ6) (N := 4) rfl)) rfl rfl hl.1 rfl (lv_room (Nat.le_of_ble_eq_true rfl)) dX9_order_13 ⟨by first | exact Nat.le_of_ble_eq_true rfl | omega | (show _ ≤ _; omega) | (dsimp only [headSpec]; omega), by first | exact Nat.le_of_ble_eq_true rfl | omega | (show _ ≤ _; omega) | (dsimp only [headSpec]; omega)⟩) hS_725 (fun z_734 locs_731 hz_733 hS_732 => ?_)
        subst z_734
        refine kx_if_lt (x := lt_ix (csg t pl)) (tgt := 23) hx hb dX9_order_16 (by decide) (by have := lt_ix_rng (csg t pl); omega) (by have := lt_ix_rng (csg t pl); omega) (fun c_16_735 => ?_) (fun c_16_735 => ?_)
        · -- taken at 16
          exfalso; have := lt_ix_in hL0; omega
        · -- not taken at 16
          refine kx_iconst hx hb dX9_order_19 ?_
          refine lv_goto (tgt := 24) hx hb dX9_order_20 (by decide) ?_
          refine kx_iadd hx hb dX9_order_24 ?_
          refine kx_eqi (((pl + 1 : Nat) : Int)) (by omega) ?_
          refine kx_put (v := .int (kI ((pl + 1 : Nat) : Int))) (C := RX9) (T := TX9) (N := 5) hx hb hts in_X9 hown hK hO_rd rfl 0 (by decide) tyX9 tyX9_ok nmX9 hS_732 (by first | rfl | exact Or.inl rfl | exact Or.inr rfl | exact Or.inr (Or.inl rfl) | exact Or.inr (Or.inr rfl) | exact Or.inr (Or.inr (Or.inl rfl)) | exact Or.inr (Or.inr (Or.inr rfl)) | ((try dsimp only); (try simp only [kNW]); omega)) q1541 (fun _ h9 => h9) rfl rfl rfl rfl (Nat.le_of_ble_eq_true rfl) dX9_order_25 (fun H_738 locs_739 hO_737 hU_736 hS_740 => ?_)
          have hO_737 : kO D H_738 rd 8 [.int (kI ((pl + 1 : Nat) : Int)), .int (kI (kb (false))), .ref oa, .int (kI ((mn : Nat) : Int)), .ref x1] := hO_737
          have hzu_741 := hU_736.1
          refine lv_null hx hb dX9_order_28 ?_
          refine lv_astore_nN (lv' := [(2, .null), (1, .int (kI (csg t pl))), (0, .ref rd)]) hx hb dX9_order_29 rfl hl (by decide) rfl (fun ls hl => ?_)
          refine lv_iload_n hx hb dX9_order_30 rfl (lv_at hl 1 rfl) ?_
          refine kx_eqi (98) (hlt) ?_
          refine lv_tableIn (off := 179) (tgt := 210) hx hb dX9_order_31 (by decide) (by decide) (by decide) (by decide) ?_
          refine lv_aload_n hx hb dX9_order_210 rfl (lv_at hl 2 rfl) ?_
          refine lv_aload_n hx hb dX9_order_211 rfl (lv_at hl 2 rfl) ?_
          refine kx_iconst hx hb dX9_order_212 ?_
          refine kx_bipush hx hb (by decide) dX9_order_213 ?_
          have h_742 := hO_x1.up hU_736 (by first | assumption | exact Ne.symm (by assumption)  | omega | (have h9 := hO_x1.lt; omega))
          have h_743 := hO_bu.up hU_736 (by first | assumption | exact Ne.symm (by assumption)  | omega | (have h9 := hO_bu.lt; omega))
          have h_744 := hA_vb.up hU_736 (by first | assumption | exact Ne.symm (by assumption)  | omega | (have h9 := hA_vb.lt; omega))
          refine kx_ci (va_runV (As := [.int (kI (0)), .int (kI (7))]) (rest := [.ref rd]) ⟨hx, hb, hml, hown, hts⟩ (m_dig_y l D H_738 rd (pl + 1) oa mn x1 st snp hi bu vb ml cap g t 0 7 hO_737 h_742 h_743 h_744 (by first | assumption | omega) (by first | assumption | omega) (by first | assumption | omega) (by first | assumption | omega) (by first | assumption | omega) ((by omega)) ((by omega)) bs_rd hd1) (cwV 2 hts (lw_V q1637 q1639 qs22 q125 q1640) rfl rfl rfl (by decide +kernel) ⟨Nat.le_of_ble_eq_true rfl, Nat.le_of_ble_eq_true rfl⟩) (kx_pv hK hS_740 hB (kx_rc hK hO_737 (C := RX9) (T := TX9) (N := 5) rfl)) rfl rfl hl.1 rfl (lv_room (Nat.le_of_ble_eq_true rfl)) dX9_order_215 ⟨by first | exact Nat.le_of_ble_eq_true rfl | omega | (show _ ≤ _; omega) | (dsimp only [headSpec]; omega), by first | exact Nat.le_of_ble_eq_true rfl | omega | (show _ ≤ _; omega) | (dsimp only [headSpec]; omega)⟩) hS_740 (fun q _ h => by have h9 := hS_740.1; (try dsimp only at h); (try dsimp only); (try simp only [kNW] at h); (try simp only [kNW]); omega) (fun q h => by have h9 := hS_740.1; (try dsimp only at h); (try dsimp only); (try simp only [kNW] at h); (try simp only [kNW]); omega) (fun z_750 H_748 locs_745 hz_747 hF_749 hS_746 => ?_)
          have hzf_751 := hF_749.1
          refine W.widen (k := 0) (n := 0) (Nat.le_of_ble_eq_true rfl) (Nat.le_of_ble_eq_true rfl) ?_
          obtain ⟨hv_752, ho_753⟩ := hz_747
          subst z_750
          refine kx_cr (va_runV (As := [.int (kI ((csg t (pl + 1) - 48)))]) (rest := []) ⟨hx, hb, hml, hown, hts⟩ (m_X9_labellingBest l D H_748 rd ((csg t (pl + 1) - 48))  ) (cwV 1 hts (lw_V q1781 q1783 qs33 q125 q1784) rfl rfl rfl (by decide +kernel) ⟨Nat.le_of_ble_eq_true rfl, Nat.le_of_ble_eq_true rfl⟩) (kx_pv hK hS_746 hB (kx_rc hK ho_753 (C := RX9) (T := TX9) (N := 5) rfl)) rfl rfl hl.1 rfl (lv_room (Nat.le_of_ble_eq_true rfl)) dX9_order_218 ⟨by first | exact Nat.le_of_ble_eq_true rfl | omega | (show _ ≤ _; omega) | (dsimp only [headSpec]; omega), by first | exact Nat.le_of_ble_eq_true rfl | omega | (show _ ≤ _; omega) | (dsimp only [headSpec]; omega)⟩) hS_746 (fun q _ h => Or.inr (Or.inr (by (try dsimp only at h); (try simp only [kNW] at h); omega))) (fun q h => Or.inr (Or.inr (by (try dsimp only at h); (try simp only [kNW] at h); omega))) (fun z_759 H_757 locs_754 hz_756 hF_758 hS_755 => ?_)
          have hzf_760 := hF_758.1
          have hF_758 := hF_758.nw
          refine W.widen (k := 1) (n := 1) (Nat.le_of_ble_eq_true rfl) (Nat.le_of_ble_eq_true rfl) ?_
          obtain ⟨ho_761, hnew_762⟩ := hz_756
          refine lv_astore_n (lv' := [(2, .ref z_759), (1, .int (kI (csg t pl))), (0, .ref rd)]) hx hb dX9_order_221 rfl hl (by decide) rfl (fun ls hl => ?_)
          refine lv_goto (tgt := 254) hx hb dX9_order_222 (by decide) ?_
          refine lv_aload_n hx hb dX9_order_254 rfl (lv_at hl 2 rfl) ?_
          have h_763 := ho_753.ex hF_758
          refine kx_get (v := .int (kI (kb (false)))) (C := RX9) (T := TX9) (N := 5) hx hb hts in_X9 hown hK h_763 rfl 1 (by decide) q1543 (fun _ h9 => h9) rfl dX9_order_255 ?_
          refine kx_ifnz (tgt := 281) hx hb dX9_order_258 (by decide) (fun c_258_764 => ?_) (fun c_258_764 => ?_)
          · -- taken at 258
            first | exact absurd c_258_764 (by decide) | exact Bool.noConfusion c_258_764 | (simp at c_258_764; done)
          · -- not taken at 258
            refine lv_aload_n hx hb dX9_order_261 rfl (lv_at hl 2 rfl) ?_
            refine kx_get (v := .ref oa) (C := RX9) (T := TX9) (N := 5) hx hb hts in_X9 hown hK h_763 rfl 2 (by decide) q1544 (fun _ h9 => h9) rfl dX9_order_262 ?_
            refine lv_aload_n hx hb dX9_order_265 rfl (lv_at hl 2 rfl) ?_
            refine kx_get (v := .int (kI ((mn : Nat) : Int))) (C := RX9) (T := TX9) (N := 5) hx hb hts in_X9 hown hK h_763 rfl 3 (by decide) q1545 (fun _ h9 => h9) rfl dX9_order_266 ?_
            refine lv_aload_n hx hb dX9_order_269 rfl (lv_at hl 0 rfl) ?_
            have h_765 := hA_oa.up hU_736 (by first | assumption | exact Ne.symm (by assumption)  | omega | (have h9 := hA_oa.lt; omega))
            have h_766 := h_765.fr hF_749 (fun h => by (try dsimp only at h); (try simp only [kNW] at h); omega)
            have h_767 := h_766.ex hF_758
            refine kx_aastL hx hb hK (t := 6) rfl h_767 hS_755 (by first | rfl | exact Or.inl rfl | exact Or.inr rfl | exact Or.inr (Or.inl rfl) | exact Or.inr (Or.inr rfl) | exact Or.inr (Or.inr (Or.inl rfl)) | exact Or.inr (Or.inr (Or.inr rfl)) | ((try dsimp only); (try simp only [kNW]); omega)) mn (rfl) (by omega) (by omega) ho_761 (q := _) rfl rfl dX9_order_270 (fun H_770 locs_771 hA_769 hU_768 hS_772 => ?_)
            have hzu_773 := hU_768.1
            refine lv_aload_n hx hb dX9_order_271 rfl (lv_at hl 2 rfl) ?_
            refine lv_dup hx hb dX9_order_272 rfl ?_
            have h_774 := h_763.up hU_768 (by first | assumption | exact Ne.symm (by assumption)  | omega | (have h9 := h_763.lt; omega))
            refine kx_get (v := .int (kI ((mn : Nat) : Int))) (C := RX9) (T := TX9) (N := 5) hx hb hts in_X9 hown hK h_774 rfl 3 (by decide) q1545 (fun _ h9 => h9) rfl dX9_order_273 ?_
            refine kx_iconst hx hb dX9_order_276 ?_
            refine kx_iadd hx hb dX9_order_277 ?_
            refine kx_eqi (((mn + 1 : Nat) : Int)) (by omega) ?_
            refine kx_put (v := .int (kI ((mn + 1 : Nat) : Int))) (C := RX9) (T := TX9) (N := 5) hx hb hts in_X9 hown hK h_774 rfl 3 (by decide) tyX9 tyX9_ok nmX9 hS_772 (by first | rfl | exact Or.inl rfl | exact Or.inr rfl | exact Or.inr (Or.inl rfl) | exact Or.inr (Or.inr rfl) | exact Or.inr (Or.inr (Or.inl rfl)) | exact Or.inr (Or.inr (Or.inr rfl)) | ((try dsimp only); (try simp only [kNW]); omega)) q1545 (fun _ h9 => h9) rfl rfl rfl rfl (Nat.le_of_ble_eq_true rfl) dX9_order_278 (fun H_777 locs_778 hO_776 hU_775 hS_779 => ?_)
            have hO_776 : kO D H_777 rd 8 [.int (kI (((pl + 1) + 1 : Nat) : Int)), .int (kI (kb (false))), .ref oa, .int (kI ((mn + 1 : Nat) : Int)), .ref x1] := hO_776
            have hzu_780 := hU_775.1
            have h_781 := hA_769.up hU_775 (by first | assumption | exact Ne.symm (by assumption)  | omega | (have h9 := hA_769.lt; omega))
            have hOo9 : kOl D H_777 b0 H_777.size go mn t := (hP_kOl_b0.fr (va_S.toFr hS_779) (fun x hx => by rcases hx with z | z | z <;> omega)).mono (by omega)
            have hfin : kO D H_777 rd 8 [.int (kI (((rdW t pl).2.1 : Nat) : Int)), .int (kI (kb (!(rdW t pl).1))), .ref oa, .int (kI ((mn + 1 : Nat) : Int)), .ref x1] := by rw [hrd9]; exact hO_776
            have h_782 := ho_761.up hU_768 (by first | assumption | exact Ne.symm (by assumption)  | omega | (have h9 := ho_761.lt; omega))
            have h_783 := h_782.up hU_775 (by first | assumption | exact Ne.symm (by assumption)  | omega | (have h9 := h_782.lt; omega))
            have hkq9 : kOrd D H_777 b0 H_777.size t (opos t mn) z_759 := by rw [← hpo]; exact Or.inr ⟨⟨by omega, by have h9 := h_783.lt; omega⟩, Or.inr (Or.inr (Or.inr (Or.inr (Or.inr (Or.inl ⟨hl9, by rw [hrd9]; exact (by have h9 := h_783; rw [show csg t (pl + 1) - 48 = tsg t (pl + 1) - 48 by omega] at h9; exact h9)⟩)))))⟩
            have hOl9 := hOo9.add hkq9
            have hmn9 : mn + 1 = if (rdW t pl).1 = true then mn + 1 else mn := by rw [hrd9]; rfl
            refine W.widen (k := 2) (n := 22) (by omega) (by omega) ?_
            exact kx_vret hx hb hr hlk (⟨(mn + 1), ((kupq go mn (some z_759))), H_777.size, hfin, h_781, hOl9, by exact hmn9, by exact ⟨by omega, Nat.le_refl _⟩⟩) hS_779 dX9_order_281
      · -- none
        have hrd9 : rdW t pl = (false, pl + 1, tsg t (pl + 1) - 48, 0) := by rw [rd_1 (Or.inr (Or.inr hl9)), rdW.rdOne, if_neg (by unfold tx_numOK; omega)]
        refine lv_aload_n hx hb dX9_order_0 rfl (lv_at hl 0 rfl) ?_
        refine kx_ci0 (va_runV (As := []) (rest := []) ⟨hx, hb, hml, hown, hts⟩ (m_sgn l D s.heap rd pl false oa mn x1 st snp hi bu vb ml cap g t hO_rd hO_x1 hO_bu hA_vb (by first | assumption | omega) (by first | assumption | omega) (by first | assumption | omega) (by first | assumption | omega) (by first | assumption | omega)) (cwV 0 hts (lw_V q1566 q1568 qs20 q125 q1569) rfl rfl rfl (by decide +kernel) ⟨Nat.le_of_ble_eq_true rfl, Nat.le_of_ble_eq_true rfl⟩) (kx_pv hK hS hB (kx_rc hK hO_rd (C := RX9) (T := TX9) (N := 5) rfl)) rfl rfl hl.1 rfl (lv_room (Nat.le_of_ble_eq_true rfl)) dX9_order_1 ⟨by first | exact Nat.le_of_ble_eq_true rfl | omega | (show _ ≤ _; omega) | (dsimp only [headSpec]; omega), by first | exact Nat.le_of_ble_eq_true rfl | omega | (show _ ≤ _; omega) | (dsimp only [headSpec]; omega)⟩) hS (fun z_787 locs_784 hz_786 hS_785 => ?_)
        subst z_787
        refine lv_istore_n (lv' := [(1, .int (kI (csg t pl))), (0, .ref rd)]) hx hb dX9_order_4 rfl hl (by decide) rfl (fun ls hl => ?_)
        refine lv_aload_n hx hb dX9_order_5 rfl (lv_at hl 1 rfl) ?_
        refine lv_dup hx hb dX9_order_6 rfl ?_
        refine kx_get (v := .int (kI ((pl : Nat) : Int))) (C := RX9) (T := TX9) (N := 5) hx hb hts in_X9 hown hK hO_rd rfl 0 (by decide) q1541 (fun _ h9 => h9) rfl dX9_order_7 ?_
        obtain ⟨hv_788, zv_789, hL_790⟩ := kK.ltO hK hS_785 hB
        refine va_ldcS hx hb hown hK.sLt dX9_order_10 ?_
        refine lv_iload_n hx hb dX9_order_12 rfl (lv_at hl 0 rfl) ?_
        refine kx_ci0 (va_runV (As := [.int (kI (csg t pl))]) (rest := [.int (kI ((pl : Nat) : Int)), .ref rd]) ⟨hx, hb, hml, hown, hts⟩ (m_J6_indexOf l D s.heap (csg t pl) hv_788 zv_789 hL_790 (by first | assumption | omega)) (cwV 1 hts (lw_V q1585 q1586 q1587 q87 q1588) rfl rfl rfl (by decide +kernel) ⟨Nat.le_of_ble_eq_true rfl, Nat.le_of_ble_eq_true rfl⟩) (kx_pv hK hS_785 hB (kx_rc hK hL_790 (C := RJ6) (T := TJ6) (N := 4) rfl)) rfl rfl hl.1 rfl (lv_room (Nat.le_of_ble_eq_true rfl)) dX9_order_13 ⟨by first | exact Nat.le_of_ble_eq_true rfl | omega | (show _ ≤ _; omega) | (dsimp only [headSpec]; omega), by first | exact Nat.le_of_ble_eq_true rfl | omega | (show _ ≤ _; omega) | (dsimp only [headSpec]; omega)⟩) hS_785 (fun z_794 locs_791 hz_793 hS_792 => ?_)
        subst z_794
        refine kx_if_lt (x := lt_ix (csg t pl)) (tgt := 23) hx hb dX9_order_16 (by decide) (by have := lt_ix_rng (csg t pl); omega) (by have := lt_ix_rng (csg t pl); omega) (fun c_16_795 => ?_) (fun c_16_795 => ?_)
        · -- taken at 16
          exfalso; have := lt_ix_in hL0; omega
        · -- not taken at 16
          refine kx_iconst hx hb dX9_order_19 ?_
          refine lv_goto (tgt := 24) hx hb dX9_order_20 (by decide) ?_
          refine kx_iadd hx hb dX9_order_24 ?_
          refine kx_eqi (((pl + 1 : Nat) : Int)) (by omega) ?_
          refine kx_put (v := .int (kI ((pl + 1 : Nat) : Int))) (C := RX9) (T := TX9) (N := 5) hx hb hts in_X9 hown hK hO_rd rfl 0 (by decide) tyX9 tyX9_ok nmX9 hS_792 (by first | rfl | exact Or.inl rfl | exact Or.inr rfl | exact Or.inr (Or.inl rfl) | exact Or.inr (Or.inr rfl) | exact Or.inr (Or.inr (Or.inl rfl)) | exact Or.inr (Or.inr (Or.inr rfl)) | ((try dsimp only); (try simp only [kNW]); omega)) q1541 (fun _ h9 => h9) rfl rfl rfl rfl (Nat.le_of_ble_eq_true rfl) dX9_order_25 (fun H_798 locs_799 hO_797 hU_796 hS_800 => ?_)
          have hO_797 : kO D H_798 rd 8 [.int (kI ((pl + 1 : Nat) : Int)), .int (kI (kb (false))), .ref oa, .int (kI ((mn : Nat) : Int)), .ref x1] := hO_797
          have hzu_801 := hU_796.1
          refine lv_null hx hb dX9_order_28 ?_
          refine lv_astore_nN (lv' := [(2, .null), (1, .int (kI (csg t pl))), (0, .ref rd)]) hx hb dX9_order_29 rfl hl (by decide) rfl (fun ls hl => ?_)
          refine lv_iload_n hx hb dX9_order_30 rfl (lv_at hl 1 rfl) ?_
          refine kx_eqi (98) (hlt) ?_
          refine lv_tableIn (off := 179) (tgt := 210) hx hb dX9_order_31 (by decide) (by decide) (by decide) (by decide) ?_
          refine lv_aload_n hx hb dX9_order_210 rfl (lv_at hl 2 rfl) ?_
          refine lv_aload_n hx hb dX9_order_211 rfl (lv_at hl 2 rfl) ?_
          refine kx_iconst hx hb dX9_order_212 ?_
          refine kx_bipush hx hb (by decide) dX9_order_213 ?_
          have h_802 := hO_x1.up hU_796 (by first | assumption | exact Ne.symm (by assumption)  | omega | (have h9 := hO_x1.lt; omega))
          have h_803 := hO_bu.up hU_796 (by first | assumption | exact Ne.symm (by assumption)  | omega | (have h9 := hO_bu.lt; omega))
          have h_804 := hA_vb.up hU_796 (by first | assumption | exact Ne.symm (by assumption)  | omega | (have h9 := hA_vb.lt; omega))
          refine kx_ci (va_runV (As := [.int (kI (0)), .int (kI (7))]) (rest := [.ref rd]) ⟨hx, hb, hml, hown, hts⟩ (m_dig_n l D H_798 rd (pl + 1) false oa mn x1 st snp hi bu vb ml cap g t 0 7 hO_797 h_802 h_803 h_804 (by first | assumption | omega) (by first | assumption | omega) (by first | assumption | omega) (by first | assumption | omega) (by first | assumption | omega) ((by omega)) ((by omega)) bs_rd ((Or.inr hd1))) (cwV 2 hts (lw_V q1637 q1639 qs22 q125 q1640) rfl rfl rfl (by decide +kernel) ⟨Nat.le_of_ble_eq_true rfl, Nat.le_of_ble_eq_true rfl⟩) (kx_pv hK hS_800 hB (kx_rc hK hO_797 (C := RX9) (T := TX9) (N := 5) rfl)) rfl rfl hl.1 rfl (lv_room (Nat.le_of_ble_eq_true rfl)) dX9_order_215 ⟨by first | exact Nat.le_of_ble_eq_true rfl | omega | (show _ ≤ _; omega) | (dsimp only [headSpec]; omega), by first | exact Nat.le_of_ble_eq_true rfl | omega | (show _ ≤ _; omega) | (dsimp only [headSpec]; omega)⟩) hS_800 (fun q _ h => by have h9 := hS_800.1; (try dsimp only at h); (try dsimp only); (try simp only [kNW] at h); (try simp only [kNW]); omega) (fun q h => by have h9 := hS_800.1; (try dsimp only at h); (try dsimp only); (try simp only [kNW] at h); (try simp only [kNW]); omega) (fun z_810 H_808 locs_805 hz_807 hF_809 hS_806 => ?_)
          have hzf_811 := hF_809.1
          refine W.widen (k := 0) (n := 0) (Nat.le_of_ble_eq_true rfl) (Nat.le_of_ble_eq_true rfl) ?_
          obtain ⟨hv_812, ho_813⟩ := hz_807
          subst z_810
          refine kx_cr (va_runV (As := [.int (kI ((csg t (pl + 1) - 48)))]) (rest := []) ⟨hx, hb, hml, hown, hts⟩ (m_X9_labellingBest l D H_808 rd ((csg t (pl + 1) - 48))  ) (cwV 1 hts (lw_V q1781 q1783 qs33 q125 q1784) rfl rfl rfl (by decide +kernel) ⟨Nat.le_of_ble_eq_true rfl, Nat.le_of_ble_eq_true rfl⟩) (kx_pv hK hS_806 hB (kx_rc hK ho_813 (C := RX9) (T := TX9) (N := 5) rfl)) rfl rfl hl.1 rfl (lv_room (Nat.le_of_ble_eq_true rfl)) dX9_order_218 ⟨by first | exact Nat.le_of_ble_eq_true rfl | omega | (show _ ≤ _; omega) | (dsimp only [headSpec]; omega), by first | exact Nat.le_of_ble_eq_true rfl | omega | (show _ ≤ _; omega) | (dsimp only [headSpec]; omega)⟩) hS_806 (fun q _ h => Or.inr (Or.inr (by (try dsimp only at h); (try simp only [kNW] at h); omega))) (fun q h => Or.inr (Or.inr (by (try dsimp only at h); (try simp only [kNW] at h); omega))) (fun z_819 H_817 locs_814 hz_816 hF_818 hS_815 => ?_)
          have hzf_820 := hF_818.1
          have hF_818 := hF_818.nw
          refine W.widen (k := 1) (n := 1) (Nat.le_of_ble_eq_true rfl) (Nat.le_of_ble_eq_true rfl) ?_
          obtain ⟨ho_821, hnew_822⟩ := hz_816
          refine lv_astore_n (lv' := [(2, .ref z_819), (1, .int (kI (csg t pl))), (0, .ref rd)]) hx hb dX9_order_221 rfl hl (by decide) rfl (fun ls hl => ?_)
          refine lv_goto (tgt := 254) hx hb dX9_order_222 (by decide) ?_
          refine lv_aload_n hx hb dX9_order_254 rfl (lv_at hl 2 rfl) ?_
          have h_823 := ho_813.ex hF_818
          refine kx_get (v := .int (kI (kb (true)))) (C := RX9) (T := TX9) (N := 5) hx hb hts in_X9 hown hK h_823 rfl 1 (by decide) q1543 (fun _ h9 => h9) rfl dX9_order_255 ?_
          refine kx_ifnz (tgt := 281) hx hb dX9_order_258 (by decide) (fun c_258_824 => ?_) (fun c_258_824 => ?_)
          · -- taken at 258
            have h_825 := hA_oa.up hU_796 (by first | assumption | exact Ne.symm (by assumption)  | omega | (have h9 := hA_oa.lt; omega))
            have h_826 := h_825.fr hF_809 (fun h => by (try dsimp only at h); (try simp only [kNW] at h); omega)
            have h_827 := h_826.ex hF_818
            have hOo9 : kOl D H_817 b0 H_817.size go mn t := (hP_kOl_b0.fr (va_S.toFr hS_815) (fun x hx => by rcases hx with z | z | z <;> omega)).mono (by omega)
            have hfin : kO D H_817 rd 8 [.int (kI (((rdW t pl).2.1 : Nat) : Int)), .int (kI (kb (!(rdW t pl).1))), .ref oa, .int (kI ((mn : Nat) : Int)), .ref x1] := by rw [hrd9]; exact h_823
            have hmn9 : mn = if (rdW t pl).1 = true then mn + 1 else mn := by rw [hrd9]; rfl
            refine W.widen (k := 2) (n := 22) (by omega) (by omega) ?_
            exact kx_vret hx hb hr hlk (⟨mn, go, H_817.size, hfin, h_827, hOo9, by exact hmn9, by exact ⟨by omega, Nat.le_refl _⟩⟩) hS_815 dX9_order_281
          · -- not taken at 258
            first | exact absurd c_258_824 (by decide) | exact Bool.noConfusion c_258_824 | (simp at c_258_824; done)
    · -- a
      have hl9 : tsg t pl = 97 := by omega
      · -- all
        have hrd9 : rdW t pl = (true, pl + 1, ((pl + 1 : Nat) : Int), 0) := rd_a hl9
        refine lv_aload_n hx hb dX9_order_0 rfl (lv_at hl 0 rfl) ?_
        refine kx_ci0 (va_runV (As := []) (rest := []) ⟨hx, hb, hml, hown, hts⟩ (m_sgn l D s.heap rd pl false oa mn x1 st snp hi bu vb ml cap g t hO_rd hO_x1 hO_bu hA_vb (by first | assumption | omega) (by first | assumption | omega) (by first | assumption | omega) (by first | assumption | omega) (by first | assumption | omega)) (cwV 0 hts (lw_V q1566 q1568 qs20 q125 q1569) rfl rfl rfl (by decide +kernel) ⟨Nat.le_of_ble_eq_true rfl, Nat.le_of_ble_eq_true rfl⟩) (kx_pv hK hS hB (kx_rc hK hO_rd (C := RX9) (T := TX9) (N := 5) rfl)) rfl rfl hl.1 rfl (lv_room (Nat.le_of_ble_eq_true rfl)) dX9_order_1 ⟨by first | exact Nat.le_of_ble_eq_true rfl | omega | (show _ ≤ _; omega) | (dsimp only [headSpec]; omega), by first | exact Nat.le_of_ble_eq_true rfl | omega | (show _ ≤ _; omega) | (dsimp only [headSpec]; omega)⟩) hS (fun z_831 locs_828 hz_830 hS_829 => ?_)
        subst z_831
        refine lv_istore_n (lv' := [(1, .int (kI (csg t pl))), (0, .ref rd)]) hx hb dX9_order_4 rfl hl (by decide) rfl (fun ls hl => ?_)
        refine lv_aload_n hx hb dX9_order_5 rfl (lv_at hl 1 rfl) ?_
        refine lv_dup hx hb dX9_order_6 rfl ?_
        refine kx_get (v := .int (kI ((pl : Nat) : Int))) (C := RX9) (T := TX9) (N := 5) hx hb hts in_X9 hown hK hO_rd rfl 0 (by decide) q1541 (fun _ h9 => h9) rfl dX9_order_7 ?_
        obtain ⟨hv_832, zv_833, hL_834⟩ := kK.ltO hK hS_829 hB
        refine va_ldcS hx hb hown hK.sLt dX9_order_10 ?_
        refine lv_iload_n hx hb dX9_order_12 rfl (lv_at hl 0 rfl) ?_
        refine kx_ci0 (va_runV (As := [.int (kI (csg t pl))]) (rest := [.int (kI ((pl : Nat) : Int)), .ref rd]) ⟨hx, hb, hml, hown, hts⟩ (m_J6_indexOf l D s.heap (csg t pl) hv_832 zv_833 hL_834 (by first | assumption | omega)) (cwV 1 hts (lw_V q1585 q1586 q1587 q87 q1588) rfl rfl rfl (by decide +kernel) ⟨Nat.le_of_ble_eq_true rfl, Nat.le_of_ble_eq_true rfl⟩) (kx_pv hK hS_829 hB (kx_rc hK hL_834 (C := RJ6) (T := TJ6) (N := 4) rfl)) rfl rfl hl.1 rfl (lv_room (Nat.le_of_ble_eq_true rfl)) dX9_order_13 ⟨by first | exact Nat.le_of_ble_eq_true rfl | omega | (show _ ≤ _; omega) | (dsimp only [headSpec]; omega), by first | exact Nat.le_of_ble_eq_true rfl | omega | (show _ ≤ _; omega) | (dsimp only [headSpec]; omega)⟩) hS_829 (fun z_838 locs_835 hz_837 hS_836 => ?_)
        subst z_838
        refine kx_if_lt (x := lt_ix (csg t pl)) (tgt := 23) hx hb dX9_order_16 (by decide) (by have := lt_ix_rng (csg t pl); omega) (by have := lt_ix_rng (csg t pl); omega) (fun c_16_839 => ?_) (fun c_16_839 => ?_)
        · -- taken at 16
          exfalso; have := lt_ix_in hL0; omega
        · -- not taken at 16
          refine kx_iconst hx hb dX9_order_19 ?_
          refine lv_goto (tgt := 24) hx hb dX9_order_20 (by decide) ?_
          refine kx_iadd hx hb dX9_order_24 ?_
          refine kx_eqi (((pl + 1 : Nat) : Int)) (by omega) ?_
          refine kx_put (v := .int (kI ((pl + 1 : Nat) : Int))) (C := RX9) (T := TX9) (N := 5) hx hb hts in_X9 hown hK hO_rd rfl 0 (by decide) tyX9 tyX9_ok nmX9 hS_836 (by first | rfl | exact Or.inl rfl | exact Or.inr rfl | exact Or.inr (Or.inl rfl) | exact Or.inr (Or.inr rfl) | exact Or.inr (Or.inr (Or.inl rfl)) | exact Or.inr (Or.inr (Or.inr rfl)) | ((try dsimp only); (try simp only [kNW]); omega)) q1541 (fun _ h9 => h9) rfl rfl rfl rfl (Nat.le_of_ble_eq_true rfl) dX9_order_25 (fun H_842 locs_843 hO_841 hU_840 hS_844 => ?_)
          have hO_841 : kO D H_842 rd 8 [.int (kI ((pl + 1 : Nat) : Int)), .int (kI (kb (false))), .ref oa, .int (kI ((mn : Nat) : Int)), .ref x1] := hO_841
          have hzu_845 := hU_840.1
          refine lv_null hx hb dX9_order_28 ?_
          refine lv_astore_nN (lv' := [(2, .null), (1, .int (kI (csg t pl))), (0, .ref rd)]) hx hb dX9_order_29 rfl hl (by decide) rfl (fun ls hl => ?_)
          refine lv_iload_n hx hb dX9_order_30 rfl (lv_at hl 1 rfl) ?_
          refine kx_eqi (97) (hlt) ?_
          refine lv_tableIn (off := 194) (tgt := 225) hx hb dX9_order_31 (by decide) (by decide) (by decide) (by decide) ?_
          refine kx_lam0 hx hb hml hl.1 hK B.named (σ := ls_16) rfl (by first | exact Nat.le_of_ble_eq_true rfl | omega | (show _ ≤ _; omega) | (dsimp only [headSpec]; omega)) dX9_order_225 ?_
          have hL_846 := kK.l0 hK hS_844 hB
          refine lv_astore_n (lv' := [(2, .ref (D.2.2.2 500)), (1, .int (kI (csg t pl))), (0, .ref rd)]) hx hb dX9_order_230 rfl hl (by decide) rfl (fun ls hl => ?_)
          refine lv_goto (tgt := 254) hx hb dX9_order_231 (by decide) ?_
          refine lv_aload_n hx hb dX9_order_254 rfl (lv_at hl 2 rfl) ?_
          refine kx_get (v := .int (kI (kb (false)))) (C := RX9) (T := TX9) (N := 5) hx hb hts in_X9 hown hK hO_841 rfl 1 (by decide) q1543 (fun _ h9 => h9) rfl dX9_order_255 ?_
          refine kx_ifnz (tgt := 281) hx hb dX9_order_258 (by decide) (fun c_258_847 => ?_) (fun c_258_847 => ?_)
          · -- taken at 258
            first | exact absurd c_258_847 (by decide) | exact Bool.noConfusion c_258_847 | (simp at c_258_847; done)
          · -- not taken at 258
            refine lv_aload_n hx hb dX9_order_261 rfl (lv_at hl 2 rfl) ?_
            refine kx_get (v := .ref oa) (C := RX9) (T := TX9) (N := 5) hx hb hts in_X9 hown hK hO_841 rfl 2 (by decide) q1544 (fun _ h9 => h9) rfl dX9_order_262 ?_
            refine lv_aload_n hx hb dX9_order_265 rfl (lv_at hl 2 rfl) ?_
            refine kx_get (v := .int (kI ((mn : Nat) : Int))) (C := RX9) (T := TX9) (N := 5) hx hb hts in_X9 hown hK hO_841 rfl 3 (by decide) q1545 (fun _ h9 => h9) rfl dX9_order_266 ?_
            refine lv_aload_n hx hb dX9_order_269 rfl (lv_at hl 0 rfl) ?_
            have h_848 := hA_oa.up hU_840 (by first | assumption | exact Ne.symm (by assumption)  | omega | (have h9 := hA_oa.lt; omega))
            refine kx_aastL hx hb hK (t := 6) rfl h_848 hS_844 (by first | rfl | exact Or.inl rfl | exact Or.inr rfl | exact Or.inr (Or.inl rfl) | exact Or.inr (Or.inr rfl) | exact Or.inr (Or.inr (Or.inl rfl)) | exact Or.inr (Or.inr (Or.inr rfl)) | ((try dsimp only); (try simp only [kNW]); omega)) mn (rfl) (by omega) (by omega) hL_846 (q := _) rfl rfl dX9_order_270 (fun H_851 locs_852 hA_850 hU_849 hS_853 => ?_)
            have hzu_854 := hU_849.1
            refine lv_aload_n hx hb dX9_order_271 rfl (lv_at hl 2 rfl) ?_
            refine lv_dup hx hb dX9_order_272 rfl ?_
            have h_855 := hO_841.up hU_849 (by first | assumption | exact Ne.symm (by assumption)  | omega | (have h9 := hO_841.lt; omega))
            refine kx_get (v := .int (kI ((mn : Nat) : Int))) (C := RX9) (T := TX9) (N := 5) hx hb hts in_X9 hown hK h_855 rfl 3 (by decide) q1545 (fun _ h9 => h9) rfl dX9_order_273 ?_
            refine kx_iconst hx hb dX9_order_276 ?_
            refine kx_iadd hx hb dX9_order_277 ?_
            refine kx_eqi (((mn + 1 : Nat) : Int)) (by omega) ?_
            refine kx_put (v := .int (kI ((mn + 1 : Nat) : Int))) (C := RX9) (T := TX9) (N := 5) hx hb hts in_X9 hown hK h_855 rfl 3 (by decide) tyX9 tyX9_ok nmX9 hS_853 (by first | rfl | exact Or.inl rfl | exact Or.inr rfl | exact Or.inr (Or.inl rfl) | exact Or.inr (Or.inr rfl) | exact Or.inr (Or.inr (Or.inl rfl)) | exact Or.inr (Or.inr (Or.inr rfl)) | ((try dsimp only); (try simp only [kNW]); omega)) q1545 (fun _ h9 => h9) rfl rfl rfl rfl (Nat.le_of_ble_eq_true rfl) dX9_order_278 (fun H_858 locs_859 hO_857 hU_856 hS_860 => ?_)
            have hO_857 : kO D H_858 rd 8 [.int (kI ((pl + 1 : Nat) : Int)), .int (kI (kb (false))), .ref oa, .int (kI ((mn + 1 : Nat) : Int)), .ref x1] := hO_857
            have hzu_861 := hU_856.1
            have h_862 := hA_850.up hU_856 (by first | assumption | exact Ne.symm (by assumption)  | omega | (have h9 := hA_850.lt; omega))
            have hOo9 : kOl D H_858 b0 H_858.size go mn t := (hP_kOl_b0.fr (va_S.toFr hS_860) (fun x hx => by rcases hx with z | z | z <;> omega)).mono (by omega)
            have hfin : kO D H_858 rd 8 [.int (kI (((rdW t pl).2.1 : Nat) : Int)), .int (kI (kb (!(rdW t pl).1))), .ref oa, .int (kI ((mn + 1 : Nat) : Int)), .ref x1] := by rw [hrd9]; exact hO_857
            have hkq9 : kOrd D H_858 b0 H_858.size t (opos t mn) (D.2.2.2 500) := by rw [← hpo]; exact Or.inl ⟨hl9, rfl⟩
            have hOl9 := hOo9.add hkq9
            have hmn9 : mn + 1 = if (rdW t pl).1 = true then mn + 1 else mn := by rw [hrd9]; rfl
            refine W.widen (k := 2) (n := 22) (by omega) (by omega) ?_
            exact kx_vret hx hb hr hlk (⟨(mn + 1), ((kupq go mn (some (D.2.2.2 500)))), H_858.size, hfin, h_862, hOl9, by exact hmn9, by exact ⟨by omega, Nat.le_refl _⟩⟩) hS_860 dX9_order_281
    · -- g
      have hl9 : tsg t pl = 103 := by omega
      by_cases hd1 : 1 ≤ csg t (pl + 1) - 48 ∧ csg t (pl + 1) - 48 ≤ 6
      · -- one
        have hrd9 : rdW t pl = (true, pl + 1 + 1, tsg t (pl + 1) - 48, 0) := by rw [rd_g hl9, rdW.rdOne, if_pos (by unfold tx_numOK; omega), tx_num_1 (by omega) (by omega) hrs9]
        refine lv_aload_n hx hb dX9_order_0 rfl (lv_at hl 0 rfl) ?_
        refine kx_ci0 (va_runV (As := []) (rest := []) ⟨hx, hb, hml, hown, hts⟩ (m_sgn l D s.heap rd pl false oa mn x1 st snp hi bu vb ml cap g t hO_rd hO_x1 hO_bu hA_vb (by first | assumption | omega) (by first | assumption | omega) (by first | assumption | omega) (by first | assumption | omega) (by first | assumption | omega)) (cwV 0 hts (lw_V q1566 q1568 qs20 q125 q1569) rfl rfl rfl (by decide +kernel) ⟨Nat.le_of_ble_eq_true rfl, Nat.le_of_ble_eq_true rfl⟩) (kx_pv hK hS hB (kx_rc hK hO_rd (C := RX9) (T := TX9) (N := 5) rfl)) rfl rfl hl.1 rfl (lv_room (Nat.le_of_ble_eq_true rfl)) dX9_order_1 ⟨by first | exact Nat.le_of_ble_eq_true rfl | omega | (show _ ≤ _; omega) | (dsimp only [headSpec]; omega), by first | exact Nat.le_of_ble_eq_true rfl | omega | (show _ ≤ _; omega) | (dsimp only [headSpec]; omega)⟩) hS (fun z_866 locs_863 hz_865 hS_864 => ?_)
        subst z_866
        refine lv_istore_n (lv' := [(1, .int (kI (csg t pl))), (0, .ref rd)]) hx hb dX9_order_4 rfl hl (by decide) rfl (fun ls hl => ?_)
        refine lv_aload_n hx hb dX9_order_5 rfl (lv_at hl 1 rfl) ?_
        refine lv_dup hx hb dX9_order_6 rfl ?_
        refine kx_get (v := .int (kI ((pl : Nat) : Int))) (C := RX9) (T := TX9) (N := 5) hx hb hts in_X9 hown hK hO_rd rfl 0 (by decide) q1541 (fun _ h9 => h9) rfl dX9_order_7 ?_
        obtain ⟨hv_867, zv_868, hL_869⟩ := kK.ltO hK hS_864 hB
        refine va_ldcS hx hb hown hK.sLt dX9_order_10 ?_
        refine lv_iload_n hx hb dX9_order_12 rfl (lv_at hl 0 rfl) ?_
        refine kx_ci0 (va_runV (As := [.int (kI (csg t pl))]) (rest := [.int (kI ((pl : Nat) : Int)), .ref rd]) ⟨hx, hb, hml, hown, hts⟩ (m_J6_indexOf l D s.heap (csg t pl) hv_867 zv_868 hL_869 (by first | assumption | omega)) (cwV 1 hts (lw_V q1585 q1586 q1587 q87 q1588) rfl rfl rfl (by decide +kernel) ⟨Nat.le_of_ble_eq_true rfl, Nat.le_of_ble_eq_true rfl⟩) (kx_pv hK hS_864 hB (kx_rc hK hL_869 (C := RJ6) (T := TJ6) (N := 4) rfl)) rfl rfl hl.1 rfl (lv_room (Nat.le_of_ble_eq_true rfl)) dX9_order_13 ⟨by first | exact Nat.le_of_ble_eq_true rfl | omega | (show _ ≤ _; omega) | (dsimp only [headSpec]; omega), by first | exact Nat.le_of_ble_eq_true rfl | omega | (show _ ≤ _; omega) | (dsimp only [headSpec]; omega)⟩) hS_864 (fun z_873 locs_870 hz_872 hS_871 => ?_)
        subst z_873
        refine kx_if_lt (x := lt_ix (csg t pl)) (tgt := 23) hx hb dX9_order_16 (by decide) (by have := lt_ix_rng (csg t pl); omega) (by have := lt_ix_rng (csg t pl); omega) (fun c_16_874 => ?_) (fun c_16_874 => ?_)
        · -- taken at 16
          exfalso; have := lt_ix_in hL0; omega
        · -- not taken at 16
          refine kx_iconst hx hb dX9_order_19 ?_
          refine lv_goto (tgt := 24) hx hb dX9_order_20 (by decide) ?_
          refine kx_iadd hx hb dX9_order_24 ?_
          refine kx_eqi (((pl + 1 : Nat) : Int)) (by omega) ?_
          refine kx_put (v := .int (kI ((pl + 1 : Nat) : Int))) (C := RX9) (T := TX9) (N := 5) hx hb hts in_X9 hown hK hO_rd rfl 0 (by decide) tyX9 tyX9_ok nmX9 hS_871 (by first | rfl | exact Or.inl rfl | exact Or.inr rfl | exact Or.inr (Or.inl rfl) | exact Or.inr (Or.inr rfl) | exact Or.inr (Or.inr (Or.inl rfl)) | exact Or.inr (Or.inr (Or.inr rfl)) | ((try dsimp only); (try simp only [kNW]); omega)) q1541 (fun _ h9 => h9) rfl rfl rfl rfl (Nat.le_of_ble_eq_true rfl) dX9_order_25 (fun H_877 locs_878 hO_876 hU_875 hS_879 => ?_)
          have hO_876 : kO D H_877 rd 8 [.int (kI ((pl + 1 : Nat) : Int)), .int (kI (kb (false))), .ref oa, .int (kI ((mn : Nat) : Int)), .ref x1] := hO_876
          have hzu_880 := hU_875.1
          refine lv_null hx hb dX9_order_28 ?_
          refine lv_astore_nN (lv' := [(2, .null), (1, .int (kI (csg t pl))), (0, .ref rd)]) hx hb dX9_order_29 rfl hl (by decide) rfl (fun ls hl => ?_)
          refine lv_iload_n hx hb dX9_order_30 rfl (lv_at hl 1 rfl) ?_
          refine kx_eqi (103) (hlt) ?_
          refine lv_tableIn (off := 203) (tgt := 234) hx hb dX9_order_31 (by decide) (by decide) (by decide) (by decide) ?_
          refine lv_aload_n hx hb dX9_order_234 rfl (lv_at hl 2 rfl) ?_
          refine lv_aload_n hx hb dX9_order_235 rfl (lv_at hl 2 rfl) ?_
          refine kx_iconst hx hb dX9_order_236 ?_
          refine kx_bipush hx hb (by decide) dX9_order_237 ?_
          have h_881 := hO_x1.up hU_875 (by first | assumption | exact Ne.symm (by assumption)  | omega | (have h9 := hO_x1.lt; omega))
          have h_882 := hO_bu.up hU_875 (by first | assumption | exact Ne.symm (by assumption)  | omega | (have h9 := hO_bu.lt; omega))
          have h_883 := hA_vb.up hU_875 (by first | assumption | exact Ne.symm (by assumption)  | omega | (have h9 := hA_vb.lt; omega))
          refine kx_ci (va_runV (As := [.int (kI (1)), .int (kI (6))]) (rest := [.ref rd]) ⟨hx, hb, hml, hown, hts⟩ (m_dig_y l D H_877 rd (pl + 1) oa mn x1 st snp hi bu vb ml cap g t 1 6 hO_876 h_881 h_882 h_883 (by first | assumption | omega) (by first | assumption | omega) (by first | assumption | omega) (by first | assumption | omega) (by first | assumption | omega) ((by omega)) ((by omega)) bs_rd hd1) (cwV 2 hts (lw_V q1637 q1639 qs22 q125 q1640) rfl rfl rfl (by decide +kernel) ⟨Nat.le_of_ble_eq_true rfl, Nat.le_of_ble_eq_true rfl⟩) (kx_pv hK hS_879 hB (kx_rc hK hO_876 (C := RX9) (T := TX9) (N := 5) rfl)) rfl rfl hl.1 rfl (lv_room (Nat.le_of_ble_eq_true rfl)) dX9_order_239 ⟨by first | exact Nat.le_of_ble_eq_true rfl | omega | (show _ ≤ _; omega) | (dsimp only [headSpec]; omega), by first | exact Nat.le_of_ble_eq_true rfl | omega | (show _ ≤ _; omega) | (dsimp only [headSpec]; omega)⟩) hS_879 (fun q _ h => by have h9 := hS_879.1; (try dsimp only at h); (try dsimp only); (try simp only [kNW] at h); (try simp only [kNW]); omega) (fun q h => by have h9 := hS_879.1; (try dsimp only at h); (try dsimp only); (try simp only [kNW] at h); (try simp only [kNW]); omega) (fun z_889 H_887 locs_884 hz_886 hF_888 hS_885 => ?_)
          have hzf_890 := hF_888.1
          refine W.widen (k := 0) (n := 0) (Nat.le_of_ble_eq_true rfl) (Nat.le_of_ble_eq_true rfl) ?_
          obtain ⟨hv_891, ho_892⟩ := hz_886
          subst z_889
          refine kx_cr (va_runV (As := [.int (kI ((csg t (pl + 1) - 48)))]) (rest := []) ⟨hx, hb, hml, hown, hts⟩ (m_X9_gapping l D H_887 rd ((csg t (pl + 1) - 48))  ) (cwV 1 hts (lw_V q1791 q1793 qs34 q125 q1794) rfl rfl rfl (by decide +kernel) ⟨Nat.le_of_ble_eq_true rfl, Nat.le_of_ble_eq_true rfl⟩) (kx_pv hK hS_885 hB (kx_rc hK ho_892 (C := RX9) (T := TX9) (N := 5) rfl)) rfl rfl hl.1 rfl (lv_room (Nat.le_of_ble_eq_true rfl)) dX9_order_242 ⟨by first | exact Nat.le_of_ble_eq_true rfl | omega | (show _ ≤ _; omega) | (dsimp only [headSpec]; omega), by first | exact Nat.le_of_ble_eq_true rfl | omega | (show _ ≤ _; omega) | (dsimp only [headSpec]; omega)⟩) hS_885 (fun q _ h => Or.inr (Or.inr (by (try dsimp only at h); (try simp only [kNW] at h); omega))) (fun q h => Or.inr (Or.inr (by (try dsimp only at h); (try simp only [kNW] at h); omega))) (fun z_898 H_896 locs_893 hz_895 hF_897 hS_894 => ?_)
          have hzf_899 := hF_897.1
          have hF_897 := hF_897.nw
          refine W.widen (k := 1) (n := 1) (Nat.le_of_ble_eq_true rfl) (Nat.le_of_ble_eq_true rfl) ?_
          obtain ⟨ho_900, hnew_901⟩ := hz_895
          refine lv_astore_n (lv' := [(2, .ref z_898), (1, .int (kI (csg t pl))), (0, .ref rd)]) hx hb dX9_order_245 rfl hl (by decide) rfl (fun ls hl => ?_)
          refine lv_goto (tgt := 254) hx hb dX9_order_246 (by decide) ?_
          refine lv_aload_n hx hb dX9_order_254 rfl (lv_at hl 2 rfl) ?_
          have h_902 := ho_892.ex hF_897
          refine kx_get (v := .int (kI (kb (false)))) (C := RX9) (T := TX9) (N := 5) hx hb hts in_X9 hown hK h_902 rfl 1 (by decide) q1543 (fun _ h9 => h9) rfl dX9_order_255 ?_
          refine kx_ifnz (tgt := 281) hx hb dX9_order_258 (by decide) (fun c_258_903 => ?_) (fun c_258_903 => ?_)
          · -- taken at 258
            first | exact absurd c_258_903 (by decide) | exact Bool.noConfusion c_258_903 | (simp at c_258_903; done)
          · -- not taken at 258
            refine lv_aload_n hx hb dX9_order_261 rfl (lv_at hl 2 rfl) ?_
            refine kx_get (v := .ref oa) (C := RX9) (T := TX9) (N := 5) hx hb hts in_X9 hown hK h_902 rfl 2 (by decide) q1544 (fun _ h9 => h9) rfl dX9_order_262 ?_
            refine lv_aload_n hx hb dX9_order_265 rfl (lv_at hl 2 rfl) ?_
            refine kx_get (v := .int (kI ((mn : Nat) : Int))) (C := RX9) (T := TX9) (N := 5) hx hb hts in_X9 hown hK h_902 rfl 3 (by decide) q1545 (fun _ h9 => h9) rfl dX9_order_266 ?_
            refine lv_aload_n hx hb dX9_order_269 rfl (lv_at hl 0 rfl) ?_
            have h_904 := hA_oa.up hU_875 (by first | assumption | exact Ne.symm (by assumption)  | omega | (have h9 := hA_oa.lt; omega))
            have h_905 := h_904.fr hF_888 (fun h => by (try dsimp only at h); (try simp only [kNW] at h); omega)
            have h_906 := h_905.ex hF_897
            refine kx_aastL hx hb hK (t := 6) rfl h_906 hS_894 (by first | rfl | exact Or.inl rfl | exact Or.inr rfl | exact Or.inr (Or.inl rfl) | exact Or.inr (Or.inr rfl) | exact Or.inr (Or.inr (Or.inl rfl)) | exact Or.inr (Or.inr (Or.inr rfl)) | ((try dsimp only); (try simp only [kNW]); omega)) mn (rfl) (by omega) (by omega) ho_900 (q := _) rfl rfl dX9_order_270 (fun H_909 locs_910 hA_908 hU_907 hS_911 => ?_)
            have hzu_912 := hU_907.1
            refine lv_aload_n hx hb dX9_order_271 rfl (lv_at hl 2 rfl) ?_
            refine lv_dup hx hb dX9_order_272 rfl ?_
            have h_913 := h_902.up hU_907 (by first | assumption | exact Ne.symm (by assumption)  | omega | (have h9 := h_902.lt; omega))
            refine kx_get (v := .int (kI ((mn : Nat) : Int))) (C := RX9) (T := TX9) (N := 5) hx hb hts in_X9 hown hK h_913 rfl 3 (by decide) q1545 (fun _ h9 => h9) rfl dX9_order_273 ?_
            refine kx_iconst hx hb dX9_order_276 ?_
            refine kx_iadd hx hb dX9_order_277 ?_
            refine kx_eqi (((mn + 1 : Nat) : Int)) (by omega) ?_
            refine kx_put (v := .int (kI ((mn + 1 : Nat) : Int))) (C := RX9) (T := TX9) (N := 5) hx hb hts in_X9 hown hK h_913 rfl 3 (by decide) tyX9 tyX9_ok nmX9 hS_911 (by first | rfl | exact Or.inl rfl | exact Or.inr rfl | exact Or.inr (Or.inl rfl) | exact Or.inr (Or.inr rfl) | exact Or.inr (Or.inr (Or.inl rfl)) | exact Or.inr (Or.inr (Or.inr rfl)) | ((try dsimp only); (try simp only [kNW]); omega)) q1545 (fun _ h9 => h9) rfl rfl rfl rfl (Nat.le_of_ble_eq_true rfl) dX9_order_278 (fun H_916 locs_917 hO_915 hU_914 hS_918 => ?_)
            have hO_915 : kO D H_916 rd 8 [.int (kI (((pl + 1) + 1 : Nat) : Int)), .int (kI (kb (false))), .ref oa, .int (kI ((mn + 1 : Nat) : Int)), .ref x1] := hO_915
            have hzu_919 := hU_914.1
            have h_920 := hA_908.up hU_914 (by first | assumption | exact Ne.symm (by assumption)  | omega | (have h9 := hA_908.lt; omega))
            have hOo9 : kOl D H_916 b0 H_916.size go mn t := (hP_kOl_b0.fr (va_S.toFr hS_918) (fun x hx => by rcases hx with z | z | z <;> omega)).mono (by omega)
            have hfin : kO D H_916 rd 8 [.int (kI (((rdW t pl).2.1 : Nat) : Int)), .int (kI (kb (!(rdW t pl).1))), .ref oa, .int (kI ((mn + 1 : Nat) : Int)), .ref x1] := by rw [hrd9]; exact hO_915
            have h_921 := ho_900.up hU_907 (by first | assumption | exact Ne.symm (by assumption)  | omega | (have h9 := ho_900.lt; omega))
            have h_922 := h_921.up hU_914 (by first | assumption | exact Ne.symm (by assumption)  | omega | (have h9 := h_921.lt; omega))
            have hkq9 : kOrd D H_916 b0 H_916.size t (opos t mn) z_898 := by rw [← hpo]; exact Or.inr ⟨⟨by omega, by have h9 := h_922.lt; omega⟩, Or.inr (Or.inr (Or.inr (Or.inr (Or.inr (Or.inr (⟨hl9, by rw [hrd9]; exact (by have h9 := h_922; rw [show csg t (pl + 1) - 48 = tsg t (pl + 1) - 48 by omega] at h9; exact h9)⟩))))))⟩
            have hOl9 := hOo9.add hkq9
            have hmn9 : mn + 1 = if (rdW t pl).1 = true then mn + 1 else mn := by rw [hrd9]; rfl
            refine W.widen (k := 2) (n := 22) (by omega) (by omega) ?_
            exact kx_vret hx hb hr hlk (⟨(mn + 1), ((kupq go mn (some z_898))), H_916.size, hfin, h_920, hOl9, by exact hmn9, by exact ⟨by omega, Nat.le_refl _⟩⟩) hS_918 dX9_order_281
      · -- none
        have hrd9 : rdW t pl = (false, pl + 1, tsg t (pl + 1) - 48, 0) := by rw [rd_g hl9, rdW.rdOne, if_neg (by unfold tx_numOK; omega)]
        refine lv_aload_n hx hb dX9_order_0 rfl (lv_at hl 0 rfl) ?_
        refine kx_ci0 (va_runV (As := []) (rest := []) ⟨hx, hb, hml, hown, hts⟩ (m_sgn l D s.heap rd pl false oa mn x1 st snp hi bu vb ml cap g t hO_rd hO_x1 hO_bu hA_vb (by first | assumption | omega) (by first | assumption | omega) (by first | assumption | omega) (by first | assumption | omega) (by first | assumption | omega)) (cwV 0 hts (lw_V q1566 q1568 qs20 q125 q1569) rfl rfl rfl (by decide +kernel) ⟨Nat.le_of_ble_eq_true rfl, Nat.le_of_ble_eq_true rfl⟩) (kx_pv hK hS hB (kx_rc hK hO_rd (C := RX9) (T := TX9) (N := 5) rfl)) rfl rfl hl.1 rfl (lv_room (Nat.le_of_ble_eq_true rfl)) dX9_order_1 ⟨by first | exact Nat.le_of_ble_eq_true rfl | omega | (show _ ≤ _; omega) | (dsimp only [headSpec]; omega), by first | exact Nat.le_of_ble_eq_true rfl | omega | (show _ ≤ _; omega) | (dsimp only [headSpec]; omega)⟩) hS (fun z_926 locs_923 hz_925 hS_924 => ?_)
        subst z_926
        refine lv_istore_n (lv' := [(1, .int (kI (csg t pl))), (0, .ref rd)]) hx hb dX9_order_4 rfl hl (by decide) rfl (fun ls hl => ?_)
        refine lv_aload_n hx hb dX9_order_5 rfl (lv_at hl 1 rfl) ?_
        refine lv_dup hx hb dX9_order_6 rfl ?_
        refine kx_get (v := .int (kI ((pl : Nat) : Int))) (C := RX9) (T := TX9) (N := 5) hx hb hts in_X9 hown hK hO_rd rfl 0 (by decide) q1541 (fun _ h9 => h9) rfl dX9_order_7 ?_
        obtain ⟨hv_927, zv_928, hL_929⟩ := kK.ltO hK hS_924 hB
        refine va_ldcS hx hb hown hK.sLt dX9_order_10 ?_
        refine lv_iload_n hx hb dX9_order_12 rfl (lv_at hl 0 rfl) ?_
        refine kx_ci0 (va_runV (As := [.int (kI (csg t pl))]) (rest := [.int (kI ((pl : Nat) : Int)), .ref rd]) ⟨hx, hb, hml, hown, hts⟩ (m_J6_indexOf l D s.heap (csg t pl) hv_927 zv_928 hL_929 (by first | assumption | omega)) (cwV 1 hts (lw_V q1585 q1586 q1587 q87 q1588) rfl rfl rfl (by decide +kernel) ⟨Nat.le_of_ble_eq_true rfl, Nat.le_of_ble_eq_true rfl⟩) (kx_pv hK hS_924 hB (kx_rc hK hL_929 (C := RJ6) (T := TJ6) (N := 4) rfl)) rfl rfl hl.1 rfl (lv_room (Nat.le_of_ble_eq_true rfl)) dX9_order_13 ⟨by first | exact Nat.le_of_ble_eq_true rfl | omega | (show _ ≤ _; omega) | (dsimp only [headSpec]; omega), by first | exact Nat.le_of_ble_eq_true rfl | omega | (show _ ≤ _; omega) | (dsimp only [headSpec]; omega)⟩) hS_924 (fun z_933 locs_930 hz_932 hS_931 => ?_)
        subst z_933
        refine kx_if_lt (x := lt_ix (csg t pl)) (tgt := 23) hx hb dX9_order_16 (by decide) (by have := lt_ix_rng (csg t pl); omega) (by have := lt_ix_rng (csg t pl); omega) (fun c_16_934 => ?_) (fun c_16_934 => ?_)
        · -- taken at 16
          exfalso; have := lt_ix_in hL0; omega
        · -- not taken at 16
          refine kx_iconst hx hb dX9_order_19 ?_
          refine lv_goto (tgt := 24) hx hb dX9_order_20 (by decide) ?_
          refine kx_iadd hx hb dX9_order_24 ?_
          refine kx_eqi (((pl + 1 : Nat) : Int)) (by omega) ?_
          refine kx_put (v := .int (kI ((pl + 1 : Nat) : Int))) (C := RX9) (T := TX9) (N := 5) hx hb hts in_X9 hown hK hO_rd rfl 0 (by decide) tyX9 tyX9_ok nmX9 hS_931 (by first | rfl | exact Or.inl rfl | exact Or.inr rfl | exact Or.inr (Or.inl rfl) | exact Or.inr (Or.inr rfl) | exact Or.inr (Or.inr (Or.inl rfl)) | exact Or.inr (Or.inr (Or.inr rfl)) | ((try dsimp only); (try simp only [kNW]); omega)) q1541 (fun _ h9 => h9) rfl rfl rfl rfl (Nat.le_of_ble_eq_true rfl) dX9_order_25 (fun H_937 locs_938 hO_936 hU_935 hS_939 => ?_)
          have hO_936 : kO D H_937 rd 8 [.int (kI ((pl + 1 : Nat) : Int)), .int (kI (kb (false))), .ref oa, .int (kI ((mn : Nat) : Int)), .ref x1] := hO_936
          have hzu_940 := hU_935.1
          refine lv_null hx hb dX9_order_28 ?_
          refine lv_astore_nN (lv' := [(2, .null), (1, .int (kI (csg t pl))), (0, .ref rd)]) hx hb dX9_order_29 rfl hl (by decide) rfl (fun ls hl => ?_)
          refine lv_iload_n hx hb dX9_order_30 rfl (lv_at hl 1 rfl) ?_
          refine kx_eqi (103) (hlt) ?_
          refine lv_tableIn (off := 203) (tgt := 234) hx hb dX9_order_31 (by decide) (by decide) (by decide) (by decide) ?_
          refine lv_aload_n hx hb dX9_order_234 rfl (lv_at hl 2 rfl) ?_
          refine lv_aload_n hx hb dX9_order_235 rfl (lv_at hl 2 rfl) ?_
          refine kx_iconst hx hb dX9_order_236 ?_
          refine kx_bipush hx hb (by decide) dX9_order_237 ?_
          have h_941 := hO_x1.up hU_935 (by first | assumption | exact Ne.symm (by assumption)  | omega | (have h9 := hO_x1.lt; omega))
          have h_942 := hO_bu.up hU_935 (by first | assumption | exact Ne.symm (by assumption)  | omega | (have h9 := hO_bu.lt; omega))
          have h_943 := hA_vb.up hU_935 (by first | assumption | exact Ne.symm (by assumption)  | omega | (have h9 := hA_vb.lt; omega))
          refine kx_ci (va_runV (As := [.int (kI (1)), .int (kI (6))]) (rest := [.ref rd]) ⟨hx, hb, hml, hown, hts⟩ (m_dig_n l D H_937 rd (pl + 1) false oa mn x1 st snp hi bu vb ml cap g t 1 6 hO_936 h_941 h_942 h_943 (by first | assumption | omega) (by first | assumption | omega) (by first | assumption | omega) (by first | assumption | omega) (by first | assumption | omega) ((by omega)) ((by omega)) bs_rd ((Or.inr hd1))) (cwV 2 hts (lw_V q1637 q1639 qs22 q125 q1640) rfl rfl rfl (by decide +kernel) ⟨Nat.le_of_ble_eq_true rfl, Nat.le_of_ble_eq_true rfl⟩) (kx_pv hK hS_939 hB (kx_rc hK hO_936 (C := RX9) (T := TX9) (N := 5) rfl)) rfl rfl hl.1 rfl (lv_room (Nat.le_of_ble_eq_true rfl)) dX9_order_239 ⟨by first | exact Nat.le_of_ble_eq_true rfl | omega | (show _ ≤ _; omega) | (dsimp only [headSpec]; omega), by first | exact Nat.le_of_ble_eq_true rfl | omega | (show _ ≤ _; omega) | (dsimp only [headSpec]; omega)⟩) hS_939 (fun q _ h => by have h9 := hS_939.1; (try dsimp only at h); (try dsimp only); (try simp only [kNW] at h); (try simp only [kNW]); omega) (fun q h => by have h9 := hS_939.1; (try dsimp only at h); (try dsimp only); (try simp only [kNW] at h); (try simp only [kNW]); omega) (fun z_949 H_947 locs_944 hz_946 hF_948 hS_945 => ?_)
          have hzf_950 := hF_948.1
          refine W.widen (k := 0) (n := 0) (Nat.le_of_ble_eq_true rfl) (Nat.le_of_ble_eq_true rfl) ?_
          obtain ⟨hv_951, ho_952⟩ := hz_946
          subst z_949
          refine kx_cr (va_runV (As := [.int (kI ((csg t (pl + 1) - 48)))]) (rest := []) ⟨hx, hb, hml, hown, hts⟩ (m_X9_gapping l D H_947 rd ((csg t (pl + 1) - 48))  ) (cwV 1 hts (lw_V q1791 q1793 qs34 q125 q1794) rfl rfl rfl (by decide +kernel) ⟨Nat.le_of_ble_eq_true rfl, Nat.le_of_ble_eq_true rfl⟩) (kx_pv hK hS_945 hB (kx_rc hK ho_952 (C := RX9) (T := TX9) (N := 5) rfl)) rfl rfl hl.1 rfl (lv_room (Nat.le_of_ble_eq_true rfl)) dX9_order_242 ⟨by first | exact Nat.le_of_ble_eq_true rfl | omega | (show _ ≤ _; omega) | (dsimp only [headSpec]; omega), by first | exact Nat.le_of_ble_eq_true rfl | omega | (show _ ≤ _; omega) | (dsimp only [headSpec]; omega)⟩) hS_945 (fun q _ h => Or.inr (Or.inr (by (try dsimp only at h); (try simp only [kNW] at h); omega))) (fun q h => Or.inr (Or.inr (by (try dsimp only at h); (try simp only [kNW] at h); omega))) (fun z_958 H_956 locs_953 hz_955 hF_957 hS_954 => ?_)
          have hzf_959 := hF_957.1
          have hF_957 := hF_957.nw
          refine W.widen (k := 1) (n := 1) (Nat.le_of_ble_eq_true rfl) (Nat.le_of_ble_eq_true rfl) ?_
          obtain ⟨ho_960, hnew_961⟩ := hz_955
          refine lv_astore_n (lv' := [(2, .ref z_958), (1, .int (kI (csg t pl))), (0, .ref rd)]) hx hb dX9_order_245 rfl hl (by decide) rfl (fun ls hl => ?_)
          refine lv_goto (tgt := 254) hx hb dX9_order_246 (by decide) ?_
          refine lv_aload_n hx hb dX9_order_254 rfl (lv_at hl 2 rfl) ?_
          have h_962 := ho_952.ex hF_957
          refine kx_get (v := .int (kI (kb (true)))) (C := RX9) (T := TX9) (N := 5) hx hb hts in_X9 hown hK h_962 rfl 1 (by decide) q1543 (fun _ h9 => h9) rfl dX9_order_255 ?_
          refine kx_ifnz (tgt := 281) hx hb dX9_order_258 (by decide) (fun c_258_963 => ?_) (fun c_258_963 => ?_)
          · -- taken at 258
            have h_964 := hA_oa.up hU_935 (by first | assumption | exact Ne.symm (by assumption)  | omega | (have h9 := hA_oa.lt; omega))
            have h_965 := h_964.fr hF_948 (fun h => by (try dsimp only at h); (try simp only [kNW] at h); omega)
            have h_966 := h_965.ex hF_957
            have hOo9 : kOl D H_956 b0 H_956.size go mn t := (hP_kOl_b0.fr (va_S.toFr hS_954) (fun x hx => by rcases hx with z | z | z <;> omega)).mono (by omega)
            have hfin : kO D H_956 rd 8 [.int (kI (((rdW t pl).2.1 : Nat) : Int)), .int (kI (kb (!(rdW t pl).1))), .ref oa, .int (kI ((mn : Nat) : Int)), .ref x1] := by rw [hrd9]; exact h_962
            have hmn9 : mn = if (rdW t pl).1 = true then mn + 1 else mn := by rw [hrd9]; rfl
            refine W.widen (k := 2) (n := 22) (by omega) (by omega) ?_
            exact kx_vret hx hb hr hlk (⟨mn, go, H_956.size, hfin, h_966, hOo9, by exact hmn9, by exact ⟨by omega, Nat.le_refl _⟩⟩) hS_954 dX9_order_281
          · -- not taken at 258
            first | exact absurd c_258_963 (by decide) | exact Bool.noConfusion c_258_963 | (simp at c_258_963; done)
  · -- no letter
    have hrd9 : rdW t pl = (false, pl, (pl : Int), 0) := rd_0 (fun z => hL0 (by unfold tx_let at *; omega))
    refine lv_aload_n hx hb dX9_order_0 rfl (lv_at hl 0 rfl) ?_
    refine kx_ci0 (va_runV (As := []) (rest := []) ⟨hx, hb, hml, hown, hts⟩ (m_sgn l D s.heap rd pl false oa mn x1 st snp hi bu vb ml cap g t hO_rd hO_x1 hO_bu hA_vb (by first | assumption | omega) (by first | assumption | omega) (by first | assumption | omega) (by first | assumption | omega) (by first | assumption | omega)) (cwV 0 hts (lw_V q1566 q1568 qs20 q125 q1569) rfl rfl rfl (by decide +kernel) ⟨Nat.le_of_ble_eq_true rfl, Nat.le_of_ble_eq_true rfl⟩) (kx_pv hK hS hB (kx_rc hK hO_rd (C := RX9) (T := TX9) (N := 5) rfl)) rfl rfl hl.1 rfl (lv_room (Nat.le_of_ble_eq_true rfl)) dX9_order_1 ⟨by first | exact Nat.le_of_ble_eq_true rfl | omega | (show _ ≤ _; omega) | (dsimp only [headSpec]; omega), by first | exact Nat.le_of_ble_eq_true rfl | omega | (show _ ≤ _; omega) | (dsimp only [headSpec]; omega)⟩) hS (fun z_970 locs_967 hz_969 hS_968 => ?_)
    subst z_970
    refine lv_istore_n (lv' := [(1, .int (kI (csg t pl))), (0, .ref rd)]) hx hb dX9_order_4 rfl hl (by decide) rfl (fun ls hl => ?_)
    refine lv_aload_n hx hb dX9_order_5 rfl (lv_at hl 1 rfl) ?_
    refine lv_dup hx hb dX9_order_6 rfl ?_
    refine kx_get (v := .int (kI ((pl : Nat) : Int))) (C := RX9) (T := TX9) (N := 5) hx hb hts in_X9 hown hK hO_rd rfl 0 (by decide) q1541 (fun _ h9 => h9) rfl dX9_order_7 ?_
    obtain ⟨hv_971, zv_972, hL_973⟩ := kK.ltO hK hS_968 hB
    refine va_ldcS hx hb hown hK.sLt dX9_order_10 ?_
    refine lv_iload_n hx hb dX9_order_12 rfl (lv_at hl 0 rfl) ?_
    refine kx_ci0 (va_runV (As := [.int (kI (csg t pl))]) (rest := [.int (kI ((pl : Nat) : Int)), .ref rd]) ⟨hx, hb, hml, hown, hts⟩ (m_J6_indexOf l D s.heap (csg t pl) hv_971 zv_972 hL_973 (by first | assumption | omega)) (cwV 1 hts (lw_V q1585 q1586 q1587 q87 q1588) rfl rfl rfl (by decide +kernel) ⟨Nat.le_of_ble_eq_true rfl, Nat.le_of_ble_eq_true rfl⟩) (kx_pv hK hS_968 hB (kx_rc hK hL_973 (C := RJ6) (T := TJ6) (N := 4) rfl)) rfl rfl hl.1 rfl (lv_room (Nat.le_of_ble_eq_true rfl)) dX9_order_13 ⟨by first | exact Nat.le_of_ble_eq_true rfl | omega | (show _ ≤ _; omega) | (dsimp only [headSpec]; omega), by first | exact Nat.le_of_ble_eq_true rfl | omega | (show _ ≤ _; omega) | (dsimp only [headSpec]; omega)⟩) hS_968 (fun z_977 locs_974 hz_976 hS_975 => ?_)
    subst z_977
    refine kx_if_lt (x := lt_ix (csg t pl)) (tgt := 23) hx hb dX9_order_16 (by decide) (by have := lt_ix_rng (csg t pl); omega) (by have := lt_ix_rng (csg t pl); omega) (fun c_16_978 => ?_) (fun c_16_978 => ?_)
    · -- taken at 16
      refine kx_iconst hx hb dX9_order_23 ?_
      refine kx_iadd hx hb dX9_order_24 ?_
      refine kx_eqi (((pl : Nat) : Int)) (by omega) ?_
      refine kx_put (v := .int (kI ((pl : Nat) : Int))) (C := RX9) (T := TX9) (N := 5) hx hb hts in_X9 hown hK hO_rd rfl 0 (by decide) tyX9 tyX9_ok nmX9 hS_975 (by first | rfl | exact Or.inl rfl | exact Or.inr rfl | exact Or.inr (Or.inl rfl) | exact Or.inr (Or.inr rfl) | exact Or.inr (Or.inr (Or.inl rfl)) | exact Or.inr (Or.inr (Or.inr rfl)) | ((try dsimp only); (try simp only [kNW]); omega)) q1541 (fun _ h9 => h9) rfl rfl rfl rfl (Nat.le_of_ble_eq_true rfl) dX9_order_25 (fun H_981 locs_982 hO_980 hU_979 hS_983 => ?_)
      have hO_980 : kO D H_981 rd 8 [.int (kI ((pl : Nat) : Int)), .int (kI (kb (false))), .ref oa, .int (kI ((mn : Nat) : Int)), .ref x1] := hO_980
      have hzu_984 := hU_979.1
      refine lv_null hx hb dX9_order_28 ?_
      refine lv_astore_nN (lv' := [(2, .null), (1, .int (kI (csg t pl))), (0, .ref rd)]) hx hb dX9_order_29 rfl hl (by decide) rfl (fun ls hl => ?_)
      refine lv_iload_n hx hb dX9_order_30 rfl (lv_at hl 1 rfl) ?_
      have kdef : W p l e (headSpec (ws_ yX9_order cX9_order 3 none) ({ frames := 8, cells := 2, slots := 22, locals := 3124 } : Room)).room s m ([.ref rd] : List Value).toArray below meth c H_981 locs_982 (0) (0) (MQ below (kQv (fun H' => ∃ (mn2 : Nat) (go2 : Nat → Option Nat) (b2 : Nat), (kO D H' rd 8 [.int (kI (((rdW t pl).2.1 : Nat) : Int)), .int (kI (kb (!(rdW t pl).1))), .ref oa, .int (kI ((mn2 : Nat) : Int)), .ref x1]) ∧ (kAq D H' oa 6 60 go2) ∧ (kOl D H' b0 b2 go2 mn2 t) ∧ (mn2 = if (rdW t pl).1 = true then mn + 1 else mn) ∧ (b1 ≤ b2 ∧ b2 ≤ H'.size)) (fun q : Nat => q = rd ∨ q = oa ∨ s.heap.size ≤ q)) ([.ref rd] : List Value).toArray s (2) (22) ((fun q : Nat => q = rd ∨ q = oa ∨ s.heap.size ≤ q))) (F0 m 249 ls []) := by
        refine lv_aload_n hx hb dX9_order_249 rfl (lv_at hl 2 rfl) ?_
        refine kx_iconst hx hb dX9_order_250 ?_
        refine kx_put (v := .int (kI (kb (true)))) (C := RX9) (T := TX9) (N := 5) hx hb hts in_X9 hown hK hO_980 rfl 1 (by decide) tyX9 tyX9_ok nmX9 hS_983 (by first | rfl | exact Or.inl rfl | exact Or.inr rfl | exact Or.inr (Or.inl rfl) | exact Or.inr (Or.inr rfl) | exact Or.inr (Or.inr (Or.inl rfl)) | exact Or.inr (Or.inr (Or.inr rfl)) | ((try dsimp only); (try simp only [kNW]); omega)) q1543 (fun _ h9 => h9) rfl rfl (kb_narZ _) (kb_fitZ _) (Nat.le_of_ble_eq_true rfl) dX9_order_251 (fun H_987 locs_988 hO_986 hU_985 hS_989 => ?_)
        have hO_986 : kO D H_987 rd 8 [.int (kI ((pl : Nat) : Int)), .int (kI (kb (true))), .ref oa, .int (kI ((mn : Nat) : Int)), .ref x1] := hO_986
        have hzu_990 := hU_985.1
        refine lv_aload_n hx hb dX9_order_254 rfl (lv_at hl 2 rfl) ?_
        refine kx_get (v := .int (kI (kb (true)))) (C := RX9) (T := TX9) (N := 5) hx hb hts in_X9 hown hK hO_986 rfl 1 (by decide) q1543 (fun _ h9 => h9) rfl dX9_order_255 ?_
        refine kx_ifnz (tgt := 281) hx hb dX9_order_258 (by decide) (fun c_258_991 => ?_) (fun c_258_991 => ?_)
        · -- taken at 258
          have h_992 := hA_oa.up hU_979 (by first | assumption | exact Ne.symm (by assumption)  | omega | (have h9 := hA_oa.lt; omega))
          have h_993 := h_992.up hU_985 (by first | assumption | exact Ne.symm (by assumption)  | omega | (have h9 := h_992.lt; omega))
          have hOo9 : kOl D H_987 b0 H_987.size go mn t := (hP_kOl_b0.fr (va_S.toFr hS_989) (fun x hx => by rcases hx with z | z | z <;> omega)).mono (by omega)
          have hfin : kO D H_987 rd 8 [.int (kI (((rdW t pl).2.1 : Nat) : Int)), .int (kI (kb (!(rdW t pl).1))), .ref oa, .int (kI ((mn : Nat) : Int)), .ref x1] := by rw [hrd9]; exact hO_986
          have hmn9 : mn = if (rdW t pl).1 = true then mn + 1 else mn := by rw [hrd9]; rfl
          refine W.widen (k := 2) (n := 22) (by omega) (by omega) ?_
          exact kx_vret hx hb hr hlk (⟨mn, go, H_987.size, hfin, h_993, hOo9, by exact hmn9, by exact ⟨by omega, Nat.le_refl _⟩⟩) hS_989 dX9_order_281
        · -- not taken at 258
          first | exact absurd c_258_991 (by decide) | exact Bool.noConfusion c_258_991 | (simp at c_258_991; done)
      by_cases hsw : csg t pl < 97 ∨ 119 < csg t pl
      · exact kx_tblOut hx hb (x := csg t pl) hsw (by omega) (by omega) dX9_order_31 (by decide) kdef
      · have hsx : csg t pl = 99 ∨ csg t pl = 100 ∨ csg t pl = 101 ∨ csg t pl = 102 ∨ csg t pl = 104 ∨ csg t pl = 105 ∨ csg t pl = 106 ∨ csg t pl = 107 ∨ csg t pl = 109 ∨ csg t pl = 111 ∨ csg t pl = 112 ∨ csg t pl = 113 ∨ csg t pl = 114 ∨ csg t pl = 116 ∨ csg t pl = 118 := by unfold tx_let at hL0; omega
        rcases hsx with hsx | hsx | hsx | hsx | hsx | hsx | hsx | hsx | hsx | hsx | hsx | hsx | hsx | hsx | hsx
        · rw [hsx]; exact lv_tableIn (off := 218) (tgt := 249) hx hb dX9_order_31 (by decide) (by decide) (by decide) (by decide) kdef
        · rw [hsx]; exact lv_tableIn (off := 218) (tgt := 249) hx hb dX9_order_31 (by decide) (by decide) (by decide) (by decide) kdef
        · rw [hsx]; exact lv_tableIn (off := 218) (tgt := 249) hx hb dX9_order_31 (by decide) (by decide) (by decide) (by decide) kdef
        · rw [hsx]; exact lv_tableIn (off := 218) (tgt := 249) hx hb dX9_order_31 (by decide) (by decide) (by decide) (by decide) kdef
        · rw [hsx]; exact lv_tableIn (off := 218) (tgt := 249) hx hb dX9_order_31 (by decide) (by decide) (by decide) (by decide) kdef
        · rw [hsx]; exact lv_tableIn (off := 218) (tgt := 249) hx hb dX9_order_31 (by decide) (by decide) (by decide) (by decide) kdef
        · rw [hsx]; exact lv_tableIn (off := 218) (tgt := 249) hx hb dX9_order_31 (by decide) (by decide) (by decide) (by decide) kdef
        · rw [hsx]; exact lv_tableIn (off := 218) (tgt := 249) hx hb dX9_order_31 (by decide) (by decide) (by decide) (by decide) kdef
        · rw [hsx]; exact lv_tableIn (off := 218) (tgt := 249) hx hb dX9_order_31 (by decide) (by decide) (by decide) (by decide) kdef
        · rw [hsx]; exact lv_tableIn (off := 218) (tgt := 249) hx hb dX9_order_31 (by decide) (by decide) (by decide) (by decide) kdef
        · rw [hsx]; exact lv_tableIn (off := 218) (tgt := 249) hx hb dX9_order_31 (by decide) (by decide) (by decide) (by decide) kdef
        · rw [hsx]; exact lv_tableIn (off := 218) (tgt := 249) hx hb dX9_order_31 (by decide) (by decide) (by decide) (by decide) kdef
        · rw [hsx]; exact lv_tableIn (off := 218) (tgt := 249) hx hb dX9_order_31 (by decide) (by decide) (by decide) (by decide) kdef
        · rw [hsx]; exact lv_tableIn (off := 218) (tgt := 249) hx hb dX9_order_31 (by decide) (by decide) (by decide) (by decide) kdef
        · rw [hsx]; exact lv_tableIn (off := 218) (tgt := 249) hx hb dX9_order_31 (by decide) (by decide) (by decide) (by decide) kdef
    · -- not taken at 16
      exfalso; have := lt_ix_out hL0; omega

