set_option maxHeartbeats 4000000 in
set_option maxRecDepth 100000 in
theorem m_X9_carryOut (l : Launch) (D : kG) (H : Heap) (rd : Nat) (pl : Nat) (w : Bool) (oa : Nat) (mn : Nat) (x1 : Nat) (st : Nat) (la : Nat) (ea : Nat) (F : Fts) (S : Ls) (gap : Int) (go : Nat → Option Nat) (b0 : Nat) (b1 : Nat) (t : List Int) (g : Nat → Int) (hO_rd : kO D H rd 8 [.int (kI ((pl : Nat) : Int)), .int (kI (kb (w))), .ref oa, .int (kI ((mn : Nat) : Int)), .ref x1]) (hA_oa : kAq D H oa 6 60 go) (hP_kOl_b0 : kOl D H b0 b1 go mn t) (hP_kState_st : kState D H st la ea gap S F) (hok : LsOK S gap) (hG : StG S) (hT : MTx g t) (hb0 : b0 ≤ b1 ∧ b1 ≤ H.size ∧ rd < b0 ∧ oa < b0) (hmn12 : mn ≤ 12) (hval : ∀ k, k < mn → (rdW t (opos t k)).1 = true) (hfull : opos t mn = t.length + 1) (hmn60 : mn ≤ 59) (hob : ∀ q, kOwn D st la ea F S.length q → (q < b0 ∨ b1 ≤ q) ∧ rd ≠ q ∧ oa ≠ q) : Met l yX9_carryOut (ws_ yX9_carryOut cX9_carryOut 3 (some .int)) ({ frames := 13, cells := 36132, slots := 101928, locals := 3233 } : Room) (kPre D H [.ref rd, .ref st]) (kQi (fun (r : Int) H' => ∃ (ea2 : Nat) (F2 : Fts), (r = (((tx_go t S gap).1 : Nat) : Int)) ∧ (kState D H' st la ea2 ((tx_go t S gap).2.2) ((tx_go t S gap).2.1) F2) ∧ (∀ q, kOwn D st la ea2 F2 (tx_go t S gap).2.1.length q → kOwn D st la ea F S.length q ∨ H.size ≤ q)) (fun q : Nat => kOwn D st la ea F S.length q ∨ H.size ≤ q)) (36132) (101928) ((fun q : Nat => kOwn D st la ea F S.length q ∨ H.size ≤ q)) := by
  refine Met.ofW (cc := cX9_carryOut) (maxL := 3) (ret := (some .int)) (by decide) rfl ?_
  intro p e s m args below meth c s₁ B hml hv
  obtain ⟨rfl, hH, hK⟩ := hv
  subst hH
  have hx := B.exec
  have hb := B.bytes
  have hr := B.returns
  have hts := atoms_spec (ws := ws_ yX9_carryOut cX9_carryOut 3 (some .int)) B.pre
  have hts : ∀ w ∈ lw_all, w.before _ s = true := fun w h => hts w (List.mem_cons_of_mem _ h)
  have hown : s.vm.findClass RX9 = some m.cls := findClass_of_methodNamed B.named
  have hlk := B.notSynchronized
  have hS : va_S (fun q : Nat => kOwn D st la ea F S.length q ∨ s.heap.size ≤ q) s.heap s.heap [] := va_S.rf
  have hB : ∀ q, (fun q : Nat => kOwn D st la ea F S.length q ∨ s.heap.size ≤ q) q → kBase D ≤ q := fun q h => by (rcases h with h | h; exact hP_kState_st.ownge h; (have h2 := hK.size; exact Nat.le_trans h2 h))
  have hl := lv_entry ([.ref rd, .ref st]) (n := 3) (Nat.le_of_ble_eq_true rfl)
  rw [lg_entry_eq]
  generalize (lg_sl ([.ref rd, .ref st]) ++ List.replicate (3 - (lg_sl ([.ref rd, .ref st])).length) Slot.unset).toArray = ls at hl ⊢
  have hl : lv_has ls 3 [(0, .ref rd), (1, .ref st)] := hl
  have hks9 := hK.size
  have hL8 := hok.1
  refine kx_iconst hx hb dX9_carryOut_0 ?_
  refine lv_istore_n (lv' := [(2, .int (kI (0))), (0, .ref rd), (1, .ref st)]) hx hb dX9_carryOut_1 rfl hl (by decide) rfl (fun ls hl => ?_)
  have lp_2_x_1 : ∀ (n_2 : Nat) (k : Nat) (S1 : Ls) (gap1 : Int) (ea1 : Nat) (F1 : Fts) (f : Nat) (H : Heap) (hO_rd : kO D H rd 8 [.int (kI ((pl : Nat) : Int)), .int (kI (kb (w))), .ref oa, .int (kI ((mn : Nat) : Int)), .ref x1]) (hA_oa : kAq D H oa 6 60 go) (hP_kOl_b0 : kOl D H b0 b1 go mn t) (hP_kState_st : kState D H st la ea1 gap1 S1 F1) (hk : k ≤ mn) (hok1 : LsOK S1 gap1) (hG1 : StG S1) (hfu : t.length < f + opos t k) (hgo : tx_go t S gap = tx_from t true k f (opos t k) S1 gap1) (hob1 : ∀ q, kOwn D st la ea1 F1 S1.length q → kOwn D st la ea F S.length q ∨ s.heap.size ≤ q) (locs : List Loc) (hS : va_S (fun q : Nat => kOwn D st la ea F S.length q ∨ s.heap.size ≤ q) s.heap H locs) (hm_2 : mn - k < n_2) (ls : Array Slot), lv_has ls 3 [(0, .ref rd), (1, .ref st), (2, .int (kI ((k : Nat) : Int)))] → W p l e (headSpec (ws_ yX9_carryOut cX9_carryOut 3 (some .int)) ({ frames := 13, cells := 36132, slots := 101928, locals := 3233 } : Room)).room s m ([.ref rd, .ref st] : List Value).toArray below meth c H locs (3011 * k) (8494 * k) (MQ below (kQi (fun (r : Int) H' => ∃ (ea2 : Nat) (F2 : Fts), (r = (((tx_go t S gap).1 : Nat) : Int)) ∧ (kState D H' st la ea2 ((tx_go t S gap).2.2) ((tx_go t S gap).2.1) F2) ∧ (∀ q, kOwn D st la ea2 F2 (tx_go t S gap).2.1.length q → kOwn D st la ea F S.length q ∨ s.heap.size ≤ q)) (fun q : Nat => kOwn D st la ea F S.length q ∨ s.heap.size ≤ q)) ([.ref rd, .ref st] : List Value).toArray s (36132) (101928) ((fun q : Nat => kOwn D st la ea F S.length q ∨ s.heap.size ≤ q))) (F0 m 2 ls []) := by
    intro n_2
    induction n_2 with
    | zero => intro k S1 gap1 ea1 F1 f H hO_rd hA_oa hP_kOl_b0 hP_kState_st hk hok1 hG1 hfu hgo hob1 locs hS hm_2; exact absurd hm_2 (Nat.not_lt_zero _)
    | succ n_2 ih_2 =>
      intro k S1 gap1 ea1 F1 f H hO_rd hA_oa hP_kOl_b0 hP_kState_st hk hok1 hG1 hfu hgo hob1 locs hS hm_2 ls hl
      have hsz1 := hS.1
      refine lv_iload_n hx hb dX9_carryOut_2 rfl (lv_at hl 2 rfl) ?_
      refine lv_aload_n hx hb dX9_carryOut_3 rfl (lv_at hl 0 rfl) ?_
      refine kx_get (v := .int (kI ((mn : Nat) : Int))) (C := RX9) (T := TX9) (N := 5) hx hb hts in_X9 hown hK hO_rd rfl 3 (by decide) q1545 (fun _ h9 => h9) rfl dX9_carryOut_4 ?_
      refine kx_icmp_ge (x := ((k : Nat) : Int)) (y := ((mn : Nat) : Int)) (tgt := 31) hx hb dX9_carryOut_7 (by decide) (by omega) (by omega) (by omega) (by omega) (fun c_7_2 => ?_) (fun c_7_2 => ?_)
      · -- taken at 7
        have hfin9 : tx_go t S gap = (k, S1, gap1) := tx_from_end hgo (fun _ => by rw [show k = mn by omega, hfull]; omega)
        have hfinS : kState D H st la ea1 (tx_go t S gap).2.2 (tx_go t S gap).2.1 F1 := by rw [hfin9]; exact hP_kState_st
        refine lv_iload_n hx hb dX9_carryOut_31 rfl (lv_at hl 2 rfl) ?_
        refine W.widen (k := 36132) (n := 101928) (by omega) (by omega) ?_
        exact kx_iret (z := ((k : Nat) : Int)) hx hb hr hlk (⟨ea1, F1, by rw [hfin9], hfinS, by rw [hfin9]; exact hob1⟩) hS dX9_carryOut_32
      · -- not taken at 7
        refine lv_aload_n hx hb dX9_carryOut_10 rfl (lv_at hl 0 rfl) ?_
        refine kx_get (v := .ref oa) (C := RX9) (T := TX9) (N := 5) hx hb hts in_X9 hown hK hO_rd rfl 2 (by decide) q1544 (fun _ h9 => h9) rfl dX9_carryOut_11 ?_
        refine lv_iload_n hx hb dX9_carryOut_14 rfl (lv_at hl 2 rfl) ?_
        refine kx_aald hx hb hK (t := 6) rfl hA_oa k (rfl) (by omega) (by omega) dX9_carryOut_15 ?_
        obtain ⟨q9, hgq9, hor9⟩ := hP_kOl_b0 k (by omega)
        refine kx_eqq hx hb (b := q9) (hgq9) ?_
        have hv9 := hval k (by omega)
        have hsp9 := rdW_spec hT (rdW_true hv9)
        have hil9 := rd_lt hT hv9
        rcases hor9 with ⟨hl9, hq9⟩ | ⟨⟨hb9a, hb9b⟩, hor9⟩
        · -- all
          subst hq9
          have hLq9 := kK.l0 hK hS hB
          refine lv_aload_n hx hb dX9_carryOut_16 rfl (lv_at hl 1 rfl) ?_
          refine kx_cFb (kl_S1 (i := 15) (σ := ls_16) (vals := []) (xa := st) (rest := []) ⟨hx, hb, hml, hown, hts⟩ hK hS hB hlk rfl rfl lk_16 (List.mem_cons_of_mem _ List.mem_cons_self) (by decide +kernel) (by decide +kernel) (by decide +kernel) rfl (by decide +kernel) hLq9 rfl (m_lb_a l D H st la ea1 F1 S1 gap1 ((rdW t (opos t k)).2.2.1) ((rdW t (opos t k)).2.2.2) t hP_kState_st hok1) rfl (lw_meth q1789) rfl rfl q125 q1788 (show (parseMethodDescriptor yX9_lambda_order_0.desc).map (fun d => d.parameters.length) = some 1 by decide +kernel) q2200 (by decide +kernel) kl_ret lkd_16 lka_16 lki_16 lkr_16 (Nat.zero_le _) hl.1 (Nat.le_of_ble_eq_true rfl) dX9_carryOut_17 ⟨by first | exact Nat.le_of_ble_eq_true rfl | omega | (show _ ≤ _; omega) | (dsimp only [headSpec]; omega), by first | exact Nat.le_of_ble_eq_true rfl | omega | (show _ ≤ _; omega) | (dsimp only [headSpec]; omega)⟩ (Nat.le_of_ble_eq_true rfl) (Nat.le_of_ble_eq_true rfl)) hS (fun q _ h => by rcases h with h | h; (rcases hob1 _ h with z | z; exact Or.inl z; exact Or.inr z); exact Or.inr (by omega)) (fun q h => by rcases h with h | h; (rcases hob1 _ h with z | z; exact Or.inl z; exact Or.inr z); exact Or.inr (by omega)) (fun z_8 H_6 locs_3 hz_5 hF_7 hS_4 => ?_)
          have hzf_9 := hF_7.1
          obtain ⟨ea3, F3, hv_12, ho_13, hownq⟩ := hz_5
          subst z_8
          have hexq : (ex_one t (tsg t (opos t k)) (rdW t (opos t k)).2.2.1 (rdW t (opos t k)).2.2.2 S1 gap1) = (ex_one t 97 (rdW t (opos t k)).2.2.1 (rdW t (opos t k)).2.2.2 S1 gap1) := by rw [hl9]
          refine kx_eqbb ((ex_one t (tsg t (opos t k)) (rdW t (opos t k)).2.2.1 (rdW t (opos t k)).2.2.2 S1 gap1).1) (by rw [hexq]) ?_
          have hSx9 : kState D H_6 st la ea3 (ex_one t (tsg t (opos t k)) (rdW t (opos t k)).2.2.1 (rdW t (opos t k)).2.2.2 S1 gap1).2.2 (ex_one t (tsg t (opos t k)) (rdW t (opos t k)).2.2.1 (rdW t (opos t k)).2.2.2 S1 gap1).2.1 F3 := by rw [hexq]; exact ho_13
          have hownx : ∀ q, kOwn D st la ea3 F3 (ex_one t (tsg t (opos t k)) (rdW t (opos t k)).2.2.1 (rdW t (opos t k)).2.2.2 S1 gap1).2.1.length q → kOwn D st la ea F S.length q ∨ s.heap.size ≤ q := by rw [hexq]; intro q hq; rcases hownq q hq with z | z; exact hob1 q z; exact Or.inr (by omega)
          refine kx_ifz (tgt := 31) hx hb dX9_carryOut_22 (by decide) (fun c22 => ?_) (fun c22 => ?_)
          · -- taken at 22
            have hne9 : ¬ (ex_one t (tsg t (opos t k)) (rdW t (opos t k)).2.2.1 (rdW t (opos t k)).2.2.2 S1 gap1).1 = true := by rw [c22]; exact Bool.false_ne_true
            have hfin9 : tx_go t S gap = (k, (ex_one t (tsg t (opos t k)) (rdW t (opos t k)).2.2.1 (rdW t (opos t k)).2.2.2 S1 gap1).2.1, (ex_one t (tsg t (opos t k)) (rdW t (opos t k)).2.2.1 (rdW t (opos t k)).2.2.2 S1 gap1).2.2) := by rw [hgo, tx_from_step hfu hil9]; unfold tx_from; rw [if_neg hne9, if_neg hne9]
            have hfinS : kState D H_6 st la ea3 (tx_go t S gap).2.2 (tx_go t S gap).2.1 F3 := by rw [hfin9]; exact hSx9
            refine lv_iload_n hx hb dX9_carryOut_31 rfl (lv_at hl 2 rfl) ?_
            refine W.widen (k := 36132) (n := 101928) (by omega) (by omega) ?_
            exact kx_iret (z := ((k : Nat) : Int)) hx hb hr hlk (⟨ea3, F3, by rw [hfin9], hfinS, by rw [hfin9]; exact hownx⟩) hS_4 dX9_carryOut_32
          · -- not taken at 22
            refine lv_iinc (v := kI (((k + 1 : Nat) : Int))) (lv' := [(2, .int (kI ((k + 1 : Nat) : Int))), (0, .ref rd), (1, .ref st)]) hx hb dX9_carryOut_25 hl (k := 2) rfl (kI_incN _ _) (by decide) rfl (fun ls hl => ?_)
            refine lv_goto (tgt := 2) hx hb dX9_carryOut_28 (by decide) ?_
            have h_14 := hO_rd.fr hF_7 (fun h => by have h9 := hO_rd.lt; rcases h with h | h; (rcases hob1 _ h with z | z; exact (hob _ z).2.1 rfl; omega); omega)
            have h_15 := hA_oa.fr hF_7 (fun h => by have h9 := hA_oa.lt; rcases h with h | h; (rcases hob1 _ h with z | z; exact (hob _ z).2.2 rfl; omega); omega)
            have h_16 := hP_kOl_b0.fr hF_7 (fun x hx => by rcases hx with z | z; (rcases hob1 _ z with y | y; (have := (hob _ y).1; omega); omega); exact Or.inl z)
            refine W.widen (k := 3011 * (k + 1)) (n := 8494 * (k + 1)) (by omega) (by omega) ?_
            exact ih_2  (k + 1) ((ex_one t (tsg t (opos t k)) (rdW t (opos t k)).2.2.1 (rdW t (opos t k)).2.2.2 S1 gap1).2.1) ((ex_one t (tsg t (opos t k)) (rdW t (opos t k)).2.2.1 (rdW t (opos t k)).2.2.2 S1 gap1).2.2) ea3 F3 ((f - 1)) H_6 h_14 h_15 h_16 hSx9 (by first | assumption | omega | (simp_all; done) | grind) (ex_one_ok hok1) (hG1.one hok1 (fun z j hj => by rw [show rdW t (opos t k) = _ from rd_s z] at hj; dsimp only at hj; rw [Int.toNat_natCast] at hj; rw [show rdW t (opos t k) = _ from rd_s z]; dsimp only; rw [Int.toNat_natCast]; exact tx_cnt_dig hT 20 (opos t k + 1) j hj)) (by show _ < _ + ((rdW t (opos t k)).2.1 + 1); have := (rdW_place hT (opos t k)).1; omega) (by rw [hgo, tx_from_step hfu hil9, c22, if_pos rfl]; rfl) (hownx) _ hS_4 (by omega) ls (lv_sub hl [1, 2, 0] rfl)
        · -- made
          rcases hor9 with ⟨hl9, hdg9, ar9, gs9, ⟨ha91, ha92⟩, hLq9, hAr9, hgs9⟩ | ⟨hl9, hLq9⟩ | ⟨hl9, hLq9⟩ | ⟨hl9, hLq9⟩ | ⟨hl9, hLq9⟩ | ⟨hl9, hLq9⟩ | ⟨hl9, hLq9⟩
          · -- steps
            have hcs9 : tx_cnt t ((opos t k) + 1) 20 = 1 + tx_cnt t ((opos t k) + 1 + 1) 19 := tx_cnt_s hdg9
            have hcl9 := tx_cnt_le t 20 ((opos t k) + 1)
            have hfi9 : (rdW t (opos t k)).2.2.1 = (((opos t k) + 1 : Nat) : Int) := by omega
            have hse9 : (rdW t (opos t k)).2.2.2 = ((tx_cnt t ((opos t k) + 1) 20 : Nat) : Int) := by omega
            refine lv_aload_n hx hb dX9_carryOut_16 rfl (lv_at hl 1 rfl) ?_
            refine kx_cFb (kl_S1 (i := 5) (σ := ls_6) (vals := [.int (kI ((tx_cnt t ((opos t k) + 1) 20 : Nat) : Int)), .ref ar9]) (xa := st) (rest := []) ⟨hx, hb, hml, hown, hts⟩ hK hS hB hlk rfl rfl lk_6 (List.mem_cons_of_mem _ List.mem_cons_self) (by decide +kernel) (by decide +kernel) (by decide +kernel) rfl (by decide +kernel) hLq9 rfl (m_lb_s l D H st la ea1 F1 S1 gap1 ((tx_cnt t ((opos t k) + 1) 20)) ar9 gs9 (((opos t k) + 1)) t hP_kState_st hAr9 hok1 hG1 ((by omega)) hgs9 ((fun j hj => tx_cnt_dig hT 20 ((opos t k) + 1) j hj)) ((fun z => by rcases hob1 _ z with y | y; (have := (hob _ y).1; omega); omega))) rfl (lw_meth q1671) rfl rfl q125 q1670 (show (parseMethodDescriptor yX9_lambda_stepping_2.desc).map (fun d => d.parameters.length) = some 3 by decide +kernel) q2200 (by decide +kernel) kl_ret lkd_6 lka_6 lki_6 lkr_6 (Nat.zero_le _) hl.1 (Nat.le_of_ble_eq_true rfl) dX9_carryOut_17 ⟨by first | exact Nat.le_of_ble_eq_true rfl | omega | (show _ ≤ _; omega) | (dsimp only [headSpec]; omega), by first | exact Nat.le_of_ble_eq_true rfl | omega | (show _ ≤ _; omega) | (dsimp only [headSpec]; omega)⟩ (Nat.le_of_ble_eq_true rfl) (Nat.le_of_ble_eq_true rfl)) hS (fun q _ h => by rcases h with h | h; (rcases hob1 _ h with z | z; exact Or.inl z; exact Or.inr z); exact Or.inr (by omega)) (fun q h => by rcases h with h | h; (rcases hob1 _ h with z | z; exact Or.inl z; exact Or.inr z); exact Or.inr (by omega)) (fun z_22 H_20 locs_17 hz_19 hF_21 hS_18 => ?_)
            have hzf_23 := hF_21.1
            obtain ⟨ea3, F3, hv_26, ho_27, hownq⟩ := hz_19
            subst z_22
            have hexq : (ex_one t (tsg t (opos t k)) (rdW t (opos t k)).2.2.1 (rdW t (opos t k)).2.2.2 S1 gap1) = (ex_one t 115 (((opos t k) + 1 : Nat) : Int) ((tx_cnt t ((opos t k) + 1) 20 : Nat) : Int) S1 gap1) := by rw [hl9, hfi9, hse9]
            refine kx_eqbb ((ex_one t (tsg t (opos t k)) (rdW t (opos t k)).2.2.1 (rdW t (opos t k)).2.2.2 S1 gap1).1) (by rw [hexq]) ?_
            have hSx9 : kState D H_20 st la ea3 (ex_one t (tsg t (opos t k)) (rdW t (opos t k)).2.2.1 (rdW t (opos t k)).2.2.2 S1 gap1).2.2 (ex_one t (tsg t (opos t k)) (rdW t (opos t k)).2.2.1 (rdW t (opos t k)).2.2.2 S1 gap1).2.1 F3 := by rw [hexq]; exact ho_27
            have hownx : ∀ q, kOwn D st la ea3 F3 (ex_one t (tsg t (opos t k)) (rdW t (opos t k)).2.2.1 (rdW t (opos t k)).2.2.2 S1 gap1).2.1.length q → kOwn D st la ea F S.length q ∨ s.heap.size ≤ q := by rw [hexq]; intro q hq; rcases hownq q hq with z | z; exact hob1 q z; exact Or.inr (by omega)
            refine kx_ifz (tgt := 31) hx hb dX9_carryOut_22 (by decide) (fun c22 => ?_) (fun c22 => ?_)
            · -- taken at 22
              have hne9 : ¬ (ex_one t (tsg t (opos t k)) (rdW t (opos t k)).2.2.1 (rdW t (opos t k)).2.2.2 S1 gap1).1 = true := by rw [c22]; exact Bool.false_ne_true
              have hfin9 : tx_go t S gap = (k, (ex_one t (tsg t (opos t k)) (rdW t (opos t k)).2.2.1 (rdW t (opos t k)).2.2.2 S1 gap1).2.1, (ex_one t (tsg t (opos t k)) (rdW t (opos t k)).2.2.1 (rdW t (opos t k)).2.2.2 S1 gap1).2.2) := by rw [hgo, tx_from_step hfu hil9]; unfold tx_from; rw [if_neg hne9, if_neg hne9]
              have hfinS : kState D H_20 st la ea3 (tx_go t S gap).2.2 (tx_go t S gap).2.1 F3 := by rw [hfin9]; exact hSx9
              refine lv_iload_n hx hb dX9_carryOut_31 rfl (lv_at hl 2 rfl) ?_
              refine W.widen (k := 36132) (n := 101928) (by omega) (by omega) ?_
              exact kx_iret (z := ((k : Nat) : Int)) hx hb hr hlk (⟨ea3, F3, by rw [hfin9], hfinS, by rw [hfin9]; exact hownx⟩) hS_18 dX9_carryOut_32
            · -- not taken at 22
              refine lv_iinc (v := kI (((k + 1 : Nat) : Int))) (lv' := [(2, .int (kI ((k + 1 : Nat) : Int))), (0, .ref rd), (1, .ref st)]) hx hb dX9_carryOut_25 hl (k := 2) rfl (kI_incN _ _) (by decide) rfl (fun ls hl => ?_)
              refine lv_goto (tgt := 2) hx hb dX9_carryOut_28 (by decide) ?_
              have h_28 := hO_rd.fr hF_21 (fun h => by have h9 := hO_rd.lt; rcases h with h | h; (rcases hob1 _ h with z | z; exact (hob _ z).2.1 rfl; omega); omega)
              have h_29 := hA_oa.fr hF_21 (fun h => by have h9 := hA_oa.lt; rcases h with h | h; (rcases hob1 _ h with z | z; exact (hob _ z).2.2 rfl; omega); omega)
              have h_30 := hP_kOl_b0.fr hF_21 (fun x hx => by rcases hx with z | z; (rcases hob1 _ z with y | y; (have := (hob _ y).1; omega); omega); exact Or.inl z)
              refine W.widen (k := 3011 * (k + 1)) (n := 8494 * (k + 1)) (by omega) (by omega) ?_
              exact ih_2  (k + 1) ((ex_one t (tsg t (opos t k)) (rdW t (opos t k)).2.2.1 (rdW t (opos t k)).2.2.2 S1 gap1).2.1) ((ex_one t (tsg t (opos t k)) (rdW t (opos t k)).2.2.1 (rdW t (opos t k)).2.2.2 S1 gap1).2.2) ea3 F3 ((f - 1)) H_20 h_28 h_29 h_30 hSx9 (by first | assumption | omega | (simp_all; done) | grind) (ex_one_ok hok1) (hG1.one hok1 (fun z j hj => by rw [show rdW t (opos t k) = _ from rd_s z] at hj; dsimp only at hj; rw [Int.toNat_natCast] at hj; rw [show rdW t (opos t k) = _ from rd_s z]; dsimp only; rw [Int.toNat_natCast]; exact tx_cnt_dig hT 20 (opos t k + 1) j hj)) (by show _ < _ + ((rdW t (opos t k)).2.1 + 1); have := (rdW_place hT (opos t k)).1; omega) (by rw [hgo, tx_from_step hfu hil9, c22, if_pos rfl]; rfl) (hownx) _ hS_18 (by omega) ls (lv_sub hl [1, 2, 0] rfl)
          · -- n
            refine lv_aload_n hx hb dX9_carryOut_16 rfl (lv_at hl 1 rfl) ?_
            refine kx_cFb (kl_S1 (i := 4) (σ := ls_5) (vals := [.int (kI ((rdW t (opos t k)).2.2.1)), .int (kI ((rdW t (opos t k)).2.2.2))]) (xa := st) (rest := []) ⟨hx, hb, hml, hown, hts⟩ hK hS hB hlk rfl rfl lk_5 (List.mem_cons_of_mem _ List.mem_cons_self) (by decide +kernel) (by decide +kernel) (by decide +kernel) rfl (by decide +kernel) hLq9 rfl (m_lb_n l D H st la ea1 F1 S1 gap1 ((rdW t (opos t k)).2.2.1) ((rdW t (opos t k)).2.2.2) t hP_kState_st hok1 ((by omega)) ((by omega))) rfl (lw_meth q1650) rfl rfl q125 q1649 (show (parseMethodDescriptor yX9_lambda_beginning_1.desc).map (fun d => d.parameters.length) = some 3 by decide +kernel) q2200 (by decide +kernel) kl_ret lkd_5 lka_5 lki_5 lkr_5 (Nat.zero_le _) hl.1 (Nat.le_of_ble_eq_true rfl) dX9_carryOut_17 ⟨by first | exact Nat.le_of_ble_eq_true rfl | omega | (show _ ≤ _; omega) | (dsimp only [headSpec]; omega), by first | exact Nat.le_of_ble_eq_true rfl | omega | (show _ ≤ _; omega) | (dsimp only [headSpec]; omega)⟩ (Nat.le_of_ble_eq_true rfl) (Nat.le_of_ble_eq_true rfl)) hS (fun q _ h => by rcases h with h | h; (rcases hob1 _ h with z | z; exact Or.inl z; exact Or.inr z); exact Or.inr (by omega)) (fun q h => by rcases h with h | h; (rcases hob1 _ h with z | z; exact Or.inl z; exact Or.inr z); exact Or.inr (by omega)) (fun z_36 H_34 locs_31 hz_33 hF_35 hS_32 => ?_)
            have hzf_37 := hF_35.1
            obtain ⟨ea3, F3, hv_40, ho_41, hownq⟩ := hz_33
            subst z_36
            have hexq : (ex_one t (tsg t (opos t k)) (rdW t (opos t k)).2.2.1 (rdW t (opos t k)).2.2.2 S1 gap1) = (ex_one t 110 (rdW t (opos t k)).2.2.1 (rdW t (opos t k)).2.2.2 S1 gap1) := by rw [hl9]
            refine kx_eqbb ((ex_one t (tsg t (opos t k)) (rdW t (opos t k)).2.2.1 (rdW t (opos t k)).2.2.2 S1 gap1).1) (by rw [hexq]) ?_
            have hSx9 : kState D H_34 st la ea3 (ex_one t (tsg t (opos t k)) (rdW t (opos t k)).2.2.1 (rdW t (opos t k)).2.2.2 S1 gap1).2.2 (ex_one t (tsg t (opos t k)) (rdW t (opos t k)).2.2.1 (rdW t (opos t k)).2.2.2 S1 gap1).2.1 F3 := by rw [hexq]; exact ho_41
            have hownx : ∀ q, kOwn D st la ea3 F3 (ex_one t (tsg t (opos t k)) (rdW t (opos t k)).2.2.1 (rdW t (opos t k)).2.2.2 S1 gap1).2.1.length q → kOwn D st la ea F S.length q ∨ s.heap.size ≤ q := by rw [hexq]; intro q hq; rcases hownq q hq with z | z; exact hob1 q z; exact Or.inr (by omega)
            refine kx_ifz (tgt := 31) hx hb dX9_carryOut_22 (by decide) (fun c22 => ?_) (fun c22 => ?_)
            · -- taken at 22
              have hne9 : ¬ (ex_one t (tsg t (opos t k)) (rdW t (opos t k)).2.2.1 (rdW t (opos t k)).2.2.2 S1 gap1).1 = true := by rw [c22]; exact Bool.false_ne_true
              have hfin9 : tx_go t S gap = (k, (ex_one t (tsg t (opos t k)) (rdW t (opos t k)).2.2.1 (rdW t (opos t k)).2.2.2 S1 gap1).2.1, (ex_one t (tsg t (opos t k)) (rdW t (opos t k)).2.2.1 (rdW t (opos t k)).2.2.2 S1 gap1).2.2) := by rw [hgo, tx_from_step hfu hil9]; unfold tx_from; rw [if_neg hne9, if_neg hne9]
              have hfinS : kState D H_34 st la ea3 (tx_go t S gap).2.2 (tx_go t S gap).2.1 F3 := by rw [hfin9]; exact hSx9
              refine lv_iload_n hx hb dX9_carryOut_31 rfl (lv_at hl 2 rfl) ?_
              refine W.widen (k := 36132) (n := 101928) (by omega) (by omega) ?_
              exact kx_iret (z := ((k : Nat) : Int)) hx hb hr hlk (⟨ea3, F3, by rw [hfin9], hfinS, by rw [hfin9]; exact hownx⟩) hS_32 dX9_carryOut_32
            · -- not taken at 22
              refine lv_iinc (v := kI (((k + 1 : Nat) : Int))) (lv' := [(2, .int (kI ((k + 1 : Nat) : Int))), (0, .ref rd), (1, .ref st)]) hx hb dX9_carryOut_25 hl (k := 2) rfl (kI_incN _ _) (by decide) rfl (fun ls hl => ?_)
              refine lv_goto (tgt := 2) hx hb dX9_carryOut_28 (by decide) ?_
              have h_42 := hO_rd.fr hF_35 (fun h => by have h9 := hO_rd.lt; rcases h with h | h; (rcases hob1 _ h with z | z; exact (hob _ z).2.1 rfl; omega); omega)
              have h_43 := hA_oa.fr hF_35 (fun h => by have h9 := hA_oa.lt; rcases h with h | h; (rcases hob1 _ h with z | z; exact (hob _ z).2.2 rfl; omega); omega)
              have h_44 := hP_kOl_b0.fr hF_35 (fun x hx => by rcases hx with z | z; (rcases hob1 _ z with y | y; (have := (hob _ y).1; omega); omega); exact Or.inl z)
              refine W.widen (k := 3011 * (k + 1)) (n := 8494 * (k + 1)) (by omega) (by omega) ?_
              exact ih_2  (k + 1) ((ex_one t (tsg t (opos t k)) (rdW t (opos t k)).2.2.1 (rdW t (opos t k)).2.2.2 S1 gap1).2.1) ((ex_one t (tsg t (opos t k)) (rdW t (opos t k)).2.2.1 (rdW t (opos t k)).2.2.2 S1 gap1).2.2) ea3 F3 ((f - 1)) H_34 h_42 h_43 h_44 hSx9 (by first | assumption | omega | (simp_all; done) | grind) (ex_one_ok hok1) (hG1.one hok1 (fun z j hj => by rw [show rdW t (opos t k) = _ from rd_s z] at hj; dsimp only at hj; rw [Int.toNat_natCast] at hj; rw [show rdW t (opos t k) = _ from rd_s z]; dsimp only; rw [Int.toNat_natCast]; exact tx_cnt_dig hT 20 (opos t k + 1) j hj)) (by show _ < _ + ((rdW t (opos t k)).2.1 + 1); have := (rdW_place hT (opos t k)).1; omega) (by rw [hgo, tx_from_step hfu hil9, c22, if_pos rfl]; rfl) (hownx) _ hS_32 (by omega) ls (lv_sub hl [1, 2, 0] rfl)
          · -- l
            refine lv_aload_n hx hb dX9_carryOut_16 rfl (lv_at hl 1 rfl) ?_
            refine kx_cFb (kl_S1 (i := 12) (σ := ls_13) (vals := [.int (kI ((rdW t (opos t k)).2.2.1)), .int (kI ((rdW t (opos t k)).2.2.2))]) (xa := st) (rest := []) ⟨hx, hb, hml, hown, hts⟩ hK hS hB hlk rfl rfl lk_13 (List.mem_cons_of_mem _ List.mem_cons_self) (by decide +kernel) (by decide +kernel) (by decide +kernel) rfl (by decide +kernel) hLq9 rfl (m_lb_l l D H st la ea1 F1 S1 gap1 ((rdW t (opos t k)).2.2.1) ((rdW t (opos t k)).2.2.2) t hP_kState_st hok1 ((by omega)) ((by omega))) rfl (lw_meth q1769) rfl rfl q125 q1768 (show (parseMethodDescriptor yX9_lambda_labelling_4.desc).map (fun d => d.parameters.length) = some 3 by decide +kernel) q2200 (by decide +kernel) kl_ret lkd_13 lka_13 lki_13 lkr_13 (Nat.zero_le _) hl.1 (Nat.le_of_ble_eq_true rfl) dX9_carryOut_17 ⟨by first | exact Nat.le_of_ble_eq_true rfl | omega | (show _ ≤ _; omega) | (dsimp only [headSpec]; omega), by first | exact Nat.le_of_ble_eq_true rfl | omega | (show _ ≤ _; omega) | (dsimp only [headSpec]; omega)⟩ (Nat.le_of_ble_eq_true rfl) (Nat.le_of_ble_eq_true rfl)) hS (fun q _ h => by rcases h with h | h; (rcases hob1 _ h with z | z; exact Or.inl z; exact Or.inr z); exact Or.inr (by omega)) (fun q h => by rcases h with h | h; (rcases hob1 _ h with z | z; exact Or.inl z; exact Or.inr z); exact Or.inr (by omega)) (fun z_50 H_48 locs_45 hz_47 hF_49 hS_46 => ?_)
            have hzf_51 := hF_49.1
            obtain ⟨ea3, F3, hv_54, ho_55, hownq⟩ := hz_47
            subst z_50
            have hexq : (ex_one t (tsg t (opos t k)) (rdW t (opos t k)).2.2.1 (rdW t (opos t k)).2.2.2 S1 gap1) = (ex_one t 108 (rdW t (opos t k)).2.2.1 (rdW t (opos t k)).2.2.2 S1 gap1) := by rw [hl9]
            refine kx_eqbb ((ex_one t (tsg t (opos t k)) (rdW t (opos t k)).2.2.1 (rdW t (opos t k)).2.2.2 S1 gap1).1) (by rw [hexq]) ?_
            have hSx9 : kState D H_48 st la ea3 (ex_one t (tsg t (opos t k)) (rdW t (opos t k)).2.2.1 (rdW t (opos t k)).2.2.2 S1 gap1).2.2 (ex_one t (tsg t (opos t k)) (rdW t (opos t k)).2.2.1 (rdW t (opos t k)).2.2.2 S1 gap1).2.1 F3 := by rw [hexq]; exact ho_55
            have hownx : ∀ q, kOwn D st la ea3 F3 (ex_one t (tsg t (opos t k)) (rdW t (opos t k)).2.2.1 (rdW t (opos t k)).2.2.2 S1 gap1).2.1.length q → kOwn D st la ea F S.length q ∨ s.heap.size ≤ q := by rw [hexq]; intro q hq; rcases hownq q hq with z | z; exact hob1 q z; exact Or.inr (by omega)
            refine kx_ifz (tgt := 31) hx hb dX9_carryOut_22 (by decide) (fun c22 => ?_) (fun c22 => ?_)
            · -- taken at 22
              have hne9 : ¬ (ex_one t (tsg t (opos t k)) (rdW t (opos t k)).2.2.1 (rdW t (opos t k)).2.2.2 S1 gap1).1 = true := by rw [c22]; exact Bool.false_ne_true
              have hfin9 : tx_go t S gap = (k, (ex_one t (tsg t (opos t k)) (rdW t (opos t k)).2.2.1 (rdW t (opos t k)).2.2.2 S1 gap1).2.1, (ex_one t (tsg t (opos t k)) (rdW t (opos t k)).2.2.1 (rdW t (opos t k)).2.2.2 S1 gap1).2.2) := by rw [hgo, tx_from_step hfu hil9]; unfold tx_from; rw [if_neg hne9, if_neg hne9]
              have hfinS : kState D H_48 st la ea3 (tx_go t S gap).2.2 (tx_go t S gap).2.1 F3 := by rw [hfin9]; exact hSx9
              refine lv_iload_n hx hb dX9_carryOut_31 rfl (lv_at hl 2 rfl) ?_
              refine W.widen (k := 36132) (n := 101928) (by omega) (by omega) ?_
              exact kx_iret (z := ((k : Nat) : Int)) hx hb hr hlk (⟨ea3, F3, by rw [hfin9], hfinS, by rw [hfin9]; exact hownx⟩) hS_46 dX9_carryOut_32
            · -- not taken at 22
              refine lv_iinc (v := kI (((k + 1 : Nat) : Int))) (lv' := [(2, .int (kI ((k + 1 : Nat) : Int))), (0, .ref rd), (1, .ref st)]) hx hb dX9_carryOut_25 hl (k := 2) rfl (kI_incN _ _) (by decide) rfl (fun ls hl => ?_)
              refine lv_goto (tgt := 2) hx hb dX9_carryOut_28 (by decide) ?_
              have h_56 := hO_rd.fr hF_49 (fun h => by have h9 := hO_rd.lt; rcases h with h | h; (rcases hob1 _ h with z | z; exact (hob _ z).2.1 rfl; omega); omega)
              have h_57 := hA_oa.fr hF_49 (fun h => by have h9 := hA_oa.lt; rcases h with h | h; (rcases hob1 _ h with z | z; exact (hob _ z).2.2 rfl; omega); omega)
              have h_58 := hP_kOl_b0.fr hF_49 (fun x hx => by rcases hx with z | z; (rcases hob1 _ z with y | y; (have := (hob _ y).1; omega); omega); exact Or.inl z)
              refine W.widen (k := 3011 * (k + 1)) (n := 8494 * (k + 1)) (by omega) (by omega) ?_
              exact ih_2  (k + 1) ((ex_one t (tsg t (opos t k)) (rdW t (opos t k)).2.2.1 (rdW t (opos t k)).2.2.2 S1 gap1).2.1) ((ex_one t (tsg t (opos t k)) (rdW t (opos t k)).2.2.1 (rdW t (opos t k)).2.2.2 S1 gap1).2.2) ea3 F3 ((f - 1)) H_48 h_56 h_57 h_58 hSx9 (by first | assumption | omega | (simp_all; done) | grind) (ex_one_ok hok1) (hG1.one hok1 (fun z j hj => by rw [show rdW t (opos t k) = _ from rd_s z] at hj; dsimp only at hj; rw [Int.toNat_natCast] at hj; rw [show rdW t (opos t k) = _ from rd_s z]; dsimp only; rw [Int.toNat_natCast]; exact tx_cnt_dig hT 20 (opos t k + 1) j hj)) (by show _ < _ + ((rdW t (opos t k)).2.1 + 1); have := (rdW_place hT (opos t k)).1; omega) (by rw [hgo, tx_from_step hfu hil9, c22, if_pos rfl]; rfl) (hownx) _ hS_46 (by omega) ls (lv_sub hl [1, 2, 0] rfl)
          · -- w
            refine lv_aload_n hx hb dX9_carryOut_16 rfl (lv_at hl 1 rfl) ?_
            refine kx_cFb (kl_S1 (i := 11) (σ := ls_12) (vals := [.int (kI ((rdW t (opos t k)).2.2.1))]) (xa := st) (rest := []) ⟨hx, hb, hml, hown, hts⟩ hK hS hB hlk rfl rfl lk_12 (List.mem_cons_of_mem _ List.mem_cons_self) (by decide +kernel) (by decide +kernel) (by decide +kernel) rfl (by decide +kernel) hLq9 rfl (m_lb_w l D H st la ea1 F1 S1 gap1 ((rdW t (opos t k)).2.2.1) ((rdW t (opos t k)).2.2.2) t hP_kState_st hok1 ((by omega))) rfl (lw_meth q1745) rfl rfl q125 q1744 (show (parseMethodDescriptor yX9_lambda_wiping_3.desc).map (fun d => d.parameters.length) = some 2 by decide +kernel) q2200 (by decide +kernel) kl_ret lkd_12 lka_12 lki_12 lkr_12 (Nat.zero_le _) hl.1 (Nat.le_of_ble_eq_true rfl) dX9_carryOut_17 ⟨by first | exact Nat.le_of_ble_eq_true rfl | omega | (show _ ≤ _; omega) | (dsimp only [headSpec]; omega), by first | exact Nat.le_of_ble_eq_true rfl | omega | (show _ ≤ _; omega) | (dsimp only [headSpec]; omega)⟩ (Nat.le_of_ble_eq_true rfl) (Nat.le_of_ble_eq_true rfl)) hS (fun q _ h => by rcases h with h | h; (rcases hob1 _ h with z | z; exact Or.inl z; exact Or.inr z); exact Or.inr (by omega)) (fun q h => by rcases h with h | h; (rcases hob1 _ h with z | z; exact Or.inl z; exact Or.inr z); exact Or.inr (by omega)) (fun z_64 H_62 locs_59 hz_61 hF_63 hS_60 => ?_)
            have hzf_65 := hF_63.1
            obtain ⟨ea3, F3, hv_68, ho_69, hownq⟩ := hz_61
            subst z_64
            have hexq : (ex_one t (tsg t (opos t k)) (rdW t (opos t k)).2.2.1 (rdW t (opos t k)).2.2.2 S1 gap1) = (ex_one t 119 (rdW t (opos t k)).2.2.1 (rdW t (opos t k)).2.2.2 S1 gap1) := by rw [hl9]
            refine kx_eqbb ((ex_one t (tsg t (opos t k)) (rdW t (opos t k)).2.2.1 (rdW t (opos t k)).2.2.2 S1 gap1).1) (by rw [hexq]) ?_
            have hSx9 : kState D H_62 st la ea3 (ex_one t (tsg t (opos t k)) (rdW t (opos t k)).2.2.1 (rdW t (opos t k)).2.2.2 S1 gap1).2.2 (ex_one t (tsg t (opos t k)) (rdW t (opos t k)).2.2.1 (rdW t (opos t k)).2.2.2 S1 gap1).2.1 F3 := by rw [hexq]; exact ho_69
            have hownx : ∀ q, kOwn D st la ea3 F3 (ex_one t (tsg t (opos t k)) (rdW t (opos t k)).2.2.1 (rdW t (opos t k)).2.2.2 S1 gap1).2.1.length q → kOwn D st la ea F S.length q ∨ s.heap.size ≤ q := by rw [hexq]; intro q hq; rcases hownq q hq with z | z; exact hob1 q z; exact Or.inr (by omega)
            refine kx_ifz (tgt := 31) hx hb dX9_carryOut_22 (by decide) (fun c22 => ?_) (fun c22 => ?_)
            · -- taken at 22
              have hne9 : ¬ (ex_one t (tsg t (opos t k)) (rdW t (opos t k)).2.2.1 (rdW t (opos t k)).2.2.2 S1 gap1).1 = true := by rw [c22]; exact Bool.false_ne_true
              have hfin9 : tx_go t S gap = (k, (ex_one t (tsg t (opos t k)) (rdW t (opos t k)).2.2.1 (rdW t (opos t k)).2.2.2 S1 gap1).2.1, (ex_one t (tsg t (opos t k)) (rdW t (opos t k)).2.2.1 (rdW t (opos t k)).2.2.2 S1 gap1).2.2) := by rw [hgo, tx_from_step hfu hil9]; unfold tx_from; rw [if_neg hne9, if_neg hne9]
              have hfinS : kState D H_62 st la ea3 (tx_go t S gap).2.2 (tx_go t S gap).2.1 F3 := by rw [hfin9]; exact hSx9
              refine lv_iload_n hx hb dX9_carryOut_31 rfl (lv_at hl 2 rfl) ?_
              refine W.widen (k := 36132) (n := 101928) (by omega) (by omega) ?_
              exact kx_iret (z := ((k : Nat) : Int)) hx hb hr hlk (⟨ea3, F3, by rw [hfin9], hfinS, by rw [hfin9]; exact hownx⟩) hS_60 dX9_carryOut_32
            · -- not taken at 22
              refine lv_iinc (v := kI (((k + 1 : Nat) : Int))) (lv' := [(2, .int (kI ((k + 1 : Nat) : Int))), (0, .ref rd), (1, .ref st)]) hx hb dX9_carryOut_25 hl (k := 2) rfl (kI_incN _ _) (by decide) rfl (fun ls hl => ?_)
              refine lv_goto (tgt := 2) hx hb dX9_carryOut_28 (by decide) ?_
              have h_70 := hO_rd.fr hF_63 (fun h => by have h9 := hO_rd.lt; rcases h with h | h; (rcases hob1 _ h with z | z; exact (hob _ z).2.1 rfl; omega); omega)
              have h_71 := hA_oa.fr hF_63 (fun h => by have h9 := hA_oa.lt; rcases h with h | h; (rcases hob1 _ h with z | z; exact (hob _ z).2.2 rfl; omega); omega)
              have h_72 := hP_kOl_b0.fr hF_63 (fun x hx => by rcases hx with z | z; (rcases hob1 _ z with y | y; (have := (hob _ y).1; omega); omega); exact Or.inl z)
              refine W.widen (k := 3011 * (k + 1)) (n := 8494 * (k + 1)) (by omega) (by omega) ?_
              exact ih_2  (k + 1) ((ex_one t (tsg t (opos t k)) (rdW t (opos t k)).2.2.1 (rdW t (opos t k)).2.2.2 S1 gap1).2.1) ((ex_one t (tsg t (opos t k)) (rdW t (opos t k)).2.2.1 (rdW t (opos t k)).2.2.2 S1 gap1).2.2) ea3 F3 ((f - 1)) H_62 h_70 h_71 h_72 hSx9 (by first | assumption | omega | (simp_all; done) | grind) (ex_one_ok hok1) (hG1.one hok1 (fun z j hj => by rw [show rdW t (opos t k) = _ from rd_s z] at hj; dsimp only at hj; rw [Int.toNat_natCast] at hj; rw [show rdW t (opos t k) = _ from rd_s z]; dsimp only; rw [Int.toNat_natCast]; exact tx_cnt_dig hT 20 (opos t k + 1) j hj)) (by show _ < _ + ((rdW t (opos t k)).2.1 + 1); have := (rdW_place hT (opos t k)).1; omega) (by rw [hgo, tx_from_step hfu hil9, c22, if_pos rfl]; rfl) (hownx) _ hS_60 (by omega) ls (lv_sub hl [1, 2, 0] rfl)
          · -- u
            refine lv_aload_n hx hb dX9_carryOut_16 rfl (lv_at hl 1 rfl) ?_
            refine kx_cFb (kl_S1 (i := 13) (σ := ls_14) (vals := [.int (kI ((rdW t (opos t k)).2.2.1))]) (xa := st) (rest := []) ⟨hx, hb, hml, hown, hts⟩ hK hS hB hlk rfl rfl lk_14 (List.mem_cons_of_mem _ List.mem_cons_self) (by decide +kernel) (by decide +kernel) (by decide +kernel) rfl (by decide +kernel) hLq9 rfl (m_lb_u l D H st la ea1 F1 S1 gap1 ((rdW t (opos t k)).2.2.1) ((rdW t (opos t k)).2.2.2) t hP_kState_st hok1 ((by omega))) rfl (lw_meth q1776) rfl rfl q125 q1775 (show (parseMethodDescriptor yX9_lambda_unlabelling_5.desc).map (fun d => d.parameters.length) = some 2 by decide +kernel) q2200 (by decide +kernel) kl_ret lkd_14 lka_14 lki_14 lkr_14 (Nat.zero_le _) hl.1 (Nat.le_of_ble_eq_true rfl) dX9_carryOut_17 ⟨by first | exact Nat.le_of_ble_eq_true rfl | omega | (show _ ≤ _; omega) | (dsimp only [headSpec]; omega), by first | exact Nat.le_of_ble_eq_true rfl | omega | (show _ ≤ _; omega) | (dsimp only [headSpec]; omega)⟩ (Nat.le_of_ble_eq_true rfl) (Nat.le_of_ble_eq_true rfl)) hS (fun q _ h => by rcases h with h | h; (rcases hob1 _ h with z | z; exact Or.inl z; exact Or.inr z); exact Or.inr (by omega)) (fun q h => by rcases h with h | h; (rcases hob1 _ h with z | z; exact Or.inl z; exact Or.inr z); exact Or.inr (by omega)) (fun z_78 H_76 locs_73 hz_75 hF_77 hS_74 => ?_)
            have hzf_79 := hF_77.1
            obtain ⟨ea3, F3, hv_82, ho_83, hownq⟩ := hz_75
            subst z_78
            have hexq : (ex_one t (tsg t (opos t k)) (rdW t (opos t k)).2.2.1 (rdW t (opos t k)).2.2.2 S1 gap1) = (ex_one t 117 (rdW t (opos t k)).2.2.1 (rdW t (opos t k)).2.2.2 S1 gap1) := by rw [hl9]
            refine kx_eqbb ((ex_one t (tsg t (opos t k)) (rdW t (opos t k)).2.2.1 (rdW t (opos t k)).2.2.2 S1 gap1).1) (by rw [hexq]) ?_
            have hSx9 : kState D H_76 st la ea3 (ex_one t (tsg t (opos t k)) (rdW t (opos t k)).2.2.1 (rdW t (opos t k)).2.2.2 S1 gap1).2.2 (ex_one t (tsg t (opos t k)) (rdW t (opos t k)).2.2.1 (rdW t (opos t k)).2.2.2 S1 gap1).2.1 F3 := by rw [hexq]; exact ho_83
            have hownx : ∀ q, kOwn D st la ea3 F3 (ex_one t (tsg t (opos t k)) (rdW t (opos t k)).2.2.1 (rdW t (opos t k)).2.2.2 S1 gap1).2.1.length q → kOwn D st la ea F S.length q ∨ s.heap.size ≤ q := by rw [hexq]; intro q hq; rcases hownq q hq with z | z; exact hob1 q z; exact Or.inr (by omega)
            refine kx_ifz (tgt := 31) hx hb dX9_carryOut_22 (by decide) (fun c22 => ?_) (fun c22 => ?_)
            · -- taken at 22
              have hne9 : ¬ (ex_one t (tsg t (opos t k)) (rdW t (opos t k)).2.2.1 (rdW t (opos t k)).2.2.2 S1 gap1).1 = true := by rw [c22]; exact Bool.false_ne_true
              have hfin9 : tx_go t S gap = (k, (ex_one t (tsg t (opos t k)) (rdW t (opos t k)).2.2.1 (rdW t (opos t k)).2.2.2 S1 gap1).2.1, (ex_one t (tsg t (opos t k)) (rdW t (opos t k)).2.2.1 (rdW t (opos t k)).2.2.2 S1 gap1).2.2) := by rw [hgo, tx_from_step hfu hil9]; unfold tx_from; rw [if_neg hne9, if_neg hne9]
              have hfinS : kState D H_76 st la ea3 (tx_go t S gap).2.2 (tx_go t S gap).2.1 F3 := by rw [hfin9]; exact hSx9
              refine lv_iload_n hx hb dX9_carryOut_31 rfl (lv_at hl 2 rfl) ?_
              refine W.widen (k := 36132) (n := 101928) (by omega) (by omega) ?_
              exact kx_iret (z := ((k : Nat) : Int)) hx hb hr hlk (⟨ea3, F3, by rw [hfin9], hfinS, by rw [hfin9]; exact hownx⟩) hS_74 dX9_carryOut_32
            · -- not taken at 22
              refine lv_iinc (v := kI (((k + 1 : Nat) : Int))) (lv' := [(2, .int (kI ((k + 1 : Nat) : Int))), (0, .ref rd), (1, .ref st)]) hx hb dX9_carryOut_25 hl (k := 2) rfl (kI_incN _ _) (by decide) rfl (fun ls hl => ?_)
              refine lv_goto (tgt := 2) hx hb dX9_carryOut_28 (by decide) ?_
              have h_84 := hO_rd.fr hF_77 (fun h => by have h9 := hO_rd.lt; rcases h with h | h; (rcases hob1 _ h with z | z; exact (hob _ z).2.1 rfl; omega); omega)
              have h_85 := hA_oa.fr hF_77 (fun h => by have h9 := hA_oa.lt; rcases h with h | h; (rcases hob1 _ h with z | z; exact (hob _ z).2.2 rfl; omega); omega)
              have h_86 := hP_kOl_b0.fr hF_77 (fun x hx => by rcases hx with z | z; (rcases hob1 _ z with y | y; (have := (hob _ y).1; omega); omega); exact Or.inl z)
              refine W.widen (k := 3011 * (k + 1)) (n := 8494 * (k + 1)) (by omega) (by omega) ?_
              exact ih_2  (k + 1) ((ex_one t (tsg t (opos t k)) (rdW t (opos t k)).2.2.1 (rdW t (opos t k)).2.2.2 S1 gap1).2.1) ((ex_one t (tsg t (opos t k)) (rdW t (opos t k)).2.2.1 (rdW t (opos t k)).2.2.2 S1 gap1).2.2) ea3 F3 ((f - 1)) H_76 h_84 h_85 h_86 hSx9 (by first | assumption | omega | (simp_all; done) | grind) (ex_one_ok hok1) (hG1.one hok1 (fun z j hj => by rw [show rdW t (opos t k) = _ from rd_s z] at hj; dsimp only at hj; rw [Int.toNat_natCast] at hj; rw [show rdW t (opos t k) = _ from rd_s z]; dsimp only; rw [Int.toNat_natCast]; exact tx_cnt_dig hT 20 (opos t k + 1) j hj)) (by show _ < _ + ((rdW t (opos t k)).2.1 + 1); have := (rdW_place hT (opos t k)).1; omega) (by rw [hgo, tx_from_step hfu hil9, c22, if_pos rfl]; rfl) (hownx) _ hS_74 (by omega) ls (lv_sub hl [1, 2, 0] rfl)
          · -- b
            refine lv_aload_n hx hb dX9_carryOut_16 rfl (lv_at hl 1 rfl) ?_
            refine kx_cFb (kl_S1 (i := 14) (σ := ls_15) (vals := [.int (kI ((rdW t (opos t k)).2.2.1))]) (xa := st) (rest := []) ⟨hx, hb, hml, hown, hts⟩ hK hS hB hlk rfl rfl lk_15 (List.mem_cons_of_mem _ List.mem_cons_self) (by decide +kernel) (by decide +kernel) (by decide +kernel) rfl (by decide +kernel) hLq9 rfl (m_lb_b l D H st la ea1 F1 S1 gap1 ((rdW t (opos t k)).2.2.1) ((rdW t (opos t k)).2.2.2) t hP_kState_st hok1 ((by omega))) rfl (lw_meth q1786) rfl rfl q125 q1785 (show (parseMethodDescriptor yX9_lambda_labellingBest_6.desc).map (fun d => d.parameters.length) = some 2 by decide +kernel) q2200 (by decide +kernel) kl_ret lkd_15 lka_15 lki_15 lkr_15 (Nat.zero_le _) hl.1 (Nat.le_of_ble_eq_true rfl) dX9_carryOut_17 ⟨by first | exact Nat.le_of_ble_eq_true rfl | omega | (show _ ≤ _; omega) | (dsimp only [headSpec]; omega), by first | exact Nat.le_of_ble_eq_true rfl | omega | (show _ ≤ _; omega) | (dsimp only [headSpec]; omega)⟩ (Nat.le_of_ble_eq_true rfl) (Nat.le_of_ble_eq_true rfl)) hS (fun q _ h => by rcases h with h | h; (rcases hob1 _ h with z | z; exact Or.inl z; exact Or.inr z); exact Or.inr (by omega)) (fun q h => by rcases h with h | h; (rcases hob1 _ h with z | z; exact Or.inl z; exact Or.inr z); exact Or.inr (by omega)) (fun z_92 H_90 locs_87 hz_89 hF_91 hS_88 => ?_)
            have hzf_93 := hF_91.1
            obtain ⟨ea3, F3, hv_96, ho_97, hownq⟩ := hz_89
            subst z_92
            have hexq : (ex_one t (tsg t (opos t k)) (rdW t (opos t k)).2.2.1 (rdW t (opos t k)).2.2.2 S1 gap1) = (ex_one t 98 (rdW t (opos t k)).2.2.1 (rdW t (opos t k)).2.2.2 S1 gap1) := by rw [hl9]
            refine kx_eqbb ((ex_one t (tsg t (opos t k)) (rdW t (opos t k)).2.2.1 (rdW t (opos t k)).2.2.2 S1 gap1).1) (by rw [hexq]) ?_
            have hSx9 : kState D H_90 st la ea3 (ex_one t (tsg t (opos t k)) (rdW t (opos t k)).2.2.1 (rdW t (opos t k)).2.2.2 S1 gap1).2.2 (ex_one t (tsg t (opos t k)) (rdW t (opos t k)).2.2.1 (rdW t (opos t k)).2.2.2 S1 gap1).2.1 F3 := by rw [hexq]; exact ho_97
            have hownx : ∀ q, kOwn D st la ea3 F3 (ex_one t (tsg t (opos t k)) (rdW t (opos t k)).2.2.1 (rdW t (opos t k)).2.2.2 S1 gap1).2.1.length q → kOwn D st la ea F S.length q ∨ s.heap.size ≤ q := by rw [hexq]; intro q hq; rcases hownq q hq with z | z; exact hob1 q z; exact Or.inr (by omega)
            refine kx_ifz (tgt := 31) hx hb dX9_carryOut_22 (by decide) (fun c22 => ?_) (fun c22 => ?_)
            · -- taken at 22
              have hne9 : ¬ (ex_one t (tsg t (opos t k)) (rdW t (opos t k)).2.2.1 (rdW t (opos t k)).2.2.2 S1 gap1).1 = true := by rw [c22]; exact Bool.false_ne_true
              have hfin9 : tx_go t S gap = (k, (ex_one t (tsg t (opos t k)) (rdW t (opos t k)).2.2.1 (rdW t (opos t k)).2.2.2 S1 gap1).2.1, (ex_one t (tsg t (opos t k)) (rdW t (opos t k)).2.2.1 (rdW t (opos t k)).2.2.2 S1 gap1).2.2) := by rw [hgo, tx_from_step hfu hil9]; unfold tx_from; rw [if_neg hne9, if_neg hne9]
              have hfinS : kState D H_90 st la ea3 (tx_go t S gap).2.2 (tx_go t S gap).2.1 F3 := by rw [hfin9]; exact hSx9
              refine lv_iload_n hx hb dX9_carryOut_31 rfl (lv_at hl 2 rfl) ?_
              refine W.widen (k := 36132) (n := 101928) (by omega) (by omega) ?_
              exact kx_iret (z := ((k : Nat) : Int)) hx hb hr hlk (⟨ea3, F3, by rw [hfin9], hfinS, by rw [hfin9]; exact hownx⟩) hS_88 dX9_carryOut_32
            · -- not taken at 22
              refine lv_iinc (v := kI (((k + 1 : Nat) : Int))) (lv' := [(2, .int (kI ((k + 1 : Nat) : Int))), (0, .ref rd), (1, .ref st)]) hx hb dX9_carryOut_25 hl (k := 2) rfl (kI_incN _ _) (by decide) rfl (fun ls hl => ?_)
              refine lv_goto (tgt := 2) hx hb dX9_carryOut_28 (by decide) ?_
              have h_98 := hO_rd.fr hF_91 (fun h => by have h9 := hO_rd.lt; rcases h with h | h; (rcases hob1 _ h with z | z; exact (hob _ z).2.1 rfl; omega); omega)
              have h_99 := hA_oa.fr hF_91 (fun h => by have h9 := hA_oa.lt; rcases h with h | h; (rcases hob1 _ h with z | z; exact (hob _ z).2.2 rfl; omega); omega)
              have h_100 := hP_kOl_b0.fr hF_91 (fun x hx => by rcases hx with z | z; (rcases hob1 _ z with y | y; (have := (hob _ y).1; omega); omega); exact Or.inl z)
              refine W.widen (k := 3011 * (k + 1)) (n := 8494 * (k + 1)) (by omega) (by omega) ?_
              exact ih_2  (k + 1) ((ex_one t (tsg t (opos t k)) (rdW t (opos t k)).2.2.1 (rdW t (opos t k)).2.2.2 S1 gap1).2.1) ((ex_one t (tsg t (opos t k)) (rdW t (opos t k)).2.2.1 (rdW t (opos t k)).2.2.2 S1 gap1).2.2) ea3 F3 ((f - 1)) H_90 h_98 h_99 h_100 hSx9 (by first | assumption | omega | (simp_all; done) | grind) (ex_one_ok hok1) (hG1.one hok1 (fun z j hj => by rw [show rdW t (opos t k) = _ from rd_s z] at hj; dsimp only at hj; rw [Int.toNat_natCast] at hj; rw [show rdW t (opos t k) = _ from rd_s z]; dsimp only; rw [Int.toNat_natCast]; exact tx_cnt_dig hT 20 (opos t k + 1) j hj)) (by show _ < _ + ((rdW t (opos t k)).2.1 + 1); have := (rdW_place hT (opos t k)).1; omega) (by rw [hgo, tx_from_step hfu hil9, c22, if_pos rfl]; rfl) (hownx) _ hS_88 (by omega) ls (lv_sub hl [1, 2, 0] rfl)
          · -- g
            refine lv_aload_n hx hb dX9_carryOut_16 rfl (lv_at hl 1 rfl) ?_
            refine kx_cFb (kl_S1 (i := 16) (σ := ls_17) (vals := [.int (kI ((rdW t (opos t k)).2.2.1))]) (xa := st) (rest := []) ⟨hx, hb, hml, hown, hts⟩ hK hS hB hlk rfl rfl lk_17 (List.mem_cons_of_mem _ List.mem_cons_self) (by decide +kernel) (by decide +kernel) (by decide +kernel) rfl (by decide +kernel) hLq9 rfl (m_lb_g l D H st la ea1 F1 S1 gap1 ((rdW t (opos t k)).2.2.1) ((rdW t (opos t k)).2.2.2) t hP_kState_st hok1 ((by omega))) rfl (lw_meth q1796) rfl rfl q125 q1795 (show (parseMethodDescriptor yX9_lambda_gapping_7.desc).map (fun d => d.parameters.length) = some 2 by decide +kernel) q2200 (by decide +kernel) kl_ret lkd_17 lka_17 lki_17 lkr_17 (Nat.zero_le _) hl.1 (Nat.le_of_ble_eq_true rfl) dX9_carryOut_17 ⟨by first | exact Nat.le_of_ble_eq_true rfl | omega | (show _ ≤ _; omega) | (dsimp only [headSpec]; omega), by first | exact Nat.le_of_ble_eq_true rfl | omega | (show _ ≤ _; omega) | (dsimp only [headSpec]; omega)⟩ (Nat.le_of_ble_eq_true rfl) (Nat.le_of_ble_eq_true rfl)) hS (fun q _ h => by rcases h with h | h; (rcases hob1 _ h with z | z; exact Or.inl z; exact Or.inr z); exact Or.inr (by omega)) (fun q h => by rcases h with h | h; (rcases hob1 _ h with z | z; exact Or.inl z; exact Or.inr z); exact Or.inr (by omega)) (fun z_106 H_104 locs_101 hz_103 hF_105 hS_102 => ?_)
            have hzf_107 := hF_105.1
            obtain ⟨ea3, F3, hv_110, ho_111, hownq⟩ := hz_103
            subst z_106
            have hexq : (ex_one t (tsg t (opos t k)) (rdW t (opos t k)).2.2.1 (rdW t (opos t k)).2.2.2 S1 gap1) = (ex_one t 103 (rdW t (opos t k)).2.2.1 (rdW t (opos t k)).2.2.2 S1 gap1) := by rw [hl9]
            refine kx_eqbb ((ex_one t (tsg t (opos t k)) (rdW t (opos t k)).2.2.1 (rdW t (opos t k)).2.2.2 S1 gap1).1) (by rw [hexq]) ?_
            have hSx9 : kState D H_104 st la ea3 (ex_one t (tsg t (opos t k)) (rdW t (opos t k)).2.2.1 (rdW t (opos t k)).2.2.2 S1 gap1).2.2 (ex_one t (tsg t (opos t k)) (rdW t (opos t k)).2.2.1 (rdW t (opos t k)).2.2.2 S1 gap1).2.1 F3 := by rw [hexq]; exact ho_111
            have hownx : ∀ q, kOwn D st la ea3 F3 (ex_one t (tsg t (opos t k)) (rdW t (opos t k)).2.2.1 (rdW t (opos t k)).2.2.2 S1 gap1).2.1.length q → kOwn D st la ea F S.length q ∨ s.heap.size ≤ q := by rw [hexq]; intro q hq; rcases hownq q hq with z | z; exact hob1 q z; exact Or.inr (by omega)
            refine kx_ifz (tgt := 31) hx hb dX9_carryOut_22 (by decide) (fun c22 => ?_) (fun c22 => ?_)
            · -- taken at 22
              have hne9 : ¬ (ex_one t (tsg t (opos t k)) (rdW t (opos t k)).2.2.1 (rdW t (opos t k)).2.2.2 S1 gap1).1 = true := by rw [c22]; exact Bool.false_ne_true
              have hfin9 : tx_go t S gap = (k, (ex_one t (tsg t (opos t k)) (rdW t (opos t k)).2.2.1 (rdW t (opos t k)).2.2.2 S1 gap1).2.1, (ex_one t (tsg t (opos t k)) (rdW t (opos t k)).2.2.1 (rdW t (opos t k)).2.2.2 S1 gap1).2.2) := by rw [hgo, tx_from_step hfu hil9]; unfold tx_from; rw [if_neg hne9, if_neg hne9]
              have hfinS : kState D H_104 st la ea3 (tx_go t S gap).2.2 (tx_go t S gap).2.1 F3 := by rw [hfin9]; exact hSx9
              refine lv_iload_n hx hb dX9_carryOut_31 rfl (lv_at hl 2 rfl) ?_
              refine W.widen (k := 36132) (n := 101928) (by omega) (by omega) ?_
              exact kx_iret (z := ((k : Nat) : Int)) hx hb hr hlk (⟨ea3, F3, by rw [hfin9], hfinS, by rw [hfin9]; exact hownx⟩) hS_102 dX9_carryOut_32
            · -- not taken at 22
              refine lv_iinc (v := kI (((k + 1 : Nat) : Int))) (lv' := [(2, .int (kI ((k + 1 : Nat) : Int))), (0, .ref rd), (1, .ref st)]) hx hb dX9_carryOut_25 hl (k := 2) rfl (kI_incN _ _) (by decide) rfl (fun ls hl => ?_)
              refine lv_goto (tgt := 2) hx hb dX9_carryOut_28 (by decide) ?_
              have h_112 := hO_rd.fr hF_105 (fun h => by have h9 := hO_rd.lt; rcases h with h | h; (rcases hob1 _ h with z | z; exact (hob _ z).2.1 rfl; omega); omega)
              have h_113 := hA_oa.fr hF_105 (fun h => by have h9 := hA_oa.lt; rcases h with h | h; (rcases hob1 _ h with z | z; exact (hob _ z).2.2 rfl; omega); omega)
              have h_114 := hP_kOl_b0.fr hF_105 (fun x hx => by rcases hx with z | z; (rcases hob1 _ z with y | y; (have := (hob _ y).1; omega); omega); exact Or.inl z)
              refine W.widen (k := 3011 * (k + 1)) (n := 8494 * (k + 1)) (by omega) (by omega) ?_
              exact ih_2  (k + 1) ((ex_one t (tsg t (opos t k)) (rdW t (opos t k)).2.2.1 (rdW t (opos t k)).2.2.2 S1 gap1).2.1) ((ex_one t (tsg t (opos t k)) (rdW t (opos t k)).2.2.1 (rdW t (opos t k)).2.2.2 S1 gap1).2.2) ea3 F3 ((f - 1)) H_104 h_112 h_113 h_114 hSx9 (by first | assumption | omega | (simp_all; done) | grind) (ex_one_ok hok1) (hG1.one hok1 (fun z j hj => by rw [show rdW t (opos t k) = _ from rd_s z] at hj; dsimp only at hj; rw [Int.toNat_natCast] at hj; rw [show rdW t (opos t k) = _ from rd_s z]; dsimp only; rw [Int.toNat_natCast]; exact tx_cnt_dig hT 20 (opos t k + 1) j hj)) (by show _ < _ + ((rdW t (opos t k)).2.1 + 1); have := (rdW_place hT (opos t k)).1; omega) (by rw [hgo, tx_from_step hfu hil9, c22, if_pos rfl]; rfl) (hownx) _ hS_102 (by omega) ls (lv_sub hl [1, 2, 0] rfl)
  refine W.widen (k := 3011 * 0) (n := 8494 * 0) (by omega) (by omega) ?_
  exact lp_2_x_1 (mn - 0 + 1) 0 S gap ea F ((t.length + 1)) s.heap hO_rd hA_oa hP_kOl_b0 hP_kState_st (by first | assumption | omega | (simp_all; done) | grind) (hok) (hG) (by show _ < _ + 0; omega) (by unfold tx_from tx_go; rw [if_pos rfl]; rfl) (fun q hq => Or.inl hq) _ hS (Nat.lt_succ_self _) ls (lv_sub hl [1, 2, 0] rfl)

