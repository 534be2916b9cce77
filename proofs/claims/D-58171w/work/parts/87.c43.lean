/-! MATH 59: what a state owns; refusals -/
theorem kState.ownge {D : kG} {H : Heap} {st la ea : Nat} {gap : Int} {S : Ls} {F : Fts} (h : kState D H st la ea gap S F) {q : Nat} (hq : kOwn D st la ea F S.length q) : kBase D ≤ q := by
  obtain ⟨h1, h3, h4, h5, h6, h7, h8, h9⟩ := h
  rcases hq with e | e | ⟨e, e2⟩ | ⟨k, hk, e⟩
  · rw [e]; exact h7
  · rw [e]; exact h8
  · rw [e]; exact e2
  · have := h9 k hk
    rcases e with e | e | e <;> rw [e]
    · exact this.1
    · exact this.2.1
    · exact this.2.2
theorem kState.ownty {D : kG} {H : Heap} {st la ea : Nat} {gap : Int} {S : Ls} {F : Fts} (h : kState D H st la ea gap S F) (hx : ¬ kBase D ≤ D.2.2.2 2) {q : Nat} (hq : kOwn D st la ea F S.length q) : kTy D H q := by
  obtain ⟨⟨h1, mc, h2⟩, h3, h4, h5⟩ := h
  rcases hq with e | e | ⟨e, e2⟩ | ⟨k, hk, e⟩
  · rw [e]; exact Or.inl ⟨1, _, by decide, by decide, by decide, h1⟩
  · rw [e]; exact Or.inl ⟨9, _, by decide, by decide, by decide, h2⟩
  · rw [e]
    rcases h3 with ⟨-, z⟩ | ⟨-, -, g, z, -⟩
    · rw [z] at e2; exact absurd e2 hx
    · exact Or.inr ⟨4, _, by decide, z⟩
  · have := (h4 k hk).tyA
    rcases e with e | e | e <;> rw [e]
    · exact this.1
    · exact this.2.1
    · exact this.2.2
theorem kOwn_erase {D : kG} {st la ea i n q : Nat} {F : Fts} (hi : i < n) (h : kOwn D st la ea (F.eraseIdx i) (n - 1) q) : kOwn D st la ea F n q := by
  rcases h with e | e | e | ⟨k, hk, e⟩
  · exact Or.inl e
  · exact Or.inr (Or.inl e)
  · exact Or.inr (Or.inr (Or.inl e))
  · have := fA_erase F i k
    rw [this.1, this.2.1, this.2.2] at e
    exact Or.inr (Or.inr (Or.inr ⟨_, by split <;> omega, e⟩))
theorem st_labTo_nn (S : Ls) : ∀ i : Nat, 0 ≤ st_labTo S i ∧ st_labTo S i ≤ i := by
  intro i
  induction i with
  | zero => simp [st_labTo]
  | succ i ih => rw [st_labTo]; split <;> omega
theorem st_lab_nn (S : Ls) : 0 ≤ st_lab S ∧ st_lab S ≤ S.length := st_labTo_nn S _
theorem ref_b_n {S : Ls} {x y : Int} (hx : 0 ≤ x ∧ x ≤ 99) (hy : 0 ≤ y ∧ y ≤ 383) (h : ¬ ref_b S x y = 0) : S.length = 8 ∨ st_owner S y ≠ -1 := by
  unfold ref_b at h
  rw [if_neg (by omega), if_neg (by omega)] at h
  by_cases c : S.length = 8 ∨ st_owner S y ≠ -1
  · exact c
  · rw [if_neg c] at h; exact absurd rfl h
theorem ref_w_n {S : Ls} {x : Int} (hx : 0 ≤ x) (h : ¬ ref_w S x = 0) : S.length ≤ x.toNat := by
  unfold ref_w at h
  by_cases c : 0 ≤ x ∧ x < S.length
  · rw [if_pos c] at h; exact absurd rfl h
  · omega
theorem ref_l_n {S : Ls} {gap x y : Int} (hx : 0 ≤ x) (hy : 0 ≤ y) (h : ¬ ref_l S gap x y = 0) : S.length ≤ x.toNat ∨ (ln_n (st_ln S x.toNat) < y.toNat ∨ st_whyL S gap x.toNat y.toNat ≠ 0) := by
  unfold ref_l at h
  by_cases c : 0 ≤ x ∧ x < S.length
  · rw [if_neg (by omega)] at h
    by_cases c2 : 0 ≤ y ∧ y ≤ ln_n (st_ln S x.toNat)
    · rw [if_neg (by omega)] at h
      by_cases c3 : st_whyL S gap x.toNat y.toNat > 0
      · exact Or.inr (Or.inr (by omega))
      · rw [if_neg c3] at h; exact absurd rfl h
    · exact Or.inr (Or.inl (by omega))
  · exact Or.inl (by omega)
theorem ref_u_n {S : Ls} {x : Int} (hx : 0 ≤ x) (h : ¬ ref_u S x = 0) : S.length ≤ x.toNat ∨ ln_lb (st_ln S x.toNat) = -1 := by
  unfold ref_u at h
  by_cases c : 0 ≤ x ∧ x < S.length
  · rw [if_neg (by omega)] at h
    by_cases c2 : ln_lb (st_ln S x.toNat) = -1
    · exact Or.inr c2
    · rw [if_neg c2] at h; exact absurd rfl h
  · exact Or.inl (by omega)
theorem ref_best_n {S : Ls} {gap x : Int} (hx : 0 ≤ x) (h : ¬ ref_best S gap x = 0) : S.length ≤ x.toNat ∨ st_best S gap x.toNat = -1 := by
  unfold ref_best at h
  by_cases c : 0 ≤ x ∧ x < S.length
  · rw [if_neg (by omega)] at h
    by_cases c2 : st_best S gap x.toNat = -1
    · exact Or.inr c2
    · rw [if_neg c2] at h; exact absurd rfl h
  · exact Or.inl (by omega)
theorem ref_s_iff {S : Ls} {d : Int} (hS : 0 < S.length) (hd : 0 ≤ d ∧ d ≤ 7) : ref_s S ((S.length : Int) - 1) d = 0 ↔ st_whyNot S (S.length - 1) d = 0 := by
  unfold ref_s
  rw [if_neg (by omega), if_neg (by omega), show ((S.length : Int) - 1).toNat = S.length - 1 by omega]
  have := st_whyNot_rng S (S.length - 1) d
  by_cases c : st_whyNot S (S.length - 1) d > 0
  · rw [if_pos c]; omega
  · rw [if_neg c]; omega
theorem StG.clTo {S : Ls} (h : StG S) : ∀ i : Nat, i ≤ S.length → StG (st_clTo S i) := by
  intro i
  induction i with
  | zero => intro _; exact h
  | succ i ih => intro hi; rw [st_clTo]; exact (ih (by omega)).set (by rw [st_clTo_len]; omega) rfl rfl
theorem StG.laTo {S : Ls} {gap : Int} (h : StG S) (hok : LsOK S gap) : ∀ i : Nat, i ≤ S.length → StG (st_laTo S gap i) := by
  intro i
  induction i with
  | zero => intro _; exact h.clTo _ (Nat.le_refl _)
  | succ i ih =>
    intro hi
    have hb := st_la_byLv hok (i := i) (by omega)
    rw [st_laTo, hb.1, Int.toNat_natCast]
    exact (ih (by omega)).set (by rw [st_laTo_len]; exact hb.2) rfl rfl
theorem StG.la {S : Ls} {gap : Int} (h : StG S) (hok : LsOK S gap) : StG (st_la S gap) := h.laTo hok _ (Nat.le_refl _)
theorem StG.one {S : Ls} {gap : Int} {t : List Int} {le fi se : Int} (h : StG S) (hok : LsOK S gap) (hr : le = 115 → ∀ j, j < se.toNat → 48 ≤ tsg t (fi.toNat + j) ∧ tsg t (fi.toNat + j) ≤ 55) : StG (ex_one t le fi se S gap).2.1 := by
  have hst : ∀ (c k : Nat) (S : Ls), StG S → LsOK S gap → (∀ j, j < c → 48 ≤ tsg t (k + j) ∧ tsg t (k + j) ≤ 55) → StG (ex_st t c k S).2 := by
    intro c
    induction c with
    | zero => intro k S h _ _; exact h
    | succ c ih =>
      intro k S h hok hr
      rw [ex_st]
      split
      · rename_i q
        have h1 := ref_s_0 hok q
        have h0 := hr 0 (by omega)
        rw [Nat.add_zero] at h0
        have h2 := hok.exSt q
        rw [show ((S.length : Int) - 1).toNat = S.length - 1 by omega] at h2
        have h3 := (ref_s_iff (S := S) (by omega) (by omega)).mp q
        refine ih _ _ (h.step hok (by omega) (by omega) h3) h2 (fun j hj => ?_)
        have := hr (j + 1) (by omega)
        rwa [show k + (j + 1) = k + 1 + j by omega] at this
      · exact h
  rw [ex_one]
  split
  · rename_i hle
    split
    · exact hst _ _ _ h hok (hr hle)
    · exact h
  · split
    · split
      · rename_i q
        obtain ⟨h1, h2, h3, h4⟩ := ref_b_0 hok q
        exact h.push h4
      · exact h
    · split
      · split
        · rename_i q
          have h1 := ref_w_0 q
          exact h.erase (by omega)
        · exact h
      · split
        · split
          · rename_i q
            obtain ⟨h1, h2, h3, h4⟩ := ref_l_0 q
            exact h.set (by omega) rfl rfl
          · exact h
        · split
          · split
            · rename_i q
              obtain ⟨h1, h2⟩ := ref_u_0 q
              exact h.set (by omega) rfl rfl
            · exact h
          · split
            · split
              · rename_i q
                obtain ⟨h1, h2⟩ := ref_best_0 q
                exact h.set (by omega) rfl rfl
              · exact h
            · split
              · exact h.la hok
              · split
                · exact h
                · exact h
theorem st_la_len (S : Ls) (gap : Int) : (st_la S gap).length = S.length := st_laTo_len S gap _
set_option maxHeartbeats 4000000 in
set_option maxRecDepth 100000 in
theorem m_X9_init (l : Launch) (D : kG) (H : Heap) (rd : Nat) (x1 : Nat) (hO_rd : kO D H rd 8 [.int (kI (0)), .int (kI (kb (false))), .null, .int (kI (0)), .null]) (bs_rd : kBase D ≤ rd) : Met l yX9_init (ws_ yX9_init cX9_init 2 none) ({ frames := 1, cells := 1, slots := 60, locals := 20 } : Room) (kPre D H [.ref rd, .ref x1]) (kQv (fun H' => ∃ (oa : Nat), (kO D H' rd 8 [.int (kI (0)), .int (kI (kb (false))), .ref oa, .int (kI (0)), .ref x1]) ∧ (kAq D H' oa 6 60 ((fun _ => none))) ∧ (H.size ≤ oa)) (fun q : Nat => q = rd ∨ H.size ≤ q)) (1) (60) ((fun q : Nat => q = rd ∨ H.size ≤ q)) := by
  refine Met.ofW (cc := cX9_init) (maxL := 2) (ret := none) (by decide) rfl ?_
  intro p e s m args below meth c s₁ B hml hv
  obtain ⟨rfl, hH, hK⟩ := hv
  subst hH
  have hx := B.exec
  have hb := B.bytes
  have hr := B.returns
  have hts := atoms_spec (ws := ws_ yX9_init cX9_init 2 none) B.pre
  have hts : ∀ w ∈ lw_all, w.before _ s = true := fun w h => hts w (List.mem_cons_of_mem _ h)
  have hown : s.vm.findClass RX9 = some m.cls := findClass_of_methodNamed B.named
  have hlk := B.notSynchronized
  have hin : meth.name = "<init>" := (name_of_methodNamed B.named B.method).1
  have hS : va_S (fun q : Nat => q = rd ∨ s.heap.size ≤ q) s.heap s.heap [] := va_S.rf
  have hB : ∀ q, (fun q : Nat => q = rd ∨ s.heap.size ≤ q) q → kBase D ≤ q := fun q h => by (try dsimp only at h); (try simp only [kNW] at h); have hks := hK.size; omega
  have hl := lv_entry ([.ref rd, .ref x1]) (n := 2) (Nat.le_of_ble_eq_true rfl)
  rw [lg_entry_eq]
  generalize (lg_sl ([.ref rd, .ref x1]) ++ List.replicate (2 - (lg_sl ([.ref rd, .ref x1])).length) Slot.unset).toArray = ls at hl ⊢
  have hl : lv_has ls 2 [(0, .ref rd), (1, .ref x1)] := hl
  have hltrd := hO_rd.lt
  refine lv_aload_n hx hb dX9_init_0 rfl (lv_at hl 0 rfl) ?_
  refine lv_aload_n hx hb dX9_init_1 rfl (lv_at hl 1 rfl) ?_
  refine kx_putF (v := .ref x1) (C := RX9) (T := TX9) (N := 5) hx hb hts in_X9 hown hK hO_rd rfl 4 (by decide) tyX9 tyX9_ok nmX9 hS (by first | rfl | exact Or.inl rfl | exact Or.inr rfl | exact Or.inr (Or.inl rfl) | exact Or.inr (Or.inr rfl) | exact Or.inr (Or.inr (Or.inl rfl)) | exact Or.inr (Or.inr (Or.inr rfl)) | ((try dsimp only); (try simp only [kNW]); omega)) q1546 (fun _ h9 => h9) rfl hin rfl rfl rfl rfl (Nat.le_of_ble_eq_true rfl) dX9_init_2 (fun H_3 locs_4 hO_2 hU_1 hS_5 => ?_)
  have hO_2 : kO D H_3 rd 8 [.int (kI (0)), .int (kI (kb (false))), .null, .int (kI (0)), .ref x1] := hO_2
  have hzu_6 := hU_1.1
  refine lv_aload_n hx hb dX9_init_5 rfl (lv_at hl 0 rfl) ?_
  refine W.objInit hx hb hown (hts _ q1538) (hts _ q133) (hts _ q134) rfl (by rw [hml]; exact hl.1) rfl dX9_init_6 (Nat.le_of_ble_eq_true rfl) (Nat.le_of_ble_eq_true rfl) ?_
  refine W.eq (g2 := F0 m 9 ls []) rfl ?_
  refine lv_aload_n hx hb dX9_init_9 rfl (lv_at hl 0 rfl) ?_
  refine kx_bipush hx hb (by decide) dX9_init_10 ?_
  refine kx_anew (t := 6) (N' := 60) hx hb hts hown q1539 hK (by decide) rfl hS_5 (by first | rfl | omega) (by omega) (by first | exact Nat.le_of_ble_eq_true rfl | omega | (show _ ≤ _; omega) | (dsimp only [headSpec]; omega)) (by first | exact Nat.le_of_ble_eq_true rfl | omega | (show _ ≤ _; omega) | (dsimp only [headSpec]; omega)) dX9_init_12 (fun oa H_7 hq_8 hz_9 hA_10 hE_11 hS_12 => ?_)
  have hge_oa : s.heap.size ≤ oa := by rw [hq_8]; exact hS_5.1
  refine W.widen (k := 1) (n := 60) (Nat.le_of_ble_eq_true rfl) (Nat.le_of_ble_eq_true rfl) ?_
  have h_13 := hO_2.ex hE_11
  refine kx_putF (v := .ref oa) (C := RX9) (T := TX9) (N := 5) hx hb hts in_X9 hown hK h_13 rfl 2 (by decide) tyX9 tyX9_ok nmX9 hS_12 (by first | rfl | exact Or.inl rfl | exact Or.inr rfl | exact Or.inr (Or.inl rfl) | exact Or.inr (Or.inr rfl) | exact Or.inr (Or.inr (Or.inl rfl)) | exact Or.inr (Or.inr (Or.inr rfl)) | ((try dsimp only); (try simp only [kNW]); omega)) q1544 (fun _ h9 => h9) rfl hin rfl rfl rfl rfl (Nat.le_of_ble_eq_true rfl) dX9_init_15 (fun H_16 locs_17 hO_15 hU_14 hS_18 => ?_)
  have hO_15 : kO D H_16 rd 8 [.int (kI (0)), .int (kI (kb (false))), .ref oa, .int (kI (0)), .ref x1] := hO_15
  have hzu_19 := hU_14.1
  have h_20 := hA_10.up hU_14 (by first | assumption | exact Ne.symm (by assumption)  | omega | (have h9 := hA_10.lt; omega))
  exact kx_vret hx hb hr hlk (⟨oa, hO_15, h_20, by first | assumption | rfl | omega | grind⟩) hS_18 dX9_init_18

set_option maxHeartbeats 4000000 in
set_option maxRecDepth 100000 in
theorem m_X9_readAll (l : Launch) (D : kG) (H : Heap) (rd : Nat) (oa : Nat) (x1 : Nat) (st : Nat) (snp : Option Nat) (hi : Nat) (bu : Nat) (vb : Nat) (ml : Bool) (cap : Nat) (g : Nat → Int) (t : List Int) (go : Nat → Option Nat) (b0 : Nat) (hO_rd : kO D H rd 8 [.int (kI (0)), .int (kI (kb (false))), .ref oa, .int (kI (0)), .ref x1]) (hO_x1 : kO D H x1 0 [.ref st, va_rf (snp), .ref hi, .ref bu]) (hO_bu : kO D H bu 11 [.ref vb, .int (kI (0)), .int (kI (kb (ml))), .int (kI ((t.length : Nat) : Int))]) (hA_vb : kAb D H vb cap g) (hA_oa : kAq D H oa 6 60 go) (hT : MTx g t) (ht60 : t.length ≤ 60) (hcap : t.length ≤ cap) (hc9 : cap ≤ 1000) (ne_rd_oa : rd ≠ oa) (ne_oa : x1 ≠ oa ∧ bu ≠ oa ∧ vb ≠ oa) (bs_rd : kBase D ≤ rd) (bs_oa : kBase D ≤ oa) (hb0 : rd < b0 ∧ oa < b0 ∧ b0 ≤ H.size) : Met l yX9_readAll (ws_ yX9_readAll cX9_readAll 1 (some .boolean)) ({ frames := 9, cells := 64, slots := 704, locals := 3146 } : Room) (kPre D H [.ref rd]) (kQb (fun (r : Bool) H' => ∃ (mn2 : Nat) (go2 : Nat → Option Nat) (b2 : Nat), (r = (tx_all t).1) ∧ (kO D H' rd 8 [.int (kI (((tx_all t).2 : Nat) : Int)), .int (kI (kb (!(tx_all t).1))), .ref oa, .int (kI ((mn2 : Nat) : Int)), .ref x1]) ∧ (kAq D H' oa 6 60 go2) ∧ (kOl D H' b0 b2 go2 mn2 t) ∧ (b0 ≤ b2 ∧ b2 ≤ H'.size) ∧ (2 * mn2 ≤ t.length + 1) ∧ (∀ k, k < mn2 → (rdW t (opos t k)).1 = true) ∧ ((tx_all t).1 = true → opos t mn2 = t.length + 1)) (fun q : Nat => q = rd ∨ q = oa ∨ H.size ≤ q)) (64) (704) ((fun q : Nat => q = rd ∨ q = oa ∨ H.size ≤ q)) := by
  refine Met.ofW (cc := cX9_readAll) (maxL := 1) (ret := (some .boolean)) (by decide) rfl ?_
  intro p e s m args below meth c s₁ B hml hv
  obtain ⟨rfl, hH, hK⟩ := hv
  subst hH
  have hx := B.exec
  have hb := B.bytes
  have hr := B.returns
  have hts := atoms_spec (ws := ws_ yX9_readAll cX9_readAll 1 (some .boolean)) B.pre
  have hts : ∀ w ∈ lw_all, w.before _ s = true := fun w h => hts w (List.mem_cons_of_mem _ h)
  have hown : s.vm.findClass RX9 = some m.cls := findClass_of_methodNamed B.named
  have hlk := B.notSynchronized
  have hS : va_S (fun q : Nat => q = rd ∨ q = oa ∨ s.heap.size ≤ q) s.heap s.heap [] := va_S.rf
  have hB : ∀ q, (fun q : Nat => q = rd ∨ q = oa ∨ s.heap.size ≤ q) q → kBase D ≤ q := fun q h => by (have h9 := hK.size; rcases h with h | h | h; (rw [h]; exact bs_rd); (rw [h]; exact bs_oa); omega)
  have hl := lv_entry ([.ref rd]) (n := 1) (Nat.le_of_ble_eq_true rfl)
  rw [lg_entry_eq]
  generalize (lg_sl ([.ref rd]) ++ List.replicate (1 - (lg_sl ([.ref rd])).length) Slot.unset).toArray = ls at hl ⊢
  have hl : lv_has ls 1 [(0, .ref rd)] := hl
  have hd9 := hK.dis
  have ne_x1_rd : x1 ≠ rd := kO_ne hd9 hO_x1 hO_rd (by decide) (by decide) (by decide)
  have ne_bu_rd : bu ≠ rd := kO_ne hd9 hO_bu hO_rd (by decide) (by decide) (by decide)
  have ne_rd_vb : rd ≠ vb := kOA_ne hd9 hO_rd hA_vb (by decide) (by decide)
  have hltx1 := hO_x1.lt
  have hltrd := hO_rd.lt
  have hltbu := hO_bu.lt
  have hltvb := hA_vb.lt
  have hltoa := hA_oa.lt
  have hpl0 := rdW_place hT 0
  have hOl0 : kOl D s.heap b0 b0 go 0 t := fun k hk => absurd hk (Nat.not_lt_zero k)
  refine lv_aload_n hx hb dX9_readAll_0 rfl (lv_at hl 0 rfl) ?_
  refine kx_cv (va_runV (As := []) (rest := []) ⟨hx, hb, hml, hown, hts⟩ (m_X9_order l D s.heap rd 0 oa 0 x1 st snp hi bu vb ml cap g t go b0 b0 hO_rd hO_x1 hO_bu hA_vb hA_oa hOl0 (by first | assumption | omega) (by first | assumption | omega) (by first | assumption | omega) (by first | assumption | omega) (by first | assumption | omega) ne_rd_oa bs_rd bs_oa ((by omega)) rfl ((by omega))) (cwV 0 hts (lw_V q1562 q1564 qs19 q125 q1565) rfl rfl rfl (by decide +kernel) ⟨Nat.le_of_ble_eq_true rfl, Nat.le_of_ble_eq_true rfl⟩) (kx_pv hK hS hB (kx_rc hK hO_rd (C := RX9) (T := TX9) (N := 5) rfl)) rfl rfl hl.1 rfl (lv_room (Nat.le_of_ble_eq_true rfl)) dX9_readAll_1 ⟨by first | exact Nat.le_of_ble_eq_true rfl | omega | (show _ ≤ _; omega) | (dsimp only [headSpec]; omega), by first | exact Nat.le_of_ble_eq_true rfl | omega | (show _ ≤ _; omega) | (dsimp only [headSpec]; omega)⟩) hS (fun q _ h => by rcases h with h | h | h; exact Or.inl h; exact Or.inr (Or.inl h); exact Or.inr (Or.inr (by omega))) (fun q h => by rcases h with h | h | h; exact Or.inl h; exact Or.inr (Or.inl h); exact Or.inr (Or.inr (by omega))) (fun H_4 locs_1 hz_3 hF_5 hS_2 => ?_)
  have hzf_7 := hF_5.1
  refine W.widen (k := 2) (n := 22) (Nat.le_of_ble_eq_true rfl) (Nat.le_of_ble_eq_true rfl) ?_
  obtain ⟨mn2_8, go2_9, b2_10, ho_11, ho_12, ho_13, hmx, hbx9⟩ := hz_3
  have lp_4_x_14 : ∀ (n_4 : Nat) (i : Nat) (wd : Bool) (mn : Nat) (go : Nat → Option Nat) (b1 : Nat) (f : Nat) (cq : Nat) (H : Heap) (hO_rd : kO D H rd 8 [.int (kI ((i : Nat) : Int)), .int (kI (kb (!wd))), .ref oa, .int (kI ((mn : Nat) : Int)), .ref x1]) (hO_x1 : kO D H x1 0 [.ref st, va_rf (snp), .ref hi, .ref bu]) (hO_bu : kO D H bu 11 [.ref vb, .int (kI (0)), .int (kI (kb (ml))), .int (kI ((t.length : Nat) : Int))]) (hA_vb : kAb D H vb cap g) (hA_oa : kAq D H oa 6 60 go) (hP_kOl_b0 : kOl D H b0 b1 go mn t) (hiI : i ≤ t.length) (hfl : wd = true → t.length - i < f) (hf : tx_all t = tx_lp t f wd i) (hmnI : 2 * mn ≤ i + 1) (hops : wd = true → i + 1 = opos t mn) (hval : ∀ k, k < mn → (rdW t (opos t k)).1 = true) (hc : cq ≤ mn + 1 ∧ (wd = true → cq ≤ mn)) (hbb : b0 ≤ b1 ∧ b1 ≤ H.size) (locs : List Loc) (hS : va_S (fun q : Nat => q = rd ∨ q = oa ∨ s.heap.size ≤ q) s.heap H locs) (hm_4 : f < n_4) (ls : Array Slot), lv_has ls 1 [(0, .ref rd)] → W p l e (headSpec (ws_ yX9_readAll cX9_readAll 1 (some .boolean)) ({ frames := 9, cells := 64, slots := 704, locals := 3146 } : Room)).room s m ([.ref rd] : List Value).toArray below meth c H locs (2 * cq) (22 * cq) (MQ below (kQb (fun (r : Bool) H' => ∃ (mn2 : Nat) (go2 : Nat → Option Nat) (b2 : Nat), (r = (tx_all t).1) ∧ (kO D H' rd 8 [.int (kI (((tx_all t).2 : Nat) : Int)), .int (kI (kb (!(tx_all t).1))), .ref oa, .int (kI ((mn2 : Nat) : Int)), .ref x1]) ∧ (kAq D H' oa 6 60 go2) ∧ (kOl D H' b0 b2 go2 mn2 t) ∧ (b0 ≤ b2 ∧ b2 ≤ H'.size) ∧ (2 * mn2 ≤ t.length + 1) ∧ (∀ k, k < mn2 → (rdW t (opos t k)).1 = true) ∧ ((tx_all t).1 = true → opos t mn2 = t.length + 1)) (fun q : Nat => q = rd ∨ q = oa ∨ s.heap.size ≤ q)) ([.ref rd] : List Value).toArray s (64) (704) ((fun q : Nat => q = rd ∨ q = oa ∨ s.heap.size ≤ q))) (F0 m 4 ls []) := by
    intro n_4
    induction n_4 with
    | zero => intro i wd mn go b1 f cq H hO_rd hO_x1 hO_bu hA_vb hA_oa hP_kOl_b0 hiI hfl hf hmnI hops hval hc hbb locs hS hm_4; exact absurd hm_4 (Nat.not_lt_zero _)
    | succ n_4 ih_4 =>
      intro i wd mn go b1 f cq H hO_rd hO_x1 hO_bu hA_vb hA_oa hP_kOl_b0 hiI hfl hf hmnI hops hval hc hbb locs hS hm_4 ls hl
      have hcoI := csg_or t i
      have hcrI := hT.cr i
      have hsz1 := hS.1
      refine lv_aload_n hx hb dX9_readAll_4 rfl (lv_at hl 0 rfl) ?_
      refine kx_get (v := .int (kI (kb (!wd)))) (C := RX9) (T := TX9) (N := 5) hx hb hts in_X9 hown hK hO_rd rfl 1 (by decide) q1543 (fun _ h9 => h9) rfl dX9_readAll_5 ?_
      refine kx_ifnz (tgt := 48) hx hb dX9_readAll_8 (by decide) (fun c_8_15 => ?_) (fun c_8_15 => ?_)
      · -- taken at 8
        have hal : tx_all t = (wd, i) := hf.trans (tx_lp_stop t f wd i (by rintro ⟨z1, z2⟩; first | omega | simp_all))
        have hfin : kO D H rd 8 [.int (kI (((tx_all t).2 : Nat) : Int)), .int (kI (kb (!(tx_all t).1))), .ref oa, .int (kI ((mn : Nat) : Int)), .ref x1] := by rw [hal]; exact hO_rd
        refine lv_aload_n hx hb dX9_readAll_48 rfl (lv_at hl 0 rfl) ?_
        refine kx_get (v := .int (kI (kb (!wd)))) (C := RX9) (T := TX9) (N := 5) hx hb hts in_X9 hown hK hO_rd rfl 1 (by decide) q1543 (fun _ h9 => h9) rfl dX9_readAll_49 ?_
        refine kx_ifnz (tgt := 59) hx hb dX9_readAll_52 (by decide) (fun c_52_16 => ?_) (fun c_52_16 => ?_)
        · -- taken at 52
          refine kx_iconst hx hb dX9_readAll_59 ?_
          refine W.widen (k := 64) (n := 704) (by omega) (by omega) ?_
          exact kx_zret (z := false) hx hb hr hlk (⟨mn, go, b1, by rw [hal]; revert hal; cases wd <;> simp_all, hfin, hA_oa, hP_kOl_b0, by first | assumption | rfl | omega | grind, by omega, by exact hval, by intro hz; rw [hal] at hz; have h8 := tx_all_end hT (by rw [hal]; exact hz); rw [hal] at h8; have h8 : i = t.length := h8; have h7 := hops hz; omega⟩) hS dX9_readAll_60
        · -- not taken at 52
          refine kx_iconst hx hb dX9_readAll_55 ?_
          refine lv_goto (tgt := 60) hx hb dX9_readAll_56 (by decide) ?_
          refine W.widen (k := 64) (n := 704) (by omega) (by omega) ?_
          exact kx_zret (z := true) hx hb hr hlk (⟨mn, go, b1, by rw [hal]; revert hal; cases wd <;> simp_all, hfin, hA_oa, hP_kOl_b0, by first | assumption | rfl | omega | grind, by omega, by exact hval, by intro hz; rw [hal] at hz; have h8 := tx_all_end hT (by rw [hal]; exact hz); rw [hal] at h8; have h8 : i = t.length := h8; have h7 := hops hz; omega⟩) hS dX9_readAll_60
      · -- not taken at 8
        refine lv_aload_n hx hb dX9_readAll_11 rfl (lv_at hl 0 rfl) ?_
        refine kx_get (v := .int (kI ((i : Nat) : Int))) (C := RX9) (T := TX9) (N := 5) hx hb hts in_X9 hown hK hO_rd rfl 0 (by decide) q1541 (fun _ h9 => h9) rfl dX9_readAll_12 ?_
        refine lv_aload_n hx hb dX9_readAll_15 rfl (lv_at hl 0 rfl) ?_
        refine kx_get (v := .ref x1) (C := RX9) (T := TX9) (N := 5) hx hb hts in_X9 hown hK hO_rd rfl 4 (by decide) q1546 (fun _ h9 => h9) rfl dX9_readAll_16 ?_
        refine kx_getN (v := .ref bu) (C := RX1) (T := TX1) (N := 4) hx hb hts in_X1 hown hK hO_x1 rfl 3 (by decide) (hK.w q232 rfl) (fun _ h9 => h9) rfl dX9_readAll_19 ?_
        refine kx_ci0 (va_runV (As := []) (rest := [.int (kI ((i : Nat) : Int))]) ⟨hx, hb, hml, hown, hts⟩ (m_J5_length l D H bu vb ml t.length hO_bu ) (cwV 0 hts (lw_V q1570 q1293 q1294 q86 q1295) rfl rfl rfl (by decide +kernel) ⟨Nat.le_of_ble_eq_true rfl, Nat.le_of_ble_eq_true rfl⟩) (kx_pv hK hS hB (kx_rc hK hO_bu (C := RJ5) (T := TJ5) (N := 4) rfl)) rfl rfl hl.1 rfl (lv_room (Nat.le_of_ble_eq_true rfl)) dX9_readAll_22 ⟨by first | exact Nat.le_of_ble_eq_true rfl | omega | (show _ ≤ _; omega) | (dsimp only [headSpec]; omega), by first | exact Nat.le_of_ble_eq_true rfl | omega | (show _ ≤ _; omega) | (dsimp only [headSpec]; omega)⟩) hS (fun z_20 locs_17 hz_19 hS_18 => ?_)
        subst z_20
        refine kx_icmp_ge (x := ((i : Nat) : Int)) (y := ((t.length : Nat) : Int)) (tgt := 48) hx hb dX9_readAll_25 (by decide) (by omega) (by omega) (by omega) (by omega) (fun c_25_21 => ?_) (fun c_25_21 => ?_)
        · -- taken at 25
          have hal : tx_all t = (wd, i) := hf.trans (tx_lp_stop t f wd i (by rintro ⟨z1, z2⟩; first | omega | simp_all))
          have hfin : kO D H rd 8 [.int (kI (((tx_all t).2 : Nat) : Int)), .int (kI (kb (!(tx_all t).1))), .ref oa, .int (kI ((mn : Nat) : Int)), .ref x1] := by rw [hal]; exact hO_rd
          refine lv_aload_n hx hb dX9_readAll_48 rfl (lv_at hl 0 rfl) ?_
          refine kx_get (v := .int (kI (kb (!wd)))) (C := RX9) (T := TX9) (N := 5) hx hb hts in_X9 hown hK hO_rd rfl 1 (by decide) q1543 (fun _ h9 => h9) rfl dX9_readAll_49 ?_
          refine kx_ifnz (tgt := 59) hx hb dX9_readAll_52 (by decide) (fun c_52_22 => ?_) (fun c_52_22 => ?_)
          · -- taken at 52
            refine kx_iconst hx hb dX9_readAll_59 ?_
            refine W.widen (k := 64) (n := 704) (by omega) (by omega) ?_
            exact kx_zret (z := false) hx hb hr hlk (⟨mn, go, b1, by rw [hal]; revert hal; cases wd <;> simp_all, hfin, hA_oa, hP_kOl_b0, by first | assumption | rfl | omega | grind, by omega, by exact hval, by intro hz; rw [hal] at hz; have h8 := tx_all_end hT (by rw [hal]; exact hz); rw [hal] at h8; have h8 : i = t.length := h8; have h7 := hops hz; omega⟩) hS_18 dX9_readAll_60
          · -- not taken at 52
            refine kx_iconst hx hb dX9_readAll_55 ?_
            refine lv_goto (tgt := 60) hx hb dX9_readAll_56 (by decide) ?_
            refine W.widen (k := 64) (n := 704) (by omega) (by omega) ?_
            exact kx_zret (z := true) hx hb hr hlk (⟨mn, go, b1, by rw [hal]; revert hal; cases wd <;> simp_all, hfin, hA_oa, hP_kOl_b0, by first | assumption | rfl | omega | grind, by omega, by exact hval, by intro hz; rw [hal] at hz; have h8 := tx_all_end hT (by rw [hal]; exact hz); rw [hal] at h8; have h8 : i = t.length := h8; have h7 := hops hz; omega⟩) hS_18 dX9_readAll_60
        · -- not taken at 25
          have hwd : wd = true := by simpa using (by assumption : (!wd) = false)
          have hOw9 : kO D H rd 8 [.int (kI ((i : Nat) : Int)), .int (kI (kb false)), .ref oa, .int (kI ((mn : Nat) : Int)), .ref x1] := by have h9 := hO_rd; rw [hwd] at h9; exact h9
          refine lv_aload_n hx hb dX9_readAll_28 rfl (lv_at hl 0 rfl) ?_
          refine kx_bipush hx hb (by decide) dX9_readAll_29 ?_
          by_cases h59 : csg t i = 59
          · -- h59 t
            refine kx_cv (va_runV (As := [.int (kI (59))]) (rest := []) ⟨hx, hb, hml, hown, hts⟩ (m_ned_y l D H rd i oa mn x1 st snp hi bu vb ml cap g t 59 hOw9 hO_x1 hO_bu hA_vb (by first | assumption | omega) (by first | assumption | omega) (by first | assumption | omega) (by first | assumption | omega) (by first | assumption | omega) ((by omega)) bs_rd h59) (cwV 1 hts (lw_V q1645 q1647 qs24 q125 q1648) rfl rfl rfl (by decide +kernel) ⟨Nat.le_of_ble_eq_true rfl, Nat.le_of_ble_eq_true rfl⟩) (kx_pv hK hS_18 hB (kx_rc hK hOw9 (C := RX9) (T := TX9) (N := 5) rfl)) rfl rfl hl.1 rfl (lv_room (Nat.le_of_ble_eq_true rfl)) dX9_readAll_31 ⟨by first | exact Nat.le_of_ble_eq_true rfl | omega | (show _ ≤ _; omega) | (dsimp only [headSpec]; omega), by first | exact Nat.le_of_ble_eq_true rfl | omega | (show _ ≤ _; omega) | (dsimp only [headSpec]; omega)⟩) hS_18 (fun q _ h => Or.inl h) (fun q h => Or.inl h) (fun H_26 locs_23 hz_25 hF_27 hS_24 => ?_)
            have hzf_29 := hF_27.1
            have ho_30 := hz_25
            refine lv_aload_n hx hb dX9_readAll_34 rfl (lv_at hl 0 rfl) ?_
            refine kx_get (v := .int (kI (kb (false)))) (C := RX9) (T := TX9) (N := 5) hx hb hts in_X9 hown hK ho_30 rfl 1 (by decide) q1543 (fun _ h9 => h9) rfl dX9_readAll_35 ?_
            refine kx_ifnz (tgt := 4) hx hb dX9_readAll_38 (by decide) (fun c_38_31 => ?_) (fun c_38_31 => ?_)
            · -- taken at 38
              first | exact absurd c_38_31 (by decide) | exact Bool.noConfusion c_38_31 | (simp at c_38_31; done)
            · -- not taken at 38
              refine lv_aload_n hx hb dX9_readAll_41 rfl (lv_at hl 0 rfl) ?_
              have h_32 := hO_x1.fr hF_27 (fun h => by (try dsimp only at h); (try simp only [kNW] at h); omega)
              have h_33 := hO_bu.fr hF_27 (fun h => by (try dsimp only at h); (try simp only [kNW] at h); omega)
              have h_34 := hA_vb.fr hF_27 (fun h => by (try dsimp only at h); (try simp only [kNW] at h); omega)
              have h_35 := hA_oa.fr hF_27 (fun h => by (try dsimp only at h); (try simp only [kNW] at h); omega)
              have h_36 := hP_kOl_b0.fr hF_27 (fun h => by (try dsimp only at h); (try simp only [kNW] at h); omega)
              refine kx_cv (va_runV (As := []) (rest := []) ⟨hx, hb, hml, hown, hts⟩ (m_X9_order l D H_26 rd ((i + 1)) oa mn x1 st snp hi bu vb ml cap g t go b0 b1 ho_30 h_32 h_33 h_34 h_35 h_36 (by first | assumption | omega) (by first | assumption | omega) (by first | assumption | omega) (by first | assumption | omega) (by first | assumption | omega) ne_rd_oa bs_rd bs_oa ((by omega)) ((hops hwd)) ((by omega))) (cwV 0 hts (lw_V q1562 q1564 qs19 q125 q1565) rfl rfl rfl (by decide +kernel) ⟨Nat.le_of_ble_eq_true rfl, Nat.le_of_ble_eq_true rfl⟩) (kx_pv hK hS_24 hB (kx_rc hK ho_30 (C := RX9) (T := TX9) (N := 5) rfl)) rfl rfl hl.1 rfl (lv_room (Nat.le_of_ble_eq_true rfl)) dX9_readAll_42 ⟨by first | exact Nat.le_of_ble_eq_true rfl | omega | (show _ ≤ _; omega) | (dsimp only [headSpec]; omega), by first | exact Nat.le_of_ble_eq_true rfl | omega | (show _ ≤ _; omega) | (dsimp only [headSpec]; omega)⟩) hS_24 (fun q _ h => by rcases h with h | h | h; exact Or.inl h; exact Or.inr (Or.inl h); exact Or.inr (Or.inr (by omega))) (fun q h => by rcases h with h | h | h; exact Or.inl h; exact Or.inr (Or.inl h); exact Or.inr (Or.inr (by omega))) (fun H_40 locs_37 hz_39 hF_41 hS_38 => ?_)
              have hzf_43 := hF_41.1
              obtain ⟨mn2_44, go2_45, b2_46, ho_47, ho_48, ho_49, hmx, hbx9⟩ := hz_39
              refine lv_goto (tgt := 4) hx hb dX9_readAll_45 (by decide) ?_
              have h_50 := h_32.fr hF_41 (fun h => by (try dsimp only at h); (try simp only [kNW] at h); omega)
              have h_51 := h_33.fr hF_41 (fun h => by (try dsimp only at h); (try simp only [kNW] at h); omega)
              have h_52 := h_34.fr hF_41 (fun h => by (try dsimp only at h); (try simp only [kNW] at h); omega)
              refine W.widen (k := 2 * (((cq + 1)))) (n := 22 * (((cq + 1)))) (by omega) (by omega) ?_
              exact ih_4  ((rdW t (((i + 1)))).2.1) ((rdW t (i + 1)).1) mn2_44 go2_45 b2_46 ((f - 1)) ((cq + 1)) H_40 ho_47 h_50 h_51 h_52 ho_48 ho_49 (by have := (rdW_place hT (i + 1)).2.1; omega) (fun hw => by have h9 := (rdW_place hT (i + 1)).2.2 hw; have h8 := hfl hwd; omega) (by rw [hf, show f = (f - 1) + 1 by (have h9 := hfl hwd; omega), tx_lp, if_pos ⟨hwd, by omega⟩, if_pos (by omega)]; rfl) (by rw [hmx]; have h9 := rdW_place hT (i + 1); split; (rename_i z; have := h9.2.2 z; omega); omega) (fun hw => by rw [hmx, if_pos hw]; show _ = (rdW t (opos t mn)).2.1 + 1; rw [← hops hwd]) (fun k hk => by rw [hmx] at hk; by_cases e9 : k = mn; (rw [e9, ← hops hwd]; split at hk; assumption; omega); exact hval k (by split at hk <;> omega)) (by have h9 := hc.2 hwd; rw [hmx]; exact ⟨by split <;> omega, fun z => by rw [if_pos z]; omega⟩) (by omega) _ hS_38 (by have := hfl hwd; omega) ls (lv_sub hl [0] rfl)
          · -- h59 f
            refine kx_cv (va_runV (As := [.int (kI (59))]) (rest := []) ⟨hx, hb, hml, hown, hts⟩ (m_ned_n l D H rd i false oa mn x1 st snp hi bu vb ml cap g t 59 hOw9 hO_x1 hO_bu hA_vb (by first | assumption | omega) (by first | assumption | omega) (by first | assumption | omega) (by first | assumption | omega) (by first | assumption | omega) ((by omega)) bs_rd ((Or.inr h59))) (cwV 1 hts (lw_V q1645 q1647 qs24 q125 q1648) rfl rfl rfl (by decide +kernel) ⟨Nat.le_of_ble_eq_true rfl, Nat.le_of_ble_eq_true rfl⟩) (kx_pv hK hS_18 hB (kx_rc hK hOw9 (C := RX9) (T := TX9) (N := 5) rfl)) rfl rfl hl.1 rfl (lv_room (Nat.le_of_ble_eq_true rfl)) dX9_readAll_31 ⟨by first | exact Nat.le_of_ble_eq_true rfl | omega | (show _ ≤ _; omega) | (dsimp only [headSpec]; omega), by first | exact Nat.le_of_ble_eq_true rfl | omega | (show _ ≤ _; omega) | (dsimp only [headSpec]; omega)⟩) hS_18 (fun q _ h => Or.inl h) (fun q h => Or.inl h) (fun H_56 locs_53 hz_55 hF_57 hS_54 => ?_)
            have hzf_59 := hF_57.1
            have ho_60 := hz_55
            refine lv_aload_n hx hb dX9_readAll_34 rfl (lv_at hl 0 rfl) ?_
            refine kx_get (v := .int (kI (kb (true)))) (C := RX9) (T := TX9) (N := 5) hx hb hts in_X9 hown hK ho_60 rfl 1 (by decide) q1543 (fun _ h9 => h9) rfl dX9_readAll_35 ?_
            refine kx_ifnz (tgt := 4) hx hb dX9_readAll_38 (by decide) (fun c_38_61 => ?_) (fun c_38_61 => ?_)
            · -- taken at 38
              have h_62 := hO_x1.fr hF_57 (fun h => by (try dsimp only at h); (try simp only [kNW] at h); omega)
              have h_63 := hO_bu.fr hF_57 (fun h => by (try dsimp only at h); (try simp only [kNW] at h); omega)
              have h_64 := hA_vb.fr hF_57 (fun h => by (try dsimp only at h); (try simp only [kNW] at h); omega)
              have h_65 := hA_oa.fr hF_57 (fun h => by (try dsimp only at h); (try simp only [kNW] at h); omega)
              have h_66 := hP_kOl_b0.fr hF_57 (fun h => by (try dsimp only at h); (try simp only [kNW] at h); omega)
              refine W.widen (k := 2 * cq) (n := 22 * cq) (by omega) (by omega) ?_
              exact ih_4  i false mn go b1 ((f - 1)) cq H_56 ho_60 h_62 h_63 h_64 h_65 h_66 (hiI) (fun z => absurd z Bool.false_ne_true) (by rw [hf, show f = (f - 1) + 1 by (have h9 := hfl hwd; omega), tx_lp, if_pos ⟨hwd, by omega⟩, if_neg (by omega)]; exact (tx_lp_stop t _ _ _ (fun z => absurd z.1 Bool.false_ne_true)).symm) (hmnI) (fun z => absurd z Bool.false_ne_true) (hval) (⟨hc.1, fun z => absurd z Bool.false_ne_true⟩) (by omega) _ hS_54 (by have := hfl hwd; omega) ls (lv_sub hl [0] rfl)
            · -- not taken at 38
              first | exact absurd c_38_61 (by decide) | exact Bool.noConfusion c_38_61 | (simp at c_38_61; done)
  have h_67 := hO_x1.fr hF_5 (fun h => by (try dsimp only at h); (try simp only [kNW] at h); omega)
  have h_68 := hO_bu.fr hF_5 (fun h => by (try dsimp only at h); (try simp only [kNW] at h); omega)
  have h_69 := hA_vb.fr hF_5 (fun h => by (try dsimp only at h); (try simp only [kNW] at h); omega)
  refine W.widen (k := 2 * 1) (n := 22 * 1) (by omega) (by omega) ?_
  exact lp_4_x_14 ((((t.length + 1))) + 1) ((rdW t 0).2.1) ((rdW t 0).1) mn2_8 go2_9 b2_10 ((t.length + 1)) 1 H_4 ho_11 h_67 h_68 h_69 ho_12 ho_13 (by omega) (fun _ => by omega) (rfl) (by rw [hmx]; split; (rename_i z; have := hpl0.2.2 z; omega); omega) (fun hw => by rw [hmx, if_pos hw]; rfl) (fun k hk => by rw [hmx] at hk; split at hk; (rename_i z; rw [show k = 0 by omega]; exact z); exact absurd hk (Nat.not_lt_zero k)) (by rw [hmx]; exact ⟨by split <;> omega, fun z => by rw [if_pos z]; omega⟩) (by omega) _ hS_2 (Nat.lt_succ_self _) ls (lv_sub hl [0] rfl)

set_option maxHeartbeats 4000000 in
set_option maxRecDepth 100000 in
theorem m_X2_begin_no (l : Launch) (D : kG) (H : Heap) (st : Nat) (la : Nat) (mc : Int) (ea : Nat) (F : Fts) (S : Ls) (gap : Int) (lv : Int) (pt : Int) (hO_st : kO D H st 1 [.ref la, .int (kI (gap))]) (hO_la : kO D H la 9 [.int (kI (mc)), .ref ea, .int (kI ((S.length : Nat) : Int))]) (hP_kLs_ea : kLs D H ea S.length F) (hP_kLn_F : kLn D H F S) (hok : LsOK S gap) (hlv : 0 ≤ lv ∧ lv ≤ 99) (hpt : 0 ≤ pt ∧ pt ≤ 383) (hno : S.length = 8 ∨ st_owner S pt ≠ -1) : Met l yX2_begin (ws_ yX2_begin cX2_begin 4 (some .boolean)) ({ frames := 4, cells := 0, slots := 0, locals := 86 } : Room) (kPre D H [.ref st, .int (kI (lv)), .int (kI (pt))]) (kQb (fun (r : Bool) H' => H' = H ∧ r = false) kNO) (0) (0) (kNO) := by
  refine Met.ofW (cc := cX2_begin) (maxL := 4) (ret := (some .boolean)) (by decide) rfl ?_
  intro p e s m args below meth c s₁ B hml hv
  obtain ⟨rfl, hH, hK⟩ := hv
  subst hH
  have hx := B.exec
  have hb := B.bytes
  have hr := B.returns
  have hts := atoms_spec (ws := ws_ yX2_begin cX2_begin 4 (some .boolean)) B.pre
  have hts : ∀ w ∈ lw_all, w.before _ s = true := fun w h => hts w (List.mem_cons_of_mem _ h)
  have hown : s.vm.findClass RX2 = some m.cls := findClass_of_methodNamed B.named
  have hlk := B.notSynchronized
  have hS : va_S kNO s.heap s.heap [] := va_S.rf
  have hB : ∀ q, kNO q → kBase D ≤ q := fun _ h => h.elim
  have hl := lv_entry ([.ref st, .int (kI (lv)), .int (kI (pt))]) (n := 4) (Nat.le_of_ble_eq_true rfl)
  rw [lg_entry_eq]
  generalize (lg_sl ([.ref st, .int (kI (lv)), .int (kI (pt))]) ++ List.replicate (4 - (lg_sl ([.ref st, .int (kI (lv)), .int (kI (pt))])).length) Slot.unset).toArray = ls at hl ⊢
  have hl : lv_has ls 4 [(0, .ref st), (1, .int (kI (lv))), (2, .int (kI (pt)))] := hl
  have hL8 := hok.1
  have hor := st_owner_rng S pt
  refine lv_aload_n hx hb dX2_begin_0 rfl (lv_at hl 0 rfl) ?_
  refine kx_get (v := .ref la) (C := RX2) (T := TX2) (N := 2) hx hb hts in_X2 hown hK hO_st rfl 0 (by decide) q167 (fun _ h9 => h9) rfl dX2_begin_1 ?_
  refine kx_cFi0 (va_runF (C := RJ2) (As := []) (rest := []) (hK.at (ci := 9) rfl) ⟨hx, hb, hml, hown, hts⟩ (m_J2_size l D s.heap la mc ea S.length hO_la ) (va_cwF (x := ({ cls := "java/util/List", name := "size", desc := "()I" } : Jvm.MethodName)) 0 hts (lw_F q279 q283 q285 q83 q287) rfl rfl rfl (hK.fw (by decide)) (by decide +kernel) ⟨Nat.le_of_ble_eq_true rfl, Nat.le_of_ble_eq_true rfl⟩) (kx_pv hK hS hB (kx_rc hK hO_la (C := RJ2) (T := TJ2) (N := 3) rfl)) rfl rfl hl.1 rfl (lv_room (Nat.le_of_ble_eq_true rfl)) dX2_begin_4 ⟨by first | exact Nat.le_of_ble_eq_true rfl | omega | (show _ ≤ _; omega) | (dsimp only [headSpec]; omega), by first | exact Nat.le_of_ble_eq_true rfl | omega | (show _ ≤ _; omega) | (dsimp only [headSpec]; omega)⟩) hS (fun z_4 locs_1 hz_3 hS_2 => ?_)
  subst z_4
  refine kx_bipush hx hb (by decide) dX2_begin_9 ?_
  refine kx_icmp_ge (x := ((S.length : Nat) : Int)) (y := 8) (tgt := 27) hx hb dX2_begin_11 (by decide) (by omega) (by omega) (by omega) (by omega) (fun c_11_5 => ?_) (fun c_11_5 => ?_)
  · -- taken at 11
    refine kx_iconst hx hb dX2_begin_27 ?_
    refine lv_istore_n (lv' := [(3, .int (kI (0))), (0, .ref st), (1, .int (kI (lv))), (2, .int (kI (pt)))]) hx hb dX2_begin_28 rfl hl (by decide) rfl (fun ls hl => ?_)
    refine lv_iload_n hx hb dX2_begin_29 rfl (lv_at hl 0 rfl) ?_
    refine kx_if_eq (x := 0) (tgt := 52) hx hb dX2_begin_30 (by decide) (by omega) (by omega) (fun c_30_6 => ?_) (fun c_30_6 => ?_)
    · -- taken at 30
      refine lv_iload_n hx hb dX2_begin_52 rfl (lv_at hl 0 rfl) ?_
      exact kx_zret (z := false) hx hb hr hlk (⟨rfl, by rfl⟩) hS_2 dX2_begin_53
    · -- not taken at 30
      exfalso; omega
  · -- not taken at 11
    refine lv_aload_n hx hb dX2_begin_14 rfl (lv_at hl 0 rfl) ?_
    refine lv_iload_n hx hb dX2_begin_15 rfl (lv_at hl 2 rfl) ?_
    refine kx_ci0 (va_runV (As := [.int (kI (pt))]) (rest := []) ⟨hx, hb, hml, hown, hts⟩ (m_X2_lineAt l D s.heap st la mc ea F S gap pt hO_st hO_la hP_kLs_ea hP_kLn_F (by first | assumption | omega) (by first | assumption | omega)) (cwV 1 hts (lw_V q1655 q1656 q1657 q80 q1658) rfl rfl rfl (by decide +kernel) ⟨Nat.le_of_ble_eq_true rfl, Nat.le_of_ble_eq_true rfl⟩) (kx_pv hK hS_2 hB (kx_rc hK hO_st (C := RX2) (T := TX2) (N := 2) rfl)) rfl rfl hl.1 rfl (lv_room (Nat.le_of_ble_eq_true rfl)) dX2_begin_16 ⟨by first | exact Nat.le_of_ble_eq_true rfl | omega | (show _ ≤ _; omega) | (dsimp only [headSpec]; omega), by first | exact Nat.le_of_ble_eq_true rfl | omega | (show _ ≤ _; omega) | (dsimp only [headSpec]; omega)⟩) hS_2 (fun z_10 locs_7 hz_9 hS_8 => ?_)
    subst z_10
    refine kx_iconst hx hb dX2_begin_19 ?_
    refine kx_icmp_ne (x := st_owner S pt) (y := (-1)) (tgt := 27) hx hb dX2_begin_20 (by decide) (by omega) (by omega) (by omega) (by omega) (fun c_20_11 => ?_) (fun c_20_11 => ?_)
    · -- taken at 20
      refine kx_iconst hx hb dX2_begin_27 ?_
      refine lv_istore_n (lv' := [(3, .int (kI (0))), (0, .ref st), (1, .int (kI (lv))), (2, .int (kI (pt)))]) hx hb dX2_begin_28 rfl hl (by decide) rfl (fun ls hl => ?_)
      refine lv_iload_n hx hb dX2_begin_29 rfl (lv_at hl 0 rfl) ?_
      refine kx_if_eq (x := 0) (tgt := 52) hx hb dX2_begin_30 (by decide) (by omega) (by omega) (fun c_30_12 => ?_) (fun c_30_12 => ?_)
      · -- taken at 30
        refine lv_iload_n hx hb dX2_begin_52 rfl (lv_at hl 0 rfl) ?_
        exact kx_zret (z := false) hx hb hr hlk (⟨rfl, by rfl⟩) hS_8 dX2_begin_53
      · -- not taken at 30
        exfalso; omega
    · -- not taken at 20
      exfalso; rcases hno with z | z <;> omega

set_option maxHeartbeats 4000000 in
set_option maxRecDepth 100000 in
theorem m_X2_wipe_no (l : Launch) (D : kG) (H : Heap) (st : Nat) (la : Nat) (mc : Int) (ea : Nat) (F : Fts) (S : Ls) (gap : Int) (ln : Nat) (hO_st : kO D H st 1 [.ref la, .int (kI (gap))]) (hO_la : kO D H la 9 [.int (kI (mc)), .ref ea, .int (kI ((S.length : Nat) : Int))]) (hP_kLs_ea : kLs D H ea S.length F) (hP_kLn_F : kLn D H F S) (hok : LsOK S gap) (hln9 : ln ≤ 1000) (hno : S.length ≤ ln) : Met l yX2_wipe (ws_ yX2_wipe cX2_wipe 3 (some .boolean)) ({ frames := 2, cells := 0, slots := 0, locals := 41 } : Room) (kPre D H [.ref st, .int (kI ((ln : Nat) : Int))]) (kQb (fun (r : Bool) H' => H' = H ∧ r = false) kNO) (0) (0) (kNO) := by
  refine Met.ofW (cc := cX2_wipe) (maxL := 3) (ret := (some .boolean)) (by decide) rfl ?_
  intro p e s m args below meth c s₁ B hml hv
  obtain ⟨rfl, hH, hK⟩ := hv
  subst hH
  have hx := B.exec
  have hb := B.bytes
  have hr := B.returns
  have hts := atoms_spec (ws := ws_ yX2_wipe cX2_wipe 3 (some .boolean)) B.pre
  have hts : ∀ w ∈ lw_all, w.before _ s = true := fun w h => hts w (List.mem_cons_of_mem _ h)
  have hown : s.vm.findClass RX2 = some m.cls := findClass_of_methodNamed B.named
  have hlk := B.notSynchronized
  have hS : va_S kNO s.heap s.heap [] := va_S.rf
  have hB : ∀ q, kNO q → kBase D ≤ q := fun _ h => h.elim
  have hl := lv_entry ([.ref st, .int (kI ((ln : Nat) : Int))]) (n := 3) (Nat.le_of_ble_eq_true rfl)
  rw [lg_entry_eq]
  generalize (lg_sl ([.ref st, .int (kI ((ln : Nat) : Int))]) ++ List.replicate (3 - (lg_sl ([.ref st, .int (kI ((ln : Nat) : Int))])).length) Slot.unset).toArray = ls at hl ⊢
  have hl : lv_has ls 3 [(0, .ref st), (1, .int (kI ((ln : Nat) : Int)))] := hl
  have hL8 := hok.1
  refine lv_aload_n hx hb dX2_wipe_0 rfl (lv_at hl 0 rfl) ?_
  refine lv_iload_n hx hb dX2_wipe_1 rfl (lv_at hl 1 rfl) ?_
  refine kx_cb0 (va_runV (As := [.int (kI ((ln : Nat) : Int))]) (rest := []) ⟨hx, hb, hml, hown, hts⟩ (m_X2_has l D s.heap st la mc ea S.length gap ln hO_st hO_la (by first | assumption | omega) (by first | assumption | omega)) (cwV 1 hts (lw_V q1009 q1010 q1011 q80 q1012) rfl rfl rfl (by decide +kernel) ⟨Nat.le_of_ble_eq_true rfl, Nat.le_of_ble_eq_true rfl⟩) (kx_pv hK hS hB (kx_rc hK hO_st (C := RX2) (T := TX2) (N := 2) rfl)) rfl rfl hl.1 rfl (lv_room (Nat.le_of_ble_eq_true rfl)) dX2_wipe_2 ⟨by first | exact Nat.le_of_ble_eq_true rfl | omega | (show _ ≤ _; omega) | (dsimp only [headSpec]; omega), by first | exact Nat.le_of_ble_eq_true rfl | omega | (show _ ≤ _; omega) | (dsimp only [headSpec]; omega)⟩) hS (fun z_4 locs_1 hz_3 hS_2 => ?_)
  subst z_4
  refine lv_istore_n (lv' := [(2, .int (kI (kb (decide (ln < S.length))))), (0, .ref st), (1, .int (kI ((ln : Nat) : Int)))]) hx hb dX2_wipe_5 rfl hl (by decide) rfl (fun ls hl => ?_)
  refine lv_iload_n hx hb dX2_wipe_6 rfl (lv_at hl 0 rfl) ?_
  refine kx_ifz (tgt := 21) hx hb dX2_wipe_7 (by decide) (fun c_7_5 => ?_) (fun c_7_5 => ?_)
  · -- taken at 7
    have c_7_5 := of_decide_eq_false c_7_5
    refine lv_iload_n hx hb dX2_wipe_21 rfl (lv_at hl 0 rfl) ?_
    exact kx_zret (z := decide (ln < S.length)) hx hb hr hlk (⟨rfl, by exact decide_eq_false (by omega)⟩) hS_2 dX2_wipe_22
  · -- not taken at 7
    have c_7_5 := of_decide_eq_true c_7_5
    exfalso; have h9 : ln < S.length := of_decide_eq_true (by assumption); omega

set_option maxHeartbeats 4000000 in
set_option maxRecDepth 100000 in
theorem m_lb_n (l : Launch) (D : kG) (H : Heap) (st : Nat) (la : Nat) (ea : Nat) (F : Fts) (S : Ls) (gap : Int) (x : Int) (y : Int) (t : List Int) (hP_kState_st : kState D H st la ea gap S F) (hok : LsOK S gap) (hxr : 0 ≤ x ∧ x ≤ 99) (hyr : 0 ≤ y ∧ y ≤ 383) : Met l yX9_lambda_beginning_1 (ws_ yX9_lambda_beginning_1 cX9_lambda_beginning_1 3 (some .boolean)) ({ frames := 6, cells := 5, slots := 137, locals := 140 } : Room) (kPre D H [.int (kI (x)), .int (kI (y)), .ref st]) (kQb (fun (r : Bool) H' => ∃ (ea2 : Nat) (F2 : Fts), (r = (ex_one t 110 x y S gap).1) ∧ (kState D H' st la ea2 ((ex_one t 110 x y S gap).2.2) ((ex_one t 110 x y S gap).2.1) F2) ∧ (∀ q, kOwn D st la ea2 F2 (ex_one t 110 x y S gap).2.1.length q → kOwn D st la ea F S.length q ∨ H.size ≤ q)) (fun q : Nat => kOwn D st la ea F S.length q ∨ H.size ≤ q)) (5) (137) ((fun q : Nat => kOwn D st la ea F S.length q ∨ H.size ≤ q)) := by
  refine Met.ofW (cc := cX9_lambda_beginning_1) (maxL := 3) (ret := (some .boolean)) (by decide) rfl ?_
  intro p e s m args below meth c s₁ B hml hv
  obtain ⟨rfl, hH, hK⟩ := hv
  subst hH
  have hx := B.exec
  have hb := B.bytes
  have hr := B.returns
  have hts := atoms_spec (ws := ws_ yX9_lambda_beginning_1 cX9_lambda_beginning_1 3 (some .boolean)) B.pre
  have hts : ∀ w ∈ lw_all, w.before _ s = true := fun w h => hts w (List.mem_cons_of_mem _ h)
  have hown : s.vm.findClass RX9 = some m.cls := findClass_of_methodNamed B.named
  have hlk := B.notSynchronized
  have hS : va_S (fun q : Nat => kOwn D st la ea F S.length q ∨ s.heap.size ≤ q) s.heap s.heap [] := va_S.rf
  have hB : ∀ q, (fun q : Nat => kOwn D st la ea F S.length q ∨ s.heap.size ≤ q) q → kBase D ≤ q := fun q h => by (rcases h with h | h; exact hP_kState_st.ownge h; (have h2 := hK.size; exact Nat.le_trans h2 h))
  have hl := lv_entry ([.int (kI (x)), .int (kI (y)), .ref st]) (n := 3) (Nat.le_of_ble_eq_true rfl)
  rw [lg_entry_eq]
  generalize (lg_sl ([.int (kI (x)), .int (kI (y)), .ref st]) ++ List.replicate (3 - (lg_sl ([.int (kI (x)), .int (kI (y)), .ref st])).length) Slot.unset).toArray = ls at hl ⊢
  have hl : lv_has ls 3 [(0, .int (kI (x))), (1, .int (kI (y))), (2, .ref st)] := hl
  have hks9 := hK.size
  have hd9 := hK.dis
  have hx9 : ¬ kBase D ≤ D.2.2.2 2 := hK.tE.out
  obtain ⟨⟨hO_st, mc, hO_la⟩, hLs9, hLn9, hF9, hDs9, hb1, hb2, hb3⟩ := id hP_kState_st
  have hL8 := hok.1
  have hFl9 := hF9
  by_cases hr9 : ref_b S x y = 0
  · -- hr9 t
    have hex9 : (ex_one t 110 x y S gap) = (true, S ++ [w_new x y], gap) := by rw [ex_one, if_neg (by decide), if_pos rfl, if_pos hr9]
    have hr0 := ref_b_0 hok hr9
    refine lv_aload_n hx hb dX9_lambda_beginning_1_0 rfl (lv_at hl 2 rfl) ?_
    refine lv_iload_n hx hb dX9_lambda_beginning_1_1 rfl (lv_at hl 0 rfl) ?_
    refine lv_iload_n hx hb dX9_lambda_beginning_1_2 rfl (lv_at hl 1 rfl) ?_
    refine kx_cb (va_runV (As := [.int (kI (x)), .int (kI (y))]) (rest := []) ⟨hx, hb, hml, hown, hts⟩ (m_X2_begin l D s.heap st la ea F S gap x y hP_kState_st (by first | assumption | omega) hr0.2.1 hr0.1 hr0.2.2.1 hr0.2.2.2) (cwV 2 hts (lw_V q1651 q1652 q1653 q80 q1654) rfl rfl rfl (by decide +kernel) ⟨Nat.le_of_ble_eq_true rfl, Nat.le_of_ble_eq_true rfl⟩) (kx_pv hK hS hB (kx_rc hK hO_st (C := RX2) (T := TX2) (N := 2) rfl)) rfl rfl hl.1 rfl (lv_room (Nat.le_of_ble_eq_true rfl)) dX9_lambda_beginning_1_3 ⟨by first | exact Nat.le_of_ble_eq_true rfl | omega | (show _ ≤ _; omega) | (dsimp only [headSpec]; omega), by first | exact Nat.le_of_ble_eq_true rfl | omega | (show _ ≤ _; omega) | (dsimp only [headSpec]; omega)⟩) hS (fun q _ h => by rcases h with h | h | h; exact Or.inl (Or.inr (Or.inl h)); exact Or.inl (Or.inr (Or.inr (Or.inl h))); exact Or.inr (by omega)) (fun q h => by rcases h with h | h | h; exact Or.inl (Or.inr (Or.inl h)); exact Or.inl (Or.inr (Or.inr (Or.inl h))); exact Or.inr (by omega)) (fun z_6 H_4 locs_1 hz_3 hF_5 hS_2 => ?_)
    have hzf_7 := hF_5.1
    refine W.widen (k := 5) (n := 137) (Nat.le_of_ble_eq_true rfl) (Nat.le_of_ble_eq_true rfl) ?_
    obtain ⟨ea2_8, a_9, pa_10, sa_11, hv_12, ho_13, hnb9⟩ := hz_3
    subst z_6
    have hfin : kState D H_4 st la ea2_8 (ex_one t 110 x y S gap).2.2 (ex_one t 110 x y S gap).2.1 ((F ++ [(a_9, pa_10, sa_11)])) := by rw [hex9]; exact ho_13
    exact kx_zret (z := true) hx hb hr hlk (⟨ea2_8, ((F ++ [(a_9, pa_10, sa_11)])), by rw [hex9], hfin, by intro q hq; rw [hex9] at hq; dsimp only at hq; rw [List.length_append] at hq; rcases kOwn_push hFl9 hq with z | ⟨z1, z2⟩ | z | z | z; (exact Or.inl z); (rcases hnb9.2.2.2 with y | y; (exact Or.inl (Or.inr (Or.inr (Or.inl ⟨by rw [z1, y], by omega⟩)))); exact Or.inr (by omega)); (exact Or.inr (by omega)); (exact Or.inr (by omega)); exact Or.inr (by omega)⟩) hS_2 dX9_lambda_beginning_1_6
  · -- hr9 f
    have hex9 : (ex_one t 110 x y S gap) = (false, S, gap) := by rw [ex_one, if_neg (by decide), if_pos rfl, if_neg hr9]
    refine lv_aload_n hx hb dX9_lambda_beginning_1_0 rfl (lv_at hl 2 rfl) ?_
    refine lv_iload_n hx hb dX9_lambda_beginning_1_1 rfl (lv_at hl 0 rfl) ?_
    refine lv_iload_n hx hb dX9_lambda_beginning_1_2 rfl (lv_at hl 1 rfl) ?_
    refine kx_cb0 (va_runV (As := [.int (kI (x)), .int (kI (y))]) (rest := []) ⟨hx, hb, hml, hown, hts⟩ (m_X2_begin_no l D s.heap st la mc ea F S gap x y hO_st hO_la hLs9 hLn9 (by first | assumption | omega) (by first | assumption | omega) (by first | assumption | omega) ((ref_b_n hxr hyr hr9))) (cwV 2 hts (lw_V q1651 q1652 q1653 q80 q1654) rfl rfl rfl (by decide +kernel) ⟨Nat.le_of_ble_eq_true rfl, Nat.le_of_ble_eq_true rfl⟩) (kx_pv hK hS hB (kx_rc hK hO_st (C := RX2) (T := TX2) (N := 2) rfl)) rfl rfl hl.1 rfl (lv_room (Nat.le_of_ble_eq_true rfl)) dX9_lambda_beginning_1_3 ⟨by first | exact Nat.le_of_ble_eq_true rfl | omega | (show _ ≤ _; omega) | (dsimp only [headSpec]; omega), by first | exact Nat.le_of_ble_eq_true rfl | omega | (show _ ≤ _; omega) | (dsimp only [headSpec]; omega)⟩) hS (fun z_17 locs_14 hz_16 hS_15 => ?_)
    subst z_17
    have hfin : kState D s.heap st la ea (ex_one t 110 x y S gap).2.2 (ex_one t 110 x y S gap).2.1 F := by rw [hex9]; exact hP_kState_st
    refine W.widen (k := 5) (n := 137) (by omega) (by omega) ?_
    exact kx_zret (z := false) hx hb hr hlk (⟨ea, F, by rw [hex9], hfin, by intro q hq; rw [hex9] at hq; exact Or.inl (by first | exact hq | (rw [show (S.set _ _).length = S.length from List.length_set] at hq; exact hq))⟩) hS_15 dX9_lambda_beginning_1_6

set_option maxHeartbeats 4000000 in
set_option maxRecDepth 100000 in
theorem m_lb_w (l : Launch) (D : kG) (H : Heap) (st : Nat) (la : Nat) (ea : Nat) (F : Fts) (S : Ls) (gap : Int) (x : Int) (se : Int) (t : List Int) (hP_kState_st : kState D H st la ea gap S F) (hok : LsOK S gap) (hxr : 0 ≤ x ∧ x ≤ 7) : Met l yX9_lambda_wiping_3 (ws_ yX9_lambda_wiping_3 cX9_lambda_wiping_3 2 (some .boolean)) ({ frames := 4, cells := 0, slots := 0, locals := 128 } : Room) (kPre D H [.int (kI (x)), .ref st]) (kQb (fun (r : Bool) H' => ∃ (ea2 : Nat) (F2 : Fts), (r = (ex_one t 119 x se S gap).1) ∧ (kState D H' st la ea2 ((ex_one t 119 x se S gap).2.2) ((ex_one t 119 x se S gap).2.1) F2) ∧ (∀ q, kOwn D st la ea2 F2 (ex_one t 119 x se S gap).2.1.length q → kOwn D st la ea F S.length q ∨ H.size ≤ q)) (fun q : Nat => kOwn D st la ea F S.length q ∨ H.size ≤ q)) (0) (0) ((fun q : Nat => kOwn D st la ea F S.length q ∨ H.size ≤ q)) := by
  refine Met.ofW (cc := cX9_lambda_wiping_3) (maxL := 2) (ret := (some .boolean)) (by decide) rfl ?_
  intro p e s m args below meth c s₁ B hml hv
  obtain ⟨rfl, hH, hK⟩ := hv
  subst hH
  have hx := B.exec
  have hb := B.bytes
  have hr := B.returns
  have hts := atoms_spec (ws := ws_ yX9_lambda_wiping_3 cX9_lambda_wiping_3 2 (some .boolean)) B.pre
  have hts : ∀ w ∈ lw_all, w.before _ s = true := fun w h => hts w (List.mem_cons_of_mem _ h)
  have hown : s.vm.findClass RX9 = some m.cls := findClass_of_methodNamed B.named
  have hlk := B.notSynchronized
  have hS : va_S (fun q : Nat => kOwn D st la ea F S.length q ∨ s.heap.size ≤ q) s.heap s.heap [] := va_S.rf
  have hB : ∀ q, (fun q : Nat => kOwn D st la ea F S.length q ∨ s.heap.size ≤ q) q → kBase D ≤ q := fun q h => by (rcases h with h | h; exact hP_kState_st.ownge h; (have h2 := hK.size; exact Nat.le_trans h2 h))
  have hl := lv_entry ([.int (kI (x)), .ref st]) (n := 2) (Nat.le_of_ble_eq_true rfl)
  rw [lg_entry_eq]
  generalize (lg_sl ([.int (kI (x)), .ref st]) ++ List.replicate (2 - (lg_sl ([.int (kI (x)), .ref st])).length) Slot.unset).toArray = ls at hl ⊢
  have hl : lv_has ls 2 [(0, .int (kI (x))), (1, .ref st)] := hl
  have hks9 := hK.size
  have hd9 := hK.dis
  have hx9 : ¬ kBase D ≤ D.2.2.2 2 := hK.tE.out
  obtain ⟨⟨hO_st, mc, hO_la⟩, hLs9, hLn9, hF9, hDs9, hb1, hb2, hb3⟩ := id hP_kState_st
  have hL8 := hok.1
  have hFl9 := hF9
  by_cases hr9 : ref_w S x = 0
  · -- hr9 t
    have hex9 : (ex_one t 119 x se S gap) = (true, S.eraseIdx x.toNat, gap) := by rw [ex_one, if_neg (show ¬ ((119 : Int) = 115) by decide), if_neg (show ¬ ((119 : Int) = 110) by decide), if_pos rfl, if_pos hr9]
    have hr0 := ref_w_0 hr9
    refine lv_aload_n hx hb dX9_lambda_wiping_3_0 rfl (lv_at hl 1 rfl) ?_
    refine lv_iload_n hx hb dX9_lambda_wiping_3_1 rfl (lv_at hl 0 rfl) ?_
    refine kx_eqi (((x.toNat : Nat) : Int)) (by omega) ?_
    refine kx_cb (va_runV (As := [.int (kI ((x.toNat : Nat) : Int))]) (rest := []) ⟨hx, hb, hml, hown, hts⟩ (m_X2_wipe l D s.heap st la ea F S gap x.toNat hP_kState_st (by first | assumption | omega) (by first | assumption | omega)) (cwV 1 hts (lw_V q1746 q1747 q1748 q80 q1749) rfl rfl rfl (by decide +kernel) ⟨Nat.le_of_ble_eq_true rfl, Nat.le_of_ble_eq_true rfl⟩) (kx_pv hK hS hB (kx_rc hK hO_st (C := RX2) (T := TX2) (N := 2) rfl)) rfl rfl hl.1 rfl (lv_room (Nat.le_of_ble_eq_true rfl)) dX9_lambda_wiping_3_2 ⟨by first | exact Nat.le_of_ble_eq_true rfl | omega | (show _ ≤ _; omega) | (dsimp only [headSpec]; omega), by first | exact Nat.le_of_ble_eq_true rfl | omega | (show _ ≤ _; omega) | (dsimp only [headSpec]; omega)⟩) hS (fun q _ h => by rcases h with h | h; exact Or.inl (Or.inr (Or.inl h)); exact Or.inl (Or.inr (Or.inr (Or.inl h)))) (fun q h => by rcases h with h | h; exact Or.inl (Or.inr (Or.inl h)); exact Or.inl (Or.inr (Or.inr (Or.inl h)))) (fun z_6 H_4 locs_1 hz_3 hF_5 hS_2 => ?_)
    have hzf_7 := hF_5.1
    refine W.widen (k := 0) (n := 0) (Nat.le_of_ble_eq_true rfl) (Nat.le_of_ble_eq_true rfl) ?_
    obtain ⟨hv_8, ho_9⟩ := hz_3
    subst z_6
    have hfin : kState D H_4 st la ea (ex_one t 119 x se S gap).2.2 (ex_one t 119 x se S gap).2.1 (F.eraseIdx x.toNat) := by rw [hex9]; exact ho_9
    exact kx_zret (z := true) hx hb hr hlk (⟨ea, (F.eraseIdx x.toNat), by rw [hex9], hfin, by intro q hq; rw [hex9] at hq; dsimp only at hq; rw [List.length_eraseIdx_of_lt (by omega)] at hq; exact Or.inl (kOwn_erase (by omega) hq)⟩) hS_2 dX9_lambda_wiping_3_5
  · -- hr9 f
    have hex9 : (ex_one t 119 x se S gap) = (false, S, gap) := by rw [ex_one, if_neg (show ¬ ((119 : Int) = 115) by decide), if_neg (show ¬ ((119 : Int) = 110) by decide), if_pos rfl, if_neg hr9]
    refine lv_aload_n hx hb dX9_lambda_wiping_3_0 rfl (lv_at hl 1 rfl) ?_
    refine lv_iload_n hx hb dX9_lambda_wiping_3_1 rfl (lv_at hl 0 rfl) ?_
    refine kx_eqi (((x.toNat : Nat) : Int)) (by omega) ?_
    refine kx_cb0 (va_runV (As := [.int (kI ((x.toNat : Nat) : Int))]) (rest := []) ⟨hx, hb, hml, hown, hts⟩ (m_X2_wipe_no l D s.heap st la mc ea F S gap x.toNat hO_st hO_la hLs9 hLn9 (by first | assumption | omega) (by first | assumption | omega) ((ref_w_n hxr.1 hr9))) (cwV 1 hts (lw_V q1746 q1747 q1748 q80 q1749) rfl rfl rfl (by decide +kernel) ⟨Nat.le_of_ble_eq_true rfl, Nat.le_of_ble_eq_true rfl⟩) (kx_pv hK hS hB (kx_rc hK hO_st (C := RX2) (T := TX2) (N := 2) rfl)) rfl rfl hl.1 rfl (lv_room (Nat.le_of_ble_eq_true rfl)) dX9_lambda_wiping_3_2 ⟨by first | exact Nat.le_of_ble_eq_true rfl | omega | (show _ ≤ _; omega) | (dsimp only [headSpec]; omega), by first | exact Nat.le_of_ble_eq_true rfl | omega | (show _ ≤ _; omega) | (dsimp only [headSpec]; omega)⟩) hS (fun z_13 locs_10 hz_12 hS_11 => ?_)
    subst z_13
    have hfin : kState D s.heap st la ea (ex_one t 119 x se S gap).2.2 (ex_one t 119 x se S gap).2.1 F := by rw [hex9]; exact hP_kState_st
    exact kx_zret (z := false) hx hb hr hlk (⟨ea, F, by rw [hex9], hfin, by intro q hq; rw [hex9] at hq; exact Or.inl (by first | exact hq | (rw [show (S.set _ _).length = S.length from List.length_set] at hq; exact hq))⟩) hS_11 dX9_lambda_wiping_3_5

set_option maxHeartbeats 4000000 in
set_option maxRecDepth 100000 in
theorem m_lb_l (l : Launch) (D : kG) (H : Heap) (st : Nat) (la : Nat) (ea : Nat) (F : Fts) (S : Ls) (gap : Int) (x : Int) (y : Int) (t : List Int) (hP_kState_st : kState D H st la ea gap S F) (hok : LsOK S gap) (hxr : 0 ≤ x ∧ x ≤ 7) (hyr : 0 ≤ y ∧ y ≤ 59) : Met l yX9_lambda_labelling_4 (ws_ yX9_lambda_labelling_4 cX9_lambda_labelling_4 3 (some .boolean)) ({ frames := 9, cells := 5, slots := 13, locals := 3147 } : Room) (kPre D H [.int (kI (x)), .int (kI (y)), .ref st]) (kQb (fun (r : Bool) H' => ∃ (ea2 : Nat) (F2 : Fts), (r = (ex_one t 108 x y S gap).1) ∧ (kState D H' st la ea2 ((ex_one t 108 x y S gap).2.2) ((ex_one t 108 x y S gap).2.1) F2) ∧ (∀ q, kOwn D st la ea2 F2 (ex_one t 108 x y S gap).2.1.length q → kOwn D st la ea F S.length q ∨ H.size ≤ q)) (fun q : Nat => kOwn D st la ea F S.length q ∨ H.size ≤ q)) (5) (13) ((fun q : Nat => kOwn D st la ea F S.length q ∨ H.size ≤ q)) := by
  refine Met.ofW (cc := cX9_lambda_labelling_4) (maxL := 3) (ret := (some .boolean)) (by decide) rfl ?_
  intro p e s m args below meth c s₁ B hml hv
  obtain ⟨rfl, hH, hK⟩ := hv
  subst hH
  have hx := B.exec
  have hb := B.bytes
  have hr := B.returns
  have hts := atoms_spec (ws := ws_ yX9_lambda_labelling_4 cX9_lambda_labelling_4 3 (some .boolean)) B.pre
  have hts : ∀ w ∈ lw_all, w.before _ s = true := fun w h => hts w (List.mem_cons_of_mem _ h)
  have hown : s.vm.findClass RX9 = some m.cls := findClass_of_methodNamed B.named
  have hlk := B.notSynchronized
  have hS : va_S (fun q : Nat => kOwn D st la ea F S.length q ∨ s.heap.size ≤ q) s.heap s.heap [] := va_S.rf
  have hB : ∀ q, (fun q : Nat => kOwn D st la ea F S.length q ∨ s.heap.size ≤ q) q → kBase D ≤ q := fun q h => by (rcases h with h | h; exact hP_kState_st.ownge h; (have h2 := hK.size; exact Nat.le_trans h2 h))
  have hl := lv_entry ([.int (kI (x)), .int (kI (y)), .ref st]) (n := 3) (Nat.le_of_ble_eq_true rfl)
  rw [lg_entry_eq]
  generalize (lg_sl ([.int (kI (x)), .int (kI (y)), .ref st]) ++ List.replicate (3 - (lg_sl ([.int (kI (x)), .int (kI (y)), .ref st])).length) Slot.unset).toArray = ls at hl ⊢
  have hl : lv_has ls 3 [(0, .int (kI (x))), (1, .int (kI (y))), (2, .ref st)] := hl
  have hks9 := hK.size
  have hd9 := hK.dis
  have hx9 : ¬ kBase D ≤ D.2.2.2 2 := hK.tE.out
  obtain ⟨⟨hO_st, mc, hO_la⟩, hLs9, hLn9, hF9, hDs9, hb1, hb2, hb3⟩ := id hP_kState_st
  have hL8 := hok.1
  have hFl9 := hF9
  by_cases hr9 : ref_l S gap x y = 0
  · -- hr9 t
    have hex9 : (ex_one t 108 x y S gap) = (true, S.set x.toNat (w_lb (st_ln S x.toNat) ((y.toNat : Nat) : Int)), gap) := by rw [ex_one, if_neg (show ¬ ((108 : Int) = 115) by decide), if_neg (show ¬ ((108 : Int) = 110) by decide), if_neg (show ¬ ((108 : Int) = 119) by decide), if_pos rfl, if_pos hr9, show ((y.toNat : Nat) : Int) = y by omega]
    have hr0 := ref_l_0 hr9
    have hyy9 : ((y.toNat : Nat) : Int) = y := by omega
    refine lv_aload_n hx hb dX9_lambda_labelling_4_0 rfl (lv_at hl 2 rfl) ?_
    refine lv_iload_n hx hb dX9_lambda_labelling_4_1 rfl (lv_at hl 0 rfl) ?_
    refine kx_eqi (((x.toNat : Nat) : Int)) (by omega) ?_
    refine lv_iload_n hx hb dX9_lambda_labelling_4_2 rfl (lv_at hl 1 rfl) ?_
    refine kx_eqi (((y.toNat : Nat) : Int)) (by omega) ?_
    refine kx_cb (va_runV (As := [.int (kI ((x.toNat : Nat) : Int)), .int (kI ((y.toNat : Nat) : Int))]) (rest := []) ⟨hx, hb, hml, hown, hts⟩ (m_X2_label l D s.heap st la ea F S gap x.toNat y.toNat hP_kState_st (by first | assumption | omega) (by first | assumption | omega) ((by omega)) hr0.2.2.1) (cwV 2 hts (lw_V q1770 q1259 q1260 q80 q1261) rfl rfl rfl (by decide +kernel) ⟨Nat.le_of_ble_eq_true rfl, Nat.le_of_ble_eq_true rfl⟩) (kx_pv hK hS hB (kx_rc hK hO_st (C := RX2) (T := TX2) (N := 2) rfl)) rfl rfl hl.1 rfl (lv_room (Nat.le_of_ble_eq_true rfl)) dX9_lambda_labelling_4_3 ⟨by first | exact Nat.le_of_ble_eq_true rfl | omega | (show _ ≤ _; omega) | (dsimp only [headSpec]; omega), by first | exact Nat.le_of_ble_eq_true rfl | omega | (show _ ≤ _; omega) | (dsimp only [headSpec]; omega)⟩) hS (fun q _ h => by rcases h with h | h; exact Or.inl (Or.inr (Or.inr (Or.inr ⟨x.toNat, by omega, Or.inl h⟩))); exact Or.inr (by omega)) (fun q h => by rcases h with h | h; exact Or.inl (Or.inr (Or.inr (Or.inr ⟨x.toNat, by omega, Or.inl h⟩))); exact Or.inr (by omega)) (fun z_6 H_4 locs_1 hz_3 hF_5 hS_2 => ?_)
    have hzf_7 := hF_5.1
    refine W.widen (k := 5) (n := 13) (Nat.le_of_ble_eq_true rfl) (Nat.le_of_ble_eq_true rfl) ?_
    obtain ⟨hv_8, ho_9⟩ := hz_3
    subst z_6
    have hfin : kState D H_4 st la ea (ex_one t 108 x y S gap).2.2 (ex_one t 108 x y S gap).2.1 F := by rw [hex9]; exact ho_9
    exact kx_zret (z := true) hx hb hr hlk (⟨ea, F, by rw [hex9], hfin, by intro q hq; rw [hex9] at hq; dsimp only at hq; rw [List.length_set] at hq; exact Or.inl hq⟩) hS_2 dX9_lambda_labelling_4_6
  · -- hr9 f
    have hex9 : (ex_one t 108 x y S gap) = (false, S, gap) := by rw [ex_one, if_neg (show ¬ ((108 : Int) = 115) by decide), if_neg (show ¬ ((108 : Int) = 110) by decide), if_neg (show ¬ ((108 : Int) = 119) by decide), if_pos rfl, if_neg hr9]
    refine lv_aload_n hx hb dX9_lambda_labelling_4_0 rfl (lv_at hl 2 rfl) ?_
    refine lv_iload_n hx hb dX9_lambda_labelling_4_1 rfl (lv_at hl 0 rfl) ?_
    refine kx_eqi (((x.toNat : Nat) : Int)) (by omega) ?_
    refine lv_iload_n hx hb dX9_lambda_labelling_4_2 rfl (lv_at hl 1 rfl) ?_
    refine kx_eqi (((y.toNat : Nat) : Int)) (by omega) ?_
    refine kx_cb (va_runV (As := [.int (kI ((x.toNat : Nat) : Int)), .int (kI ((y.toNat : Nat) : Int))]) (rest := []) ⟨hx, hb, hml, hown, hts⟩ (m_X2_label_no l D s.heap st la mc ea F S gap x.toNat y.toNat hO_st hO_la hLs9 hLn9 (by first | assumption | omega) (by first | assumption | omega) (by first | assumption | omega) ((ref_l_n hxr.1 hyr.1 hr9))) (cwV 2 hts (lw_V q1770 q1259 q1260 q80 q1261) rfl rfl rfl (by decide +kernel) ⟨Nat.le_of_ble_eq_true rfl, Nat.le_of_ble_eq_true rfl⟩) (kx_pv hK hS hB (kx_rc hK hO_st (C := RX2) (T := TX2) (N := 2) rfl)) rfl rfl hl.1 rfl (lv_room (Nat.le_of_ble_eq_true rfl)) dX9_lambda_labelling_4_3 ⟨by first | exact Nat.le_of_ble_eq_true rfl | omega | (show _ ≤ _; omega) | (dsimp only [headSpec]; omega), by first | exact Nat.le_of_ble_eq_true rfl | omega | (show _ ≤ _; omega) | (dsimp only [headSpec]; omega)⟩) hS (fun q _ h => Or.inr (by (try dsimp only at h); (try simp only [kNW] at h); omega)) (fun q h => Or.inr (by (try dsimp only at h); (try simp only [kNW] at h); omega)) (fun z_15 H_13 locs_10 hz_12 hF_14 hS_11 => ?_)
    have hzf_16 := hF_14.1
    have hF_14 := hF_14.nw
    refine W.widen (k := 5) (n := 13) (Nat.le_of_ble_eq_true rfl) (Nat.le_of_ble_eq_true rfl) ?_
    obtain ⟨hv_17, hnw_18⟩ := hz_12
    subst z_15
    have h_19 := hP_kState_st.ex hF_14
    have hfin : kState D H_13 st la ea (ex_one t 108 x y S gap).2.2 (ex_one t 108 x y S gap).2.1 F := by rw [hex9]; exact h_19
    exact kx_zret (z := false) hx hb hr hlk (⟨ea, F, by rw [hex9], hfin, by intro q hq; rw [hex9] at hq; exact Or.inl (by first | exact hq | (rw [show (S.set _ _).length = S.length from List.length_set] at hq; exact hq))⟩) hS_11 dX9_lambda_labelling_4_6

set_option maxHeartbeats 4000000 in
set_option maxRecDepth 100000 in
theorem m_lb_u (l : Launch) (D : kG) (H : Heap) (st : Nat) (la : Nat) (ea : Nat) (F : Fts) (S : Ls) (gap : Int) (x : Int) (se : Int) (t : List Int) (hP_kState_st : kState D H st la ea gap S F) (hok : LsOK S gap) (hxr : 0 ≤ x ∧ x ≤ 7) : Met l yX9_lambda_unlabelling_5 (ws_ yX9_lambda_unlabelling_5 cX9_lambda_unlabelling_5 2 (some .boolean)) ({ frames := 4, cells := 0, slots := 0, locals := 86 } : Room) (kPre D H [.int (kI (x)), .ref st]) (kQb (fun (r : Bool) H' => ∃ (ea2 : Nat) (F2 : Fts), (r = (ex_one t 117 x se S gap).1) ∧ (kState D H' st la ea2 ((ex_one t 117 x se S gap).2.2) ((ex_one t 117 x se S gap).2.1) F2) ∧ (∀ q, kOwn D st la ea2 F2 (ex_one t 117 x se S gap).2.1.length q → kOwn D st la ea F S.length q ∨ H.size ≤ q)) (fun q : Nat => kOwn D st la ea F S.length q ∨ H.size ≤ q)) (0) (0) ((fun q : Nat => kOwn D st la ea F S.length q ∨ H.size ≤ q)) := by
  refine Met.ofW (cc := cX9_lambda_unlabelling_5) (maxL := 2) (ret := (some .boolean)) (by decide) rfl ?_
  intro p e s m args below meth c s₁ B hml hv
  obtain ⟨rfl, hH, hK⟩ := hv
  subst hH
  have hx := B.exec
  have hb := B.bytes
  have hr := B.returns
  have hts := atoms_spec (ws := ws_ yX9_lambda_unlabelling_5 cX9_lambda_unlabelling_5 2 (some .boolean)) B.pre
  have hts : ∀ w ∈ lw_all, w.before _ s = true := fun w h => hts w (List.mem_cons_of_mem _ h)
  have hown : s.vm.findClass RX9 = some m.cls := findClass_of_methodNamed B.named
  have hlk := B.notSynchronized
  have hS : va_S (fun q : Nat => kOwn D st la ea F S.length q ∨ s.heap.size ≤ q) s.heap s.heap [] := va_S.rf
  have hB : ∀ q, (fun q : Nat => kOwn D st la ea F S.length q ∨ s.heap.size ≤ q) q → kBase D ≤ q := fun q h => by (rcases h with h | h; exact hP_kState_st.ownge h; (have h2 := hK.size; exact Nat.le_trans h2 h))
  have hl := lv_entry ([.int (kI (x)), .ref st]) (n := 2) (Nat.le_of_ble_eq_true rfl)
  rw [lg_entry_eq]
  generalize (lg_sl ([.int (kI (x)), .ref st]) ++ List.replicate (2 - (lg_sl ([.int (kI (x)), .ref st])).length) Slot.unset).toArray = ls at hl ⊢
  have hl : lv_has ls 2 [(0, .int (kI (x))), (1, .ref st)] := hl
  have hks9 := hK.size
  have hd9 := hK.dis
  have hx9 : ¬ kBase D ≤ D.2.2.2 2 := hK.tE.out
  obtain ⟨⟨hO_st, mc, hO_la⟩, hLs9, hLn9, hF9, hDs9, hb1, hb2, hb3⟩ := id hP_kState_st
  have hL8 := hok.1
  have hFl9 := hF9
  by_cases hr9 : ref_u S x = 0
  · -- hr9 t
    have hex9 : (ex_one t 117 x se S gap) = (true, S.set x.toNat (w_lb (st_ln S x.toNat) (-1)), gap) := by rw [ex_one, if_neg (show ¬ ((117 : Int) = 115) by decide), if_neg (show ¬ ((117 : Int) = 110) by decide), if_neg (show ¬ ((117 : Int) = 119) by decide), if_neg (show ¬ ((117 : Int) = 108) by decide), if_pos rfl, if_pos hr9]
    have hr0 := ref_u_0 hr9
    refine lv_aload_n hx hb dX9_lambda_unlabelling_5_0 rfl (lv_at hl 1 rfl) ?_
    refine lv_iload_n hx hb dX9_lambda_unlabelling_5_1 rfl (lv_at hl 0 rfl) ?_
    refine kx_eqi (((x.toNat : Nat) : Int)) (by omega) ?_
    refine kx_cb (va_runV (As := [.int (kI ((x.toNat : Nat) : Int))]) (rest := []) ⟨hx, hb, hml, hown, hts⟩ (m_X2_unlabel l D s.heap st la ea F S gap x.toNat hP_kState_st (by first | assumption | omega) (by first | assumption | omega) hr0.2) (cwV 1 hts (lw_V q1777 q1778 q1779 q80 q1780) rfl rfl rfl (by decide +kernel) ⟨Nat.le_of_ble_eq_true rfl, Nat.le_of_ble_eq_true rfl⟩) (kx_pv hK hS hB (kx_rc hK hO_st (C := RX2) (T := TX2) (N := 2) rfl)) rfl rfl hl.1 rfl (lv_room (Nat.le_of_ble_eq_true rfl)) dX9_lambda_unlabelling_5_2 ⟨by first | exact Nat.le_of_ble_eq_true rfl | omega | (show _ ≤ _; omega) | (dsimp only [headSpec]; omega), by first | exact Nat.le_of_ble_eq_true rfl | omega | (show _ ≤ _; omega) | (dsimp only [headSpec]; omega)⟩) hS (fun q _ h => by exact Or.inl (Or.inr (Or.inr (Or.inr ⟨x.toNat, by omega, Or.inl h⟩)))) (fun q h => by exact Or.inl (Or.inr (Or.inr (Or.inr ⟨x.toNat, by omega, Or.inl h⟩)))) (fun z_6 H_4 locs_1 hz_3 hF_5 hS_2 => ?_)
    have hzf_7 := hF_5.1
    refine W.widen (k := 0) (n := 0) (Nat.le_of_ble_eq_true rfl) (Nat.le_of_ble_eq_true rfl) ?_
    obtain ⟨hv_8, ho_9⟩ := hz_3
    subst z_6
    have hfin : kState D H_4 st la ea (ex_one t 117 x se S gap).2.2 (ex_one t 117 x se S gap).2.1 F := by rw [hex9]; exact ho_9
    exact kx_zret (z := true) hx hb hr hlk (⟨ea, F, by rw [hex9], hfin, by intro q hq; rw [hex9] at hq; dsimp only at hq; rw [List.length_set] at hq; exact Or.inl hq⟩) hS_2 dX9_lambda_unlabelling_5_5
  · -- hr9 f
    have hex9 : (ex_one t 117 x se S gap) = (false, S, gap) := by rw [ex_one, if_neg (show ¬ ((117 : Int) = 115) by decide), if_neg (show ¬ ((117 : Int) = 110) by decide), if_neg (show ¬ ((117 : Int) = 119) by decide), if_neg (show ¬ ((117 : Int) = 108) by decide), if_pos rfl, if_neg hr9]
    refine lv_aload_n hx hb dX9_lambda_unlabelling_5_0 rfl (lv_at hl 1 rfl) ?_
    refine lv_iload_n hx hb dX9_lambda_unlabelling_5_1 rfl (lv_at hl 0 rfl) ?_
    refine kx_eqi (((x.toNat : Nat) : Int)) (by omega) ?_
    refine kx_cb0 (va_runV (As := [.int (kI ((x.toNat : Nat) : Int))]) (rest := []) ⟨hx, hb, hml, hown, hts⟩ (m_X2_unlabel_no l D s.heap st la ea F S gap x.toNat hP_kState_st (by first | assumption | omega) (by first | assumption | omega) ((ref_u_n hxr.1 hr9))) (cwV 1 hts (lw_V q1777 q1778 q1779 q80 q1780) rfl rfl rfl (by decide +kernel) ⟨Nat.le_of_ble_eq_true rfl, Nat.le_of_ble_eq_true rfl⟩) (kx_pv hK hS hB (kx_rc hK hO_st (C := RX2) (T := TX2) (N := 2) rfl)) rfl rfl hl.1 rfl (lv_room (Nat.le_of_ble_eq_true rfl)) dX9_lambda_unlabelling_5_2 ⟨by first | exact Nat.le_of_ble_eq_true rfl | omega | (show _ ≤ _; omega) | (dsimp only [headSpec]; omega), by first | exact Nat.le_of_ble_eq_true rfl | omega | (show _ ≤ _; omega) | (dsimp only [headSpec]; omega)⟩) hS (fun z_13 locs_10 hz_12 hS_11 => ?_)
    subst z_13
    have hfin : kState D s.heap st la ea (ex_one t 117 x se S gap).2.2 (ex_one t 117 x se S gap).2.1 F := by rw [hex9]; exact hP_kState_st
    exact kx_zret (z := false) hx hb hr hlk (⟨ea, F, by rw [hex9], hfin, by intro q hq; rw [hex9] at hq; exact Or.inl (by first | exact hq | (rw [show (S.set _ _).length = S.length from List.length_set] at hq; exact hq))⟩) hS_11 dX9_lambda_unlabelling_5_5

set_option maxHeartbeats 4000000 in
set_option maxRecDepth 100000 in
theorem m_lb_b (l : Launch) (D : kG) (H : Heap) (st : Nat) (la : Nat) (ea : Nat) (F : Fts) (S : Ls) (gap : Int) (x : Int) (se : Int) (t : List Int) (hP_kState_st : kState D H st la ea gap S F) (hok : LsOK S gap) (hxr : 0 ≤ x ∧ x ≤ 7) : Met l yX9_lambda_labellingBest_6 (ws_ yX9_lambda_labellingBest_6 cX9_lambda_labellingBest_6 2 (some .boolean)) ({ frames := 10, cells := 374, slots := 1053, locals := 3169 } : Room) (kPre D H [.int (kI (x)), .ref st]) (kQb (fun (r : Bool) H' => ∃ (ea2 : Nat) (F2 : Fts), (r = (ex_one t 98 x se S gap).1) ∧ (kState D H' st la ea2 ((ex_one t 98 x se S gap).2.2) ((ex_one t 98 x se S gap).2.1) F2) ∧ (∀ q, kOwn D st la ea2 F2 (ex_one t 98 x se S gap).2.1.length q → kOwn D st la ea F S.length q ∨ H.size ≤ q)) (fun q : Nat => kOwn D st la ea F S.length q ∨ H.size ≤ q)) (374) (1053) ((fun q : Nat => kOwn D st la ea F S.length q ∨ H.size ≤ q)) := by
  refine Met.ofW (cc := cX9_lambda_labellingBest_6) (maxL := 2) (ret := (some .boolean)) (by decide) rfl ?_
  intro p e s m args below meth c s₁ B hml hv
  obtain ⟨rfl, hH, hK⟩ := hv
  subst hH
  have hx := B.exec
  have hb := B.bytes
  have hr := B.returns
  have hts := atoms_spec (ws := ws_ yX9_lambda_labellingBest_6 cX9_lambda_labellingBest_6 2 (some .boolean)) B.pre
  have hts : ∀ w ∈ lw_all, w.before _ s = true := fun w h => hts w (List.mem_cons_of_mem _ h)
  have hown : s.vm.findClass RX9 = some m.cls := findClass_of_methodNamed B.named
  have hlk := B.notSynchronized
  have hS : va_S (fun q : Nat => kOwn D st la ea F S.length q ∨ s.heap.size ≤ q) s.heap s.heap [] := va_S.rf
  have hB : ∀ q, (fun q : Nat => kOwn D st la ea F S.length q ∨ s.heap.size ≤ q) q → kBase D ≤ q := fun q h => by (rcases h with h | h; exact hP_kState_st.ownge h; (have h2 := hK.size; exact Nat.le_trans h2 h))
  have hl := lv_entry ([.int (kI (x)), .ref st]) (n := 2) (Nat.le_of_ble_eq_true rfl)
  rw [lg_entry_eq]
  generalize (lg_sl ([.int (kI (x)), .ref st]) ++ List.replicate (2 - (lg_sl ([.int (kI (x)), .ref st])).length) Slot.unset).toArray = ls at hl ⊢
  have hl : lv_has ls 2 [(0, .int (kI (x))), (1, .ref st)] := hl
  have hks9 := hK.size
  have hd9 := hK.dis
  have hx9 : ¬ kBase D ≤ D.2.2.2 2 := hK.tE.out
  obtain ⟨⟨hO_st, mc, hO_la⟩, hLs9, hLn9, hF9, hDs9, hb1, hb2, hb3⟩ := id hP_kState_st
  have hL8 := hok.1
  have hFl9 := hF9
  by_cases hr9 : ref_best S gap x = 0
  · -- hr9 t
    have hex9 : (ex_one t 98 x se S gap) = (true, S.set x.toNat (w_lb (st_ln S x.toNat) (st_best S gap x.toNat)), gap) := by rw [ex_one, if_neg (show ¬ ((98 : Int) = 115) by decide), if_neg (show ¬ ((98 : Int) = 110) by decide), if_neg (show ¬ ((98 : Int) = 119) by decide), if_neg (show ¬ ((98 : Int) = 108) by decide), if_neg (show ¬ ((98 : Int) = 117) by decide), if_pos rfl, if_pos hr9]
    have hr0 := ref_best_0 hr9
    refine lv_aload_n hx hb dX9_lambda_labellingBest_6_0 rfl (lv_at hl 1 rfl) ?_
    refine lv_iload_n hx hb dX9_lambda_labellingBest_6_1 rfl (lv_at hl 0 rfl) ?_
    refine kx_eqi (((x.toNat : Nat) : Int)) (by omega) ?_
    refine kx_cb (va_runV (As := [.int (kI ((x.toNat : Nat) : Int))]) (rest := []) ⟨hx, hb, hml, hown, hts⟩ (m_X2_labelBest l D s.heap st la ea F S gap x.toNat hP_kState_st (by first | assumption | omega) (by first | assumption | omega) hr0.2) (cwV 1 hts (lw_V q1787 q1006 q1007 q80 q1008) rfl rfl rfl (by decide +kernel) ⟨Nat.le_of_ble_eq_true rfl, Nat.le_of_ble_eq_true rfl⟩) (kx_pv hK hS hB (kx_rc hK hO_st (C := RX2) (T := TX2) (N := 2) rfl)) rfl rfl hl.1 rfl (lv_room (Nat.le_of_ble_eq_true rfl)) dX9_lambda_labellingBest_6_2 ⟨by first | exact Nat.le_of_ble_eq_true rfl | omega | (show _ ≤ _; omega) | (dsimp only [headSpec]; omega), by first | exact Nat.le_of_ble_eq_true rfl | omega | (show _ ≤ _; omega) | (dsimp only [headSpec]; omega)⟩) hS (fun q _ h => by rcases h with h | h; exact Or.inl (Or.inr (Or.inr (Or.inr ⟨x.toNat, by omega, Or.inl h⟩))); exact Or.inr (by omega)) (fun q h => by rcases h with h | h; exact Or.inl (Or.inr (Or.inr (Or.inr ⟨x.toNat, by omega, Or.inl h⟩))); exact Or.inr (by omega)) (fun z_6 H_4 locs_1 hz_3 hF_5 hS_2 => ?_)
    have hzf_7 := hF_5.1
    refine W.widen (k := 374) (n := 1053) (Nat.le_of_ble_eq_true rfl) (Nat.le_of_ble_eq_true rfl) ?_
    obtain ⟨hv_8, ho_9⟩ := hz_3
    subst z_6
    have hfin : kState D H_4 st la ea (ex_one t 98 x se S gap).2.2 (ex_one t 98 x se S gap).2.1 F := by rw [hex9]; exact ho_9
    exact kx_zret (z := true) hx hb hr hlk (⟨ea, F, by rw [hex9], hfin, by intro q hq; rw [hex9] at hq; dsimp only at hq; rw [List.length_set] at hq; exact Or.inl hq⟩) hS_2 dX9_lambda_labellingBest_6_5
  · -- hr9 f
    have hex9 : (ex_one t 98 x se S gap) = (false, S, gap) := by rw [ex_one, if_neg (show ¬ ((98 : Int) = 115) by decide), if_neg (show ¬ ((98 : Int) = 110) by decide), if_neg (show ¬ ((98 : Int) = 119) by decide), if_neg (show ¬ ((98 : Int) = 108) by decide), if_neg (show ¬ ((98 : Int) = 117) by decide), if_pos rfl, if_neg hr9]
    refine lv_aload_n hx hb dX9_lambda_labellingBest_6_0 rfl (lv_at hl 1 rfl) ?_
    refine lv_iload_n hx hb dX9_lambda_labellingBest_6_1 rfl (lv_at hl 0 rfl) ?_
    refine kx_eqi (((x.toNat : Nat) : Int)) (by omega) ?_
    refine kx_cb (va_runV (As := [.int (kI ((x.toNat : Nat) : Int))]) (rest := []) ⟨hx, hb, hml, hown, hts⟩ (m_X2_labelBest_no l D s.heap st la mc ea F S gap x.toNat hO_st hO_la hLs9 hLn9 (by first | assumption | omega) (by first | assumption | omega) ((ref_best_n hxr.1 hr9))) (cwV 1 hts (lw_V q1787 q1006 q1007 q80 q1008) rfl rfl rfl (by decide +kernel) ⟨Nat.le_of_ble_eq_true rfl, Nat.le_of_ble_eq_true rfl⟩) (kx_pv hK hS hB (kx_rc hK hO_st (C := RX2) (T := TX2) (N := 2) rfl)) rfl rfl hl.1 rfl (lv_room (Nat.le_of_ble_eq_true rfl)) dX9_lambda_labellingBest_6_2 ⟨by first | exact Nat.le_of_ble_eq_true rfl | omega | (show _ ≤ _; omega) | (dsimp only [headSpec]; omega), by first | exact Nat.le_of_ble_eq_true rfl | omega | (show _ ≤ _; omega) | (dsimp only [headSpec]; omega)⟩) hS (fun q _ h => Or.inr (by (try dsimp only at h); (try simp only [kNW] at h); omega)) (fun q h => Or.inr (by (try dsimp only at h); (try simp only [kNW] at h); omega)) (fun z_15 H_13 locs_10 hz_12 hF_14 hS_11 => ?_)
    have hzf_16 := hF_14.1
    have hF_14 := hF_14.nw
    refine W.widen (k := 374) (n := 1053) (Nat.le_of_ble_eq_true rfl) (Nat.le_of_ble_eq_true rfl) ?_
    obtain ⟨hv_17, hnw_18⟩ := hz_12
    subst z_15
    have h_19 := hP_kState_st.ex hF_14
    have hfin : kState D H_13 st la ea (ex_one t 98 x se S gap).2.2 (ex_one t 98 x se S gap).2.1 F := by rw [hex9]; exact h_19
    exact kx_zret (z := false) hx hb hr hlk (⟨ea, F, by rw [hex9], hfin, by intro q hq; rw [hex9] at hq; exact Or.inl (by first | exact hq | (rw [show (S.set _ _).length = S.length from List.length_set] at hq; exact hq))⟩) hS_11 dX9_lambda_labellingBest_6_5

set_option maxHeartbeats 4000000 in
set_option maxRecDepth 100000 in
theorem m_lb_a (l : Launch) (D : kG) (H : Heap) (st : Nat) (la : Nat) (ea : Nat) (F : Fts) (S : Ls) (gap : Int) (fi : Int) (se : Int) (t : List Int) (hP_kState_st : kState D H st la ea gap S F) (hok : LsOK S gap) : Met l yX9_lambda_order_0 (ws_ yX9_lambda_order_0 cX9_lambda_order_0 1 (some .boolean)) ({ frames := 11, cells := 3011, slots := 8494, locals := 3192 } : Room) (kPre D H [.ref st]) (kQb (fun (r : Bool) H' => ∃ (ea2 : Nat) (F2 : Fts), (r = (ex_one t 97 fi se S gap).1) ∧ (kState D H' st la ea2 ((ex_one t 97 fi se S gap).2.2) ((ex_one t 97 fi se S gap).2.1) F2) ∧ (∀ q, kOwn D st la ea2 F2 (ex_one t 97 fi se S gap).2.1.length q → kOwn D st la ea F S.length q ∨ H.size ≤ q)) (fun q : Nat => kOwn D st la ea F S.length q ∨ H.size ≤ q)) (3011) (8494) ((fun q : Nat => kOwn D st la ea F S.length q ∨ H.size ≤ q)) := by
  refine Met.ofW (cc := cX9_lambda_order_0) (maxL := 1) (ret := (some .boolean)) (by decide) rfl ?_
  intro p e s m args below meth c s₁ B hml hv
  obtain ⟨rfl, hH, hK⟩ := hv
  subst hH
  have hx := B.exec
  have hb := B.bytes
  have hr := B.returns
  have hts := atoms_spec (ws := ws_ yX9_lambda_order_0 cX9_lambda_order_0 1 (some .boolean)) B.pre
  have hts : ∀ w ∈ lw_all, w.before _ s = true := fun w h => hts w (List.mem_cons_of_mem _ h)
  have hown : s.vm.findClass RX9 = some m.cls := findClass_of_methodNamed B.named
  have hlk := B.notSynchronized
  have hS : va_S (fun q : Nat => kOwn D st la ea F S.length q ∨ s.heap.size ≤ q) s.heap s.heap [] := va_S.rf
  have hB : ∀ q, (fun q : Nat => kOwn D st la ea F S.length q ∨ s.heap.size ≤ q) q → kBase D ≤ q := fun q h => by (rcases h with h | h; exact hP_kState_st.ownge h; (have h2 := hK.size; exact Nat.le_trans h2 h))
  have hl := lv_entry ([.ref st]) (n := 1) (Nat.le_of_ble_eq_true rfl)
  rw [lg_entry_eq]
  generalize (lg_sl ([.ref st]) ++ List.replicate (1 - (lg_sl ([.ref st])).length) Slot.unset).toArray = ls at hl ⊢
  have hl : lv_has ls 1 [(0, .ref st)] := hl
  have hks9 := hK.size
  have hex9 : (ex_one t 97 fi se S gap) = (true, st_la S gap, gap) := by rw [ex_one, if_neg (show ¬ ((97 : Int) = 115) by decide), if_neg (show ¬ ((97 : Int) = 110) by decide), if_neg (show ¬ ((97 : Int) = 119) by decide), if_neg (show ¬ ((97 : Int) = 108) by decide), if_neg (show ¬ ((97 : Int) = 117) by decide), if_neg (show ¬ ((97 : Int) = 98) by decide), if_pos rfl]
  have hln9 := st_lab_nn (st_la S gap)
  have hll9 := st_la_len S gap
  have hd9 := hK.dis
  have hx9 : ¬ kBase D ≤ D.2.2.2 2 := hK.tE.out
  obtain ⟨⟨hO_st, mc, hO_la⟩, hLs9, hLn9, hF9, hDs9, hb1, hb2, hb3⟩ := id hP_kState_st
  have hL8 := hok.1
  refine lv_aload_n hx hb dX9_lambda_order_0_0 rfl (lv_at hl 0 rfl) ?_
  refine kx_ci (va_runV (As := []) (rest := []) ⟨hx, hb, hml, hown, hts⟩ (m_X2_labelAll l D s.heap st la ea F S gap hP_kState_st (by first | assumption | omega)) (cwV 0 hts (lw_V q1790 q526 q527 q80 q528) rfl rfl rfl (by decide +kernel) ⟨Nat.le_of_ble_eq_true rfl, Nat.le_of_ble_eq_true rfl⟩) (kx_pv hK hS hB (kx_rc hK hO_st (C := RX2) (T := TX2) (N := 2) rfl)) rfl rfl hl.1 rfl (lv_room (Nat.le_of_ble_eq_true rfl)) dX9_lambda_order_0_1 ⟨by first | exact Nat.le_of_ble_eq_true rfl | omega | (show _ ≤ _; omega) | (dsimp only [headSpec]; omega), by first | exact Nat.le_of_ble_eq_true rfl | omega | (show _ ≤ _; omega) | (dsimp only [headSpec]; omega)⟩) hS (fun q _ h => by rcases h with ⟨k, hk, h⟩ | h; exact Or.inl (Or.inr (Or.inr (Or.inr ⟨k, hk, Or.inl h⟩))); exact Or.inr (by omega)) (fun q h => by rcases h with ⟨k, hk, h⟩ | h; exact Or.inl (Or.inr (Or.inr (Or.inr ⟨k, hk, Or.inl h⟩))); exact Or.inr (by omega)) (fun z_6 H_4 locs_1 hz_3 hF_5 hS_2 => ?_)
  have hzf_7 := hF_5.1
  refine W.widen (k := 3011) (n := 8494) (Nat.le_of_ble_eq_true rfl) (Nat.le_of_ble_eq_true rfl) ?_
  obtain ⟨hv_8, ho_9⟩ := hz_3
  subst z_6
  refine kx_if_lt (x := st_lab (st_la S gap)) (tgt := 11) hx hb dX9_lambda_order_0_4 (by decide) (by omega) (by omega) (fun c_4_10 => ?_) (fun c_4_10 => ?_)
  · -- taken at 4
    exfalso; omega
  · -- not taken at 4
    refine kx_iconst hx hb dX9_lambda_order_0_7 ?_
    refine lv_goto (tgt := 12) hx hb dX9_lambda_order_0_8 (by decide) ?_
    have hfin : kState D H_4 st la ea (ex_one t 97 fi se S gap).2.2 (ex_one t 97 fi se S gap).2.1 F := by rw [hex9]; exact ho_9
    exact kx_zret (z := true) hx hb hr hlk (⟨ea, F, by rw [hex9], hfin, by intro q hq; rw [hex9] at hq; dsimp only at hq; rw [st_la_len] at hq; exact Or.inl hq⟩) hS_2 dX9_lambda_order_0_12

set_option maxHeartbeats 4000000 in
set_option maxRecDepth 100000 in
theorem m_lb_g (l : Launch) (D : kG) (H : Heap) (st : Nat) (la : Nat) (ea : Nat) (F : Fts) (S : Ls) (gap : Int) (x : Int) (se : Int) (t : List Int) (hP_kState_st : kState D H st la ea gap S F) (hok : LsOK S gap) (hxr : 1 ≤ x ∧ x ≤ 6) : Met l yX9_lambda_gapping_7 (ws_ yX9_lambda_gapping_7 cX9_lambda_gapping_7 2 (some .boolean)) ({ frames := 0, cells := 0, slots := 0, locals := 0 } : Room) (kPre D H [.int (kI (x)), .ref st]) (kQb (fun (r : Bool) H' => ∃ (ea2 : Nat) (F2 : Fts), (r = (ex_one t 103 x se S gap).1) ∧ (kState D H' st la ea2 ((ex_one t 103 x se S gap).2.2) ((ex_one t 103 x se S gap).2.1) F2) ∧ (∀ q, kOwn D st la ea2 F2 (ex_one t 103 x se S gap).2.1.length q → kOwn D st la ea F S.length q ∨ H.size ≤ q)) (fun q : Nat => kOwn D st la ea F S.length q ∨ H.size ≤ q)) (0) (0) ((fun q : Nat => kOwn D st la ea F S.length q ∨ H.size ≤ q)) := by
  refine Met.ofW (cc := cX9_lambda_gapping_7) (maxL := 2) (ret := (some .boolean)) (by decide) rfl ?_
  intro p e s m args below meth c s₁ B hml hv
  obtain ⟨rfl, hH, hK⟩ := hv
  subst hH
  have hx := B.exec
  have hb := B.bytes
  have hr := B.returns
  have hts := atoms_spec (ws := ws_ yX9_lambda_gapping_7 cX9_lambda_gapping_7 2 (some .boolean)) B.pre
  have hts : ∀ w ∈ lw_all, w.before _ s = true := fun w h => hts w (List.mem_cons_of_mem _ h)
  have hown : s.vm.findClass RX9 = some m.cls := findClass_of_methodNamed B.named
  have hlk := B.notSynchronized
  have hS : va_S (fun q : Nat => kOwn D st la ea F S.length q ∨ s.heap.size ≤ q) s.heap s.heap [] := va_S.rf
  have hB : ∀ q, (fun q : Nat => kOwn D st la ea F S.length q ∨ s.heap.size ≤ q) q → kBase D ≤ q := fun q h => by (rcases h with h | h; exact hP_kState_st.ownge h; (have h2 := hK.size; exact Nat.le_trans h2 h))
  have hl := lv_entry ([.int (kI (x)), .ref st]) (n := 2) (Nat.le_of_ble_eq_true rfl)
  rw [lg_entry_eq]
  generalize (lg_sl ([.int (kI (x)), .ref st]) ++ List.replicate (2 - (lg_sl ([.int (kI (x)), .ref st])).length) Slot.unset).toArray = ls at hl ⊢
  have hl : lv_has ls 2 [(0, .int (kI (x))), (1, .ref st)] := hl
  have hks9 := hK.size
  have hr9 : ref_g x = 0 := by unfold ref_g; rw [if_pos hxr]
  have hex9 : (ex_one t 103 x se S gap) = (true, S, x) := by rw [ex_one, if_neg (show ¬ ((103 : Int) = 115) by decide), if_neg (show ¬ ((103 : Int) = 110) by decide), if_neg (show ¬ ((103 : Int) = 119) by decide), if_neg (show ¬ ((103 : Int) = 108) by decide), if_neg (show ¬ ((103 : Int) = 117) by decide), if_neg (show ¬ ((103 : Int) = 98) by decide), if_neg (show ¬ ((103 : Int) = 97) by decide), if_pos hr9]
  have hd9 := hK.dis
  have hx9 : ¬ kBase D ≤ D.2.2.2 2 := hK.tE.out
  obtain ⟨⟨hO_st, mc, hO_la⟩, hLs9, hLn9, hF9, hDs9, hb1, hb2, hb3⟩ := id hP_kState_st
  have hL8 := hok.1
  refine lv_aload_n hx hb dX9_lambda_gapping_7_0 rfl (lv_at hl 1 rfl) ?_
  refine lv_iload_n hx hb dX9_lambda_gapping_7_1 rfl (lv_at hl 0 rfl) ?_
  refine kx_put (v := .int (kI (x))) (C := RX2) (T := TX2) (N := 2) hx hb hts in_X2 hown hK hO_st rfl 1 (by decide) tyX2 tyX2_ok nmX2 hS (Or.inl (Or.inl rfl)) q171 (fun _ h9 => h9) rfl rfl rfl rfl (Nat.le_of_ble_eq_true rfl) dX9_lambda_gapping_7_2 (fun H_3 locs_4 hO_2 hU_1 hS_5 => ?_)
  have hO_2 : kO D H_3 st 1 [.ref la, .int (kI (x))] := hO_2
  have hzu_6 := hU_1.1
  have hSg9 : kState D H_3 st la ea x S F := hP_kState_st.gap hd9 (kUp.fr hU_1) (fun x hx => hx) hO_2
  have hfin : kState D H_3 st la ea (ex_one t 103 x se S gap).2.2 (ex_one t 103 x se S gap).2.1 F := by rw [hex9]; exact hSg9
  refine kx_iconst hx hb dX9_lambda_gapping_7_5 ?_
  exact kx_zret (z := true) hx hb hr hlk (⟨ea, F, by rw [hex9], hfin, by intro q hq; rw [hex9] at hq; exact Or.inl (by first | exact hq | (rw [show (S.set _ _).length = S.length from List.length_set] at hq; exact hq))⟩) hS_5 dX9_lambda_gapping_7_6

set_option maxHeartbeats 4000000 in
set_option maxRecDepth 100000 in
theorem m_lb_s (l : Launch) (D : kG) (H : Heap) (st : Nat) (la : Nat) (ea : Nat) (F : Fts) (S : Ls) (gap : Int) (cn : Nat) (ar : Nat) (gs : Nat → Int) (fn : Nat) (t : List Int) (hP_kState_st : kState D H st la ea gap S F) (hA_ar : kAi D H ar 20 gs) (hok : LsOK S gap) (hG : StG S) (hcn : 1 ≤ cn ∧ cn ≤ 20) (hgs : ∀ j, j < cn → gs j = (tsg t (fn + j) - 48)) (hdig : ∀ j, j < cn → 48 ≤ tsg t (fn + j) ∧ tsg t (fn + j) ≤ 55) (hnar : ¬ kOwn D st la ea F S.length ar) : Met l yX9_lambda_stepping_2 (ws_ yX9_lambda_stepping_2 cX9_lambda_stepping_2 5 (some .boolean)) ({ frames := 9, cells := 140, slots := 280, locals := 3148 } : Room) (kPre D H [.int (kI ((cn : Nat) : Int)), .ref ar, .ref st]) (kQb (fun (r : Bool) H' => ∃ (ea2 : Nat) (F2 : Fts), (r = (ex_one t 115 ((fn : Nat) : Int) ((cn : Nat) : Int) S gap).1) ∧ (kState D H' st la ea2 ((ex_one t 115 ((fn : Nat) : Int) ((cn : Nat) : Int) S gap).2.2) ((ex_one t 115 ((fn : Nat) : Int) ((cn : Nat) : Int) S gap).2.1) F2) ∧ (∀ q, kOwn D st la ea2 F2 (ex_one t 115 ((fn : Nat) : Int) ((cn : Nat) : Int) S gap).2.1.length q → kOwn D st la ea F S.length q ∨ H.size ≤ q)) (fun q : Nat => kOwn D st la ea F S.length q ∨ H.size ≤ q)) (140) (280) ((fun q : Nat => kOwn D st la ea F S.length q ∨ H.size ≤ q)) := by
  refine Met.ofW (cc := cX9_lambda_stepping_2) (maxL := 5) (ret := (some .boolean)) (by decide) rfl ?_
  intro p e s m args below meth c s₁ B hml hv
  obtain ⟨rfl, hH, hK⟩ := hv
  subst hH
  have hx := B.exec
  have hb := B.bytes
  have hr := B.returns
  have hts := atoms_spec (ws := ws_ yX9_lambda_stepping_2 cX9_lambda_stepping_2 5 (some .boolean)) B.pre
  have hts : ∀ w ∈ lw_all, w.before _ s = true := fun w h => hts w (List.mem_cons_of_mem _ h)
  have hown : s.vm.findClass RX9 = some m.cls := findClass_of_methodNamed B.named
  have hlk := B.notSynchronized
  have hS : va_S (fun q : Nat => kOwn D st la ea F S.length q ∨ s.heap.size ≤ q) s.heap s.heap [] := va_S.rf
  have hB : ∀ q, (fun q : Nat => kOwn D st la ea F S.length q ∨ s.heap.size ≤ q) q → kBase D ≤ q := fun q h => by (rcases h with h | h; exact hP_kState_st.ownge h; (have h2 := hK.size; exact Nat.le_trans h2 h))
  have hl := lv_entry ([.int (kI ((cn : Nat) : Int)), .ref ar, .ref st]) (n := 5) (Nat.le_of_ble_eq_true rfl)
  rw [lg_entry_eq]
  generalize (lg_sl ([.int (kI ((cn : Nat) : Int)), .ref ar, .ref st]) ++ List.replicate (5 - (lg_sl ([.int (kI ((cn : Nat) : Int)), .ref ar, .ref st])).length) Slot.unset).toArray = ls at hl ⊢
  have hl : lv_has ls 5 [(0, .int (kI ((cn : Nat) : Int))), (1, .ref ar), (2, .ref st)] := hl
  have hks9 := hK.size
  have hL8 := hok.1
  refine kx_iconst hx hb dX9_lambda_stepping_2_0 ?_
  refine lv_istore_n (lv' := [(3, .int (kI (1))), (0, .int (kI ((cn : Nat) : Int))), (1, .ref ar), (2, .ref st)]) hx hb dX9_lambda_stepping_2_1 rfl hl (by decide) rfl (fun ls hl => ?_)
  refine kx_iconst hx hb dX9_lambda_stepping_2_2 ?_
  refine lv_istore (lv' := [(4, .int (kI (0))), (3, .int (kI (1))), (0, .int (kI ((cn : Nat) : Int))), (1, .ref ar), (2, .ref st)]) hx hb dX9_lambda_stepping_2_3 hl (by decide) rfl (fun ls hl => ?_)
  have lp_5_x_1 : ∀ (n_5 : Nat) (j : Nat) (b : Bool) (S1 : Ls) (H : Heap) (hP_kState_st : kState D H st la ea gap S1 F) (hA_ar : kAi D H ar 20 gs) (hj : j ≤ cn) (hok1 : LsOK S1 gap) (hG1 : StG S1) (hlen : S1.length = S.length) (hEx : ex_s t fn cn S = (if b = true then (if 0 < S1.length then ex_st t (cn - j) (fn + j) S1 else (false, S1)) else (false, S1))) (hpos : b = true → j = 0 ∨ 0 < S1.length) (locs : List Loc) (hS : va_S (fun q : Nat => kOwn D st la ea F S.length q ∨ s.heap.size ≤ q) s.heap H locs) (hm_5 : cn - j < n_5) (ls : Array Slot), lv_has ls 5 [(0, .int (kI ((cn : Nat) : Int))), (1, .ref ar), (2, .ref st), (3, .int (kI (kb (b)))), (4, .int (kI ((j : Nat) : Int)))] → W p l e (headSpec (ws_ yX9_lambda_stepping_2 cX9_lambda_stepping_2 5 (some .boolean)) ({ frames := 9, cells := 140, slots := 280, locals := 3148 } : Room)).room s m ([.int (kI ((cn : Nat) : Int)), .ref ar, .ref st] : List Value).toArray below meth c H locs (7 * j) (14 * j) (MQ below (kQb (fun (r : Bool) H' => ∃ (ea2 : Nat) (F2 : Fts), (r = (ex_one t 115 ((fn : Nat) : Int) ((cn : Nat) : Int) S gap).1) ∧ (kState D H' st la ea2 ((ex_one t 115 ((fn : Nat) : Int) ((cn : Nat) : Int) S gap).2.2) ((ex_one t 115 ((fn : Nat) : Int) ((cn : Nat) : Int) S gap).2.1) F2) ∧ (∀ q, kOwn D st la ea2 F2 (ex_one t 115 ((fn : Nat) : Int) ((cn : Nat) : Int) S gap).2.1.length q → kOwn D st la ea F S.length q ∨ s.heap.size ≤ q)) (fun q : Nat => kOwn D st la ea F S.length q ∨ s.heap.size ≤ q)) ([.int (kI ((cn : Nat) : Int)), .ref ar, .ref st] : List Value).toArray s (140) (280) ((fun q : Nat => kOwn D st la ea F S.length q ∨ s.heap.size ≤ q))) (F0 m 5 ls []) := by
    intro n_5
    induction n_5 with
    | zero => intro j b S1 H hP_kState_st hA_ar hj hok1 hG1 hlen hEx hpos locs hS hm_5; exact absurd hm_5 (Nat.not_lt_zero _)
    | succ n_5 ih_5 =>
      intro j b S1 H hP_kState_st hA_ar hj hok1 hG1 hlen hEx hpos locs hS hm_5 ls hl
      have hsz1 := hS.1
      have hd91 := hK.dis
      have hx91 : ¬ kBase D ≤ D.2.2.2 2 := hK.tE.out
      obtain ⟨⟨hO_st1, mc1, hO_la1⟩, hLs91, hLn91, hF91, hDs91, hb11, hb21, hb31⟩ := id hP_kState_st
      have hL81 := hok1.1
      refine lv_iload hx hb dX9_lambda_stepping_2_5 (lv_at hl 4 rfl) ?_
      refine lv_iload_n hx hb dX9_lambda_stepping_2_7 rfl (lv_at hl 0 rfl) ?_
      refine kx_icmp_ge (x := ((j : Nat) : Int)) (y := ((cn : Nat) : Int)) (tgt := 61) hx hb dX9_lambda_stepping_2_8 (by decide) (by omega) (by omega) (by omega) (by omega) (fun c_8_2 => ?_) (fun c_8_2 => ?_)
      · -- taken at 8
        have hfin9 : ex_s t fn cn S = (b, S1) := by rw [hEx]; rcases b with _ | _; (rw [if_neg Bool.false_ne_true]); (first | exact absurd (by assumption : true = false) (by decide) | (have h9 := hpos rfl; rw [if_pos rfl, if_pos (by omega), show cn - j = 0 by omega]; rfl))
        have hex9 : (ex_one t 115 ((fn : Nat) : Int) ((cn : Nat) : Int) S gap) = (b, S1, gap) := by rw [ex_one_s, hfin9]
        have hfin : kState D H st la ea (ex_one t 115 ((fn : Nat) : Int) ((cn : Nat) : Int) S gap).2.2 (ex_one t 115 ((fn : Nat) : Int) ((cn : Nat) : Int) S gap).2.1 F := by rw [hex9]; exact hP_kState_st
        refine lv_iload_n hx hb dX9_lambda_stepping_2_61 rfl (lv_at hl 3 rfl) ?_
        refine W.widen (k := 140) (n := 280) (by omega) (by omega) ?_
        exact kx_zret (z := b) hx hb hr hlk (⟨ea, F, by rw [hex9], hfin, by intro q hq; rw [hex9] at hq; dsimp only at hq; rw [hlen] at hq; exact Or.inl hq⟩) hS dX9_lambda_stepping_2_62
      · -- not taken at 8
        refine lv_iload_n hx hb dX9_lambda_stepping_2_11 rfl (lv_at hl 3 rfl) ?_
        refine kx_ifz (tgt := 61) hx hb dX9_lambda_stepping_2_12 (by decide) (fun c_12_3 => ?_) (fun c_12_3 => ?_)
        · -- taken at 12
          have hfin9 : ex_s t fn cn S = (b, S1) := by rw [hEx]; rcases b with _ | _; (rw [if_neg Bool.false_ne_true]); (first | exact absurd (by assumption : true = false) (by decide) | (have h9 := hpos rfl; rw [if_pos rfl, if_pos (by omega), show cn - j = 0 by omega]; rfl))
          have hex9 : (ex_one t 115 ((fn : Nat) : Int) ((cn : Nat) : Int) S gap) = (b, S1, gap) := by rw [ex_one_s, hfin9]
          have hfin : kState D H st la ea (ex_one t 115 ((fn : Nat) : Int) ((cn : Nat) : Int) S gap).2.2 (ex_one t 115 ((fn : Nat) : Int) ((cn : Nat) : Int) S gap).2.1 F := by rw [hex9]; exact hP_kState_st
          refine lv_iload_n hx hb dX9_lambda_stepping_2_61 rfl (lv_at hl 3 rfl) ?_
          refine W.widen (k := 140) (n := 280) (by omega) (by omega) ?_
          exact kx_zret (z := b) hx hb hr hlk (⟨ea, F, by rw [hex9], hfin, by intro q hq; rw [hex9] at hq; dsimp only at hq; rw [hlen] at hq; exact Or.inl hq⟩) hS dX9_lambda_stepping_2_62
        · -- not taken at 12
          refine lv_aload_n hx hb dX9_lambda_stepping_2_15 rfl (lv_at hl 2 rfl) ?_
          refine kx_get (v := .ref la) (C := RX2) (T := TX2) (N := 2) hx hb hts in_X2 hown hK hO_st1 rfl 0 (by decide) q169 (fun _ h9 => h9) rfl dX9_lambda_stepping_2_16 ?_
          refine kx_cFi0 (va_runF (C := RJ2) (As := []) (rest := []) (hK.at (ci := 9) rfl) ⟨hx, hb, hml, hown, hts⟩ (m_J2_size l D H la mc1 ea S1.length hO_la1 ) (va_cwF (x := ({ cls := "java/util/List", name := "size", desc := "()I" } : Jvm.MethodName)) 0 hts (lw_F q1673 q283 q285 q83 q287) rfl rfl rfl (hK.fw (by decide)) (by decide +kernel) ⟨Nat.le_of_ble_eq_true rfl, Nat.le_of_ble_eq_true rfl⟩) (kx_pv hK hS hB (kx_rc hK hO_la1 (C := RJ2) (T := TJ2) (N := 3) rfl)) rfl rfl hl.1 rfl (lv_room (Nat.le_of_ble_eq_true rfl)) dX9_lambda_stepping_2_19 ⟨by first | exact Nat.le_of_ble_eq_true rfl | omega | (show _ ≤ _; omega) | (dsimp only [headSpec]; omega), by first | exact Nat.le_of_ble_eq_true rfl | omega | (show _ ≤ _; omega) | (dsimp only [headSpec]; omega)⟩) hS (fun z_7 locs_4 hz_6 hS_5 => ?_)
          subst z_7
          refine kx_if_le (x := ((S1.length : Nat) : Int)) (tgt := 53) hx hb dX9_lambda_stepping_2_24 (by decide) (by omega) (by omega) (fun c_24_8 => ?_) (fun c_24_8 => ?_)
          · -- taken at 24
            refine kx_iconst hx hb dX9_lambda_stepping_2_53 ?_
            refine lv_istore_n (lv' := [(3, .int (kI (0))), (0, .int (kI ((cn : Nat) : Int))), (1, .ref ar), (2, .ref st), (4, .int (kI ((j : Nat) : Int)))]) hx hb dX9_lambda_stepping_2_54 rfl hl (by decide) rfl (fun ls hl => ?_)
            refine lv_iinc (v := kI (((j + 1 : Nat) : Int))) (lv' := [(4, .int (kI ((j + 1 : Nat) : Int))), (3, .int (kI (0))), (0, .int (kI ((cn : Nat) : Int))), (1, .ref ar), (2, .ref st)]) hx hb dX9_lambda_stepping_2_55 hl (k := 4) rfl (kI_incN _ _) (by decide) rfl (fun ls hl => ?_)
            refine lv_goto (tgt := 5) hx hb dX9_lambda_stepping_2_58 (by decide) ?_
            refine W.widen (k := 7 * (j + 1)) (n := 14 * (j + 1)) (by omega) (by omega) ?_
            exact ih_5  (j + 1) false S1 H hP_kState_st hA_ar (by first | assumption | omega | (simp_all; done) | grind) (hok1) (hG1) (hlen) (by rw [hEx, if_pos (by assumption), if_neg (by omega), if_neg Bool.false_ne_true]) (fun z => absurd z Bool.false_ne_true) _ hS_5 (by omega) ls (lv_sub hl [2, 3, 4, 1, 0] rfl)
          · -- not taken at 24
            have hb9 : b = true := by assumption
            have hgj9 := hgs j (by omega)
            have hdj9 := hdig j (by omega)
            have hdr9 : 0 ≤ (tsg t (fn + j) - 48) ∧ (tsg t (fn + j) - 48) ≤ 7 := by omega
            refine lv_aload_n hx hb dX9_lambda_stepping_2_27 rfl (lv_at hl 2 rfl) ?_
            refine lv_aload_n hx hb dX9_lambda_stepping_2_28 rfl (lv_at hl 2 rfl) ?_
            refine kx_get (v := .ref la) (C := RX2) (T := TX2) (N := 2) hx hb hts in_X2 hown hK hO_st1 rfl 0 (by decide) q169 (fun _ h9 => h9) rfl dX9_lambda_stepping_2_29 ?_
            refine kx_cFi0 (va_runF (C := RJ2) (As := []) (rest := [.ref st]) (hK.at (ci := 9) rfl) ⟨hx, hb, hml, hown, hts⟩ (m_J2_size l D H la mc1 ea S1.length hO_la1 ) (va_cwF (x := ({ cls := "java/util/List", name := "size", desc := "()I" } : Jvm.MethodName)) 0 hts (lw_F q1673 q283 q285 q83 q287) rfl rfl rfl (hK.fw (by decide)) (by decide +kernel) ⟨Nat.le_of_ble_eq_true rfl, Nat.le_of_ble_eq_true rfl⟩) (kx_pv hK hS_5 hB (kx_rc hK hO_la1 (C := RJ2) (T := TJ2) (N := 3) rfl)) rfl rfl hl.1 rfl (lv_room (Nat.le_of_ble_eq_true rfl)) dX9_lambda_stepping_2_32 ⟨by first | exact Nat.le_of_ble_eq_true rfl | omega | (show _ ≤ _; omega) | (dsimp only [headSpec]; omega), by first | exact Nat.le_of_ble_eq_true rfl | omega | (show _ ≤ _; omega) | (dsimp only [headSpec]; omega)⟩) hS_5 (fun z_12 locs_9 hz_11 hS_10 => ?_)
            subst z_12
            refine kx_iconst hx hb dX9_lambda_stepping_2_37 ?_
            refine kx_isub hx hb dX9_lambda_stepping_2_38 ?_
            refine kx_eqi (((S1.length - 1 : Nat) : Int)) (by omega) ?_
            refine lv_aload_n hx hb dX9_lambda_stepping_2_39 rfl (lv_at hl 1 rfl) ?_
            refine lv_iload hx hb dX9_lambda_stepping_2_40 (lv_at hl 4 rfl) ?_
            refine kx_iald (i := ((j : Nat) : Int)) hx hb hK hA_ar j (rfl) (by omega) (by omega) dX9_lambda_stepping_2_42 ?_
            refine kx_eqi ((tsg t (fn + j) - 48)) (hgj9) ?_
            by_cases hz9 : ref_s S1 ((S1.length : Int) - 1) (tsg t (fn + j) - 48) = 0
            · -- hz9 t
              have hwn9 := (ref_s_iff (by omega) hdr9).mp hz9
              refine kx_cb (va_runV (As := [.int (kI ((S1.length - 1 : Nat) : Int)), .int (kI ((tsg t (fn + j) - 48)))]) (rest := []) ⟨hx, hb, hml, hown, hts⟩ (m_X2_step l D H st la ea F S1 gap ((S1.length - 1)) ((tsg t (fn + j) - 48)) hP_kState_st (by first | assumption | omega) (by first | assumption | omega) hdr9 hwn9 ((ln_cl_step hok1 (by omega) hwn9))) (cwV 2 hts (lw_V q1674 q1675 q1676 q80 q1677) rfl rfl rfl (by decide +kernel) ⟨Nat.le_of_ble_eq_true rfl, Nat.le_of_ble_eq_true rfl⟩) (kx_pv hK hS_10 hB (kx_rc hK hO_st1 (C := RX2) (T := TX2) (N := 2) rfl)) rfl rfl hl.1 rfl (lv_room (Nat.le_of_ble_eq_true rfl)) dX9_lambda_stepping_2_43 ⟨by first | exact Nat.le_of_ble_eq_true rfl | omega | (show _ ≤ _; omega) | (dsimp only [headSpec]; omega), by first | exact Nat.le_of_ble_eq_true rfl | omega | (show _ ≤ _; omega) | (dsimp only [headSpec]; omega)⟩) hS_10 (fun q _ h => by rcases h with h | h | h | h; exact Or.inl (Or.inr (Or.inr (Or.inr ⟨S1.length - 1, by omega, Or.inl h⟩))); exact Or.inl (Or.inr (Or.inr (Or.inr ⟨S1.length - 1, by omega, Or.inr (Or.inl h)⟩))); exact Or.inl (Or.inr (Or.inr (Or.inr ⟨S1.length - 1, by omega, Or.inr (Or.inr h)⟩))); exact Or.inr (by omega)) (fun q h => by rcases h with h | h | h | h; exact Or.inl (Or.inr (Or.inr (Or.inr ⟨S1.length - 1, by omega, Or.inl h⟩))); exact Or.inl (Or.inr (Or.inr (Or.inr ⟨S1.length - 1, by omega, Or.inr (Or.inl h)⟩))); exact Or.inl (Or.inr (Or.inr (Or.inr ⟨S1.length - 1, by omega, Or.inr (Or.inr h)⟩))); exact Or.inr (by omega)) (fun z_18 H_16 locs_13 hz_15 hF_17 hS_14 => ?_)
              have hzf_19 := hF_17.1
              obtain ⟨hv_20, ho_21⟩ := hz_15
              subst z_18
              refine kx_ifz (tgt := 53) hx hb dX9_lambda_stepping_2_46 (by decide) (fun c_46_22 => ?_) (fun c_46_22 => ?_)
              · -- taken at 46
                first | exact absurd c_46_22 (by decide) | exact Bool.noConfusion c_46_22 | (simp at c_46_22; done)
              · -- not taken at 46
                refine kx_iconst hx hb dX9_lambda_stepping_2_49 ?_
                refine lv_goto (tgt := 54) hx hb dX9_lambda_stepping_2_50 (by decide) ?_
                refine lv_istore_n (lv' := [(3, .int (kI (1))), (0, .int (kI ((cn : Nat) : Int))), (1, .ref ar), (2, .ref st), (4, .int (kI ((j : Nat) : Int)))]) hx hb dX9_lambda_stepping_2_54 rfl hl (by decide) rfl (fun ls hl => ?_)
                refine lv_iinc (v := kI (((j + 1 : Nat) : Int))) (lv' := [(4, .int (kI ((j + 1 : Nat) : Int))), (3, .int (kI (1))), (0, .int (kI ((cn : Nat) : Int))), (1, .ref ar), (2, .ref st)]) hx hb dX9_lambda_stepping_2_55 hl (k := 4) rfl (kI_incN _ _) (by decide) rfl (fun ls hl => ?_)
                refine lv_goto (tgt := 5) hx hb dX9_lambda_stepping_2_58 (by decide) ?_
                have h_23 := hA_ar.fr hF_17 (fun h => by have h9 := hA_ar.lt; rcases h with h | h | h | h; exact hnar (Or.inr (Or.inr (Or.inr ⟨S1.length - 1, by omega, Or.inl h⟩))); exact hnar (Or.inr (Or.inr (Or.inr ⟨S1.length - 1, by omega, Or.inr (Or.inl h)⟩))); exact hnar (Or.inr (Or.inr (Or.inr ⟨S1.length - 1, by omega, Or.inr (Or.inr h)⟩))); omega)
                refine W.widen (k := 7 * (j + 1)) (n := 14 * (j + 1)) (by omega) (by omega) ?_
                exact ih_5  (j + 1) true ((S1.set (((S1.length - 1))) (w_step (st_ln S1 (((S1.length - 1)))) (((tsg t (fn + j) - 48)))))) H_16 ho_21 h_23 (by first | assumption | omega | (simp_all; done) | grind) (by have h9 := hok1.exSt hz9; rw [show ((S1.length : Int) - 1).toNat = S1.length - 1 by omega] at h9; exact h9) (hG1.step hok1 (by omega) hdr9 hwn9) (by rw [List.length_set]; exact hlen) (by rw [hEx, if_pos hb9, if_pos (by omega), show cn - j = (cn - (j + 1)) + 1 by omega, ex_st_t hz9, if_pos rfl, if_pos (by rw [List.length_set]; omega)] <;> rfl) (fun _ => Or.inr (by rw [List.length_set]; omega)) _ hS_14 (by omega) ls (lv_sub hl [2, 3, 4, 1, 0] rfl)
            · -- hz9 f
              refine kx_cb (va_runV (As := [.int (kI ((S1.length - 1 : Nat) : Int)), .int (kI ((tsg t (fn + j) - 48)))]) (rest := []) ⟨hx, hb, hml, hown, hts⟩ (m_X2_step_no l D H st la mc1 ea F S1 gap ((S1.length - 1)) ((tsg t (fn + j) - 48)) hO_st1 hO_la1 hLs91 hLn91 (by first | assumption | omega) (by first | assumption | omega) hdr9 ((Or.inr (fun z => hz9 ((ref_s_iff (by omega) hdr9).mpr z))))) (cwV 2 hts (lw_V q1674 q1675 q1676 q80 q1677) rfl rfl rfl (by decide +kernel) ⟨Nat.le_of_ble_eq_true rfl, Nat.le_of_ble_eq_true rfl⟩) (kx_pv hK hS_10 hB (kx_rc hK hO_st1 (C := RX2) (T := TX2) (N := 2) rfl)) rfl rfl hl.1 rfl (lv_room (Nat.le_of_ble_eq_true rfl)) dX9_lambda_stepping_2_43 ⟨by first | exact Nat.le_of_ble_eq_true rfl | omega | (show _ ≤ _; omega) | (dsimp only [headSpec]; omega), by first | exact Nat.le_of_ble_eq_true rfl | omega | (show _ ≤ _; omega) | (dsimp only [headSpec]; omega)⟩) hS_10 (fun q _ h => Or.inr (by (try dsimp only at h); (try simp only [kNW] at h); omega)) (fun q h => Or.inr (by (try dsimp only at h); (try simp only [kNW] at h); omega)) (fun z_29 H_27 locs_24 hz_26 hF_28 hS_25 => ?_)
              have hzf_30 := hF_28.1
              have hF_28 := hF_28.nw
              obtain ⟨hv_31, hnw_32⟩ := hz_26
              subst z_29
              refine kx_ifz (tgt := 53) hx hb dX9_lambda_stepping_2_46 (by decide) (fun c_46_33 => ?_) (fun c_46_33 => ?_)
              · -- taken at 46
                refine kx_iconst hx hb dX9_lambda_stepping_2_53 ?_
                refine lv_istore_n (lv' := [(3, .int (kI (0))), (0, .int (kI ((cn : Nat) : Int))), (1, .ref ar), (2, .ref st), (4, .int (kI ((j : Nat) : Int)))]) hx hb dX9_lambda_stepping_2_54 rfl hl (by decide) rfl (fun ls hl => ?_)
                refine lv_iinc (v := kI (((j + 1 : Nat) : Int))) (lv' := [(4, .int (kI ((j + 1 : Nat) : Int))), (3, .int (kI (0))), (0, .int (kI ((cn : Nat) : Int))), (1, .ref ar), (2, .ref st)]) hx hb dX9_lambda_stepping_2_55 hl (k := 4) rfl (kI_incN _ _) (by decide) rfl (fun ls hl => ?_)
                refine lv_goto (tgt := 5) hx hb dX9_lambda_stepping_2_58 (by decide) ?_
                have h_34 := hP_kState_st.ex hF_28
                have h_35 := hA_ar.ex hF_28
                refine W.widen (k := 7 * (j + 1)) (n := 14 * (j + 1)) (by omega) (by omega) ?_
                exact ih_5  (j + 1) false S1 H_27 h_34 h_35 (by first | assumption | omega | (simp_all; done) | grind) (hok1) (hG1) (hlen) (by rw [hEx, if_pos hb9, if_pos (by omega), show cn - j = (cn - (j + 1)) + 1 by omega, ex_st_f hz9, if_neg Bool.false_ne_true]) (fun z => absurd z Bool.false_ne_true) _ hS_25 (by omega) ls (lv_sub hl [2, 3, 4, 1, 0] rfl)
              · -- not taken at 46
                first | exact absurd c_46_33 (by decide) | exact Bool.noConfusion c_46_33 | (simp at c_46_33; done)
  refine W.widen (k := 7 * 0) (n := 14 * 0) (by omega) (by omega) ?_
  exact lp_5_x_1 (cn - 0 + 1) 0 true S s.heap hP_kState_st hA_ar (by first | assumption | omega | (simp_all; done) | grind) (hok) (hG) (rfl) (by rw [if_pos rfl]; rfl) (fun _ => Or.inl rfl) _ hS (Nat.lt_succ_self _) ls (lv_sub hl [2, 3, 4, 1, 0] rfl)

