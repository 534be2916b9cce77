/-! MATH 13: orders of steps; the text carried out -/
def ex_s (t : List Int) (fn cn : Nat) (S : Ls) : Bool × Ls := if 0 < S.length then ex_st t cn fn S else (false, S)
theorem ex_one_s (t : List Int) (fn cn : Nat) (S : Ls) (gap : Int) : ex_one t 115 (fn : Int) (cn : Int) S gap = ((ex_s t fn cn S).1, (ex_s t fn cn S).2, gap) := by
  rw [ex_one, if_pos rfl]
  unfold ex_s
  rw [Int.toNat_natCast, Int.toNat_natCast]
  split <;> rfl
theorem ex_st_t {t : List Int} {c k : Nat} {S : Ls} (h : ref_s S ((S.length : Int) - 1) (tsg t k - 48) = 0) : ex_st t (c + 1) k S = ex_st t c (k + 1) (S.set (S.length - 1) (w_step (st_ln S (S.length - 1)) (tsg t k - 48))) := by rw [ex_st, if_pos h]
theorem ex_st_f {t : List Int} {c k : Nat} {S : Ls} (h : ¬ ref_s S ((S.length : Int) - 1) (tsg t k - 48) = 0) : ex_st t (c + 1) k S = (false, S) := by rw [ex_st, if_neg h]
theorem MTx.at {gt : Nat → Int} {t : List Int} (h : MTx gt t) {i : Nat} (hi : i < t.length) : gt i = tsg t i := by
  unfold tsg
  rw [if_pos hi]
  exact (h i hi).1
theorem ex_st_ok {t : List Int} {gap : Int} : ∀ (c k : Nat) (S : Ls), LsOK S gap → LsOK (ex_st t c k S).2 gap := by
  intro c
  induction c with
  | zero => intro k S h; exact h
  | succ c ih =>
    intro k S h
    rw [ex_st]
    split
    · rename_i q
      have h1 := ref_s_0 h q
      have h2 := h.exSt q
      rw [show ((S.length : Int) - 1).toNat = S.length - 1 by omega] at h2
      exact ih _ _ h2
    · exact h
/-- an order keeps the numbers' ranges -/
theorem ex_one_ok {t : List Int} {le fi se : Int} {S : Ls} {gap : Int} (h : LsOK S gap) : LsOK (ex_one t le fi se S gap).2.1 (ex_one t le fi se S gap).2.2 := by
  rw [ex_one]
  split
  · split
    · exact ex_st_ok _ _ _ h
    · exact h
  · split
    · split
      · rename_i q
        obtain ⟨h1, h2, h3, h4⟩ := ref_b_0 h q
        exact h.push h3 (LnOK.new h2 h1)
      · exact h
    · split
      · split
        · rename_i q
          have h1 := ref_w_0 q
          exact h.erase (by omega)
        · exact h
      · split
        · split
          · rename_i q
            obtain ⟨h1, h2, h3, h4⟩ := ref_l_0 q
            have hl : fi.toNat < S.length := by omega
            exact h.set hl ((h.ln hl).setLb (Or.inr ⟨h2.1, h4⟩))
          · exact h
        · split
          · split
            · rename_i q
              obtain ⟨h1, h2⟩ := ref_u_0 q
              have hl : fi.toNat < S.length := by omega
              exact h.set hl ((h.ln hl).setLb (Or.inl rfl))
            · exact h
          · split
            · split
              · rename_i q
                obtain ⟨h1, h2⟩ := ref_best_0 q
                have hl : fi.toNat < S.length := by omega
                refine h.set hl ((h.ln hl).setLb ?_)
                rcases st_best_ok S gap fi.toNat with z | ⟨z1, z2, z3, z4⟩
                · exact Or.inl z
                · exact Or.inr ⟨z1, z4⟩
              · exact h
            · split
              · exact h.la
              · split
                · rename_i q
                  exact h.gap' (ref_g_0 q)
                · exact h
/-- the text carried out from a place on: how many orders were, and what is then -/
def tx_run (t : List Int) : Nat → Nat → Ls → Int → Nat × Ls × Int
  | 0, _, S, gap => (0, S, gap)
  | f + 1, i, S, gap =>
    if i < t.length then
      (if (ex_one t (tsg t i) (rdW t i).2.2.1 (rdW t i).2.2.2 S gap).1 = true
        then ((tx_run t f ((rdW t i).2.1 + 1) (ex_one t (tsg t i) (rdW t i).2.2.1 (rdW t i).2.2.2 S gap).2.1 (ex_one t (tsg t i) (rdW t i).2.2.1 (rdW t i).2.2.2 S gap).2.2).1 + 1, (tx_run t f ((rdW t i).2.1 + 1) (ex_one t (tsg t i) (rdW t i).2.2.1 (rdW t i).2.2.2 S gap).2.1 (ex_one t (tsg t i) (rdW t i).2.2.1 (rdW t i).2.2.2 S gap).2.2).2)
        else (0, (ex_one t (tsg t i) (rdW t i).2.2.1 (rdW t i).2.2.2 S gap).2))
    else (0, S, gap)
def tx_go (t : List Int) (S : Ls) (gap : Int) : Nat × Ls × Int := tx_run t (t.length + 1) 0 S gap
/-- from a place on the text is well -/
def tx_wf (t : List Int) (i : Nat) : Prop := ∃ f, t.length - i < f ∧ (tx_lp t f (rdW t i).1 (rdW t i).2.1).1 = true
theorem tx_lp_true {t : List Int} {f : Nat} {w : Bool} {i : Nat} (h : (tx_lp t f w i).1 = true) : w = true := by
  cases f with
  | zero => exact h
  | succ f =>
    rw [tx_lp] at h
    split at h
    · rename_i q; exact q.1
    · exact h
theorem tx_wf_0 {t : List Int} (h : (tx_all t).1 = true) : tx_wf t 0 := ⟨t.length + 1, by omega, h⟩
theorem tx_wf_1 {t : List Int} {i : Nat} (h : tx_wf t i) : (rdW t i).1 = true := by obtain ⟨f, h1, h2⟩ := h; exact tx_lp_true h2
theorem tx_wf_next {gt : Nat → Int} {t : List Int} (hT : MTx gt t) {i : Nat} (h : tx_wf t i) (hn : (rdW t i).2.1 + 1 < t.length + 1) : tx_wf t ((rdW t i).2.1 + 1) := by
  have h9 := (rdW_place hT i).2.2 (tx_wf_1 h)
  obtain ⟨f, h1, h2⟩ := h
  have hf : f = (f - 1) + 1 := by omega
  have hw := tx_lp_true h2
  rw [hf, tx_lp, if_pos ⟨hw, by omega⟩] at h2
  split at h2
  · exact ⟨f - 1, by omega, h2⟩
  · exact absurd h2 Bool.false_ne_true
theorem ex_s_end {t : List Int} {c k : Nat} {b : Bool} {S1 : Ls} {X : Bool × Ls} (h : X = (if b = true then ex_st t c k S1 else (false, S1))) (hb : b = true → c = 0) : X = (b, S1) := by
  rw [h]
  cases b with
  | false => rfl
  | true => rw [if_pos rfl, hb rfl]; rfl
set_option maxHeartbeats 4000000 in
set_option maxRecDepth 100000 in
theorem m_carries_s (l : Launch) (D : kG) (H : Heap) (a : Nat) (ra : Nat) (sa : Nat) (ka : Nat) (ta : Nat) (sn : Nat) (ik : Bool) (th : Int) (sp : Int) (iw : Bool) (t : List Int) (gt : Nat → Int) (g : Nat → Int) (S : Ls) (gap : Int) (fn : Nat) (cn : Nat) (hO_a : kO D H a 2 [.ref ra, .ref sa, .int (kI ((sn : Nat) : Int)), .ref ka, .int (kI (kb (ik))), .ref ta, .int (kI ((t.length : Nat) : Int)), .int (kI (th)), .int (kI (sp)), .int (kI (kb (iw))), .int (kI (115)), .int (kI ((fn : Nat) : Int)), .int (kI ((cn : Nat) : Int))]) (hA_ra : kAi D H ra 514 g) (hA_ta : kAi D H ta 60 gt) (hM : MRow g S gap) (hok : LsOK S gap) (hT : MTx gt t) (ht60 : t.length ≤ 60) (ne_a_ra : a ≠ ra) (ne_ra_ta : ra ≠ ta) (bs_ra : kBase D ≤ ra) (hfc : fn + cn ≤ t.length) (hdig : ∀ j, j < cn → 48 ≤ tsg t (fn + j) ∧ tsg t (fn + j) ≤ 55) : Met l yX3_carries (ws_ yX3_carries cX3_carries 4 (some .boolean)) ({ frames := 11, cells := 0, slots := 0, locals := 254 } : Room) (kPre D H [.ref a]) (kQb (fun (r : Bool) H' => ∃ (g2 : Nat → Int), (r = (ex_s t fn cn S).1) ∧ (kAi D H' ra 514 g2) ∧ (MRow g2 (ex_s t fn cn S).2 gap)) (fun q : Nat => q = ra)) (0) (0) ((fun q : Nat => q = ra)) := by
  refine Met.ofW (cc := cX3_carries) (maxL := 4) (ret := (some .boolean)) (by decide) rfl ?_
  intro p e s m args below meth c s₁ B hml hv
  obtain ⟨rfl, hH, hK⟩ := hv
  subst hH
  have hx := B.exec
  have hb := B.bytes
  have hr := B.returns
  have hts := atoms_spec (ws := ws_ yX3_carries cX3_carries 4 (some .boolean)) B.pre
  have hts : ∀ w ∈ lw_all, w.before _ s = true := fun w h => hts w (List.mem_cons_of_mem _ h)
  have hown : s.vm.findClass RX3 = some m.cls := findClass_of_methodNamed B.named
  have hlk := B.notSynchronized
  have hS : va_S (fun q : Nat => q = ra) s.heap s.heap [] := va_S.rf
  have hB : ∀ q, (fun q : Nat => q = ra) q → kBase D ≤ q := fun q h => by (try dsimp only at h); (try simp only [kNW] at h); have hks := hK.size; omega
  have hl := lv_entry ([.ref a]) (n := 4) (Nat.le_of_ble_eq_true rfl)
  rw [lg_entry_eq]
  generalize (lg_sl ([.ref a]) ++ List.replicate (4 - (lg_sl ([.ref a])).length) Slot.unset).toArray = ls at hl ⊢
  have hl : lv_has ls 4 [(0, .ref a)] := hl
  have hL8 := hok.1
  refine kx_iconst hx hb dX3_carries_0 ?_
  refine lv_istore_n (lv' := [(1, .int (kI (0))), (0, .ref a)]) hx hb dX3_carries_1 rfl hl (by decide) rfl (fun ls hl => ?_)
  refine lv_aload_n hx hb dX3_carries_2 rfl (lv_at hl 1 rfl) ?_
  refine kx_get (v := .int (kI (115))) (C := RX3) (T := TX3) (N := 13) hx hb hts in_X3 hown hK hO_a rfl 10 (by decide) q2248 (fun _ h9 => h9) rfl dX3_carries_3 ?_
  refine kx_bipush hx hb (by decide) dX3_carries_6 ?_
  refine kx_icmp_eq (x := 115) (y := 115) (tgt := 63) hx hb dX3_carries_8 (by decide) (by omega) (by omega) (by omega) (by omega) (fun c_8_1 => ?_) (fun c_8_1 => ?_)
  · -- taken at 8
    refine lv_aload_n hx hb dX3_carries_63 rfl (lv_at hl 1 rfl) ?_
    refine kx_get (v := .ref ra) (C := RX3) (T := TX3) (N := 13) hx hb hts in_X3 hown hK hO_a rfl 0 (by decide) q2238 (fun _ h9 => h9) rfl dX3_carries_64 ?_
    refine kx_iconst hx hb dX3_carries_67 ?_
    refine kx_iald (i := 0) hx hb hK hA_ra 0 (rfl) (by omega) (by omega) dX3_carries_68 ?_
    refine kx_eqi (((S.length : Nat) : Int)) (hM.len) ?_
    refine kx_if_le (x := ((S.length : Nat) : Int)) (tgt := 76) hx hb dX3_carries_69 (by decide) (by omega) (by omega) (fun c_69_2 => ?_) (fun c_69_2 => ?_)
    · -- taken at 69
      refine kx_iconst hx hb dX3_carries_76 ?_
      refine lv_istore_n (lv' := [(2, .int (kI (0))), (1, .int (kI (0))), (0, .ref a)]) hx hb dX3_carries_77 rfl hl (by decide) rfl (fun ls hl => ?_)
      refine lv_aload_n hx hb dX3_carries_78 rfl (lv_at hl 2 rfl) ?_
      refine kx_get (v := .int (kI ((fn : Nat) : Int))) (C := RX3) (T := TX3) (N := 13) hx hb hts in_X3 hown hK hO_a rfl 11 (by decide) q2249 (fun _ h9 => h9) rfl dX3_carries_79 ?_
      refine lv_istore_n (lv' := [(3, .int (kI ((fn : Nat) : Int))), (2, .int (kI (0))), (1, .int (kI (0))), (0, .ref a)]) hx hb dX3_carries_82 rfl hl (by decide) rfl (fun ls hl => ?_)
      have lp_83_x_3 : ∀ (n_83 : Nat) (j : Nat) (b : Bool) (S1 : Ls) (g1 : Nat → Int) (H : Heap) (hO_a : kO D H a 2 [.ref ra, .ref sa, .int (kI ((sn : Nat) : Int)), .ref ka, .int (kI (kb (ik))), .ref ta, .int (kI ((t.length : Nat) : Int)), .int (kI (th)), .int (kI (sp)), .int (kI (kb (iw))), .int (kI (115)), .int (kI ((fn : Nat) : Int)), .int (kI ((cn : Nat) : Int))]) (hA_ra : kAi D H ra 514 g1) (hA_ta : kAi D H ta 60 gt) (hj : j ≤ cn) (hM1 : MRow g1 S1 gap) (hok1 : LsOK S1 gap) (hbS : b = true → 0 < S1.length) (hEx : ex_s t fn cn S = (if b = true then ex_st t (cn - j) (fn + j) S1 else (false, S1))) (locs : List Loc) (hS : va_S (fun q : Nat => q = ra) s.heap H locs) (hm_83 : cn - j < n_83) (ls : Array Slot), lv_has ls 4 [(0, .ref a), (2, .int (kI (kb (b)))), (3, .int (kI ((fn + j : Nat) : Int)))] → W p l e (headSpec (ws_ yX3_carries cX3_carries 4 (some .boolean)) ({ frames := 11, cells := 0, slots := 0, locals := 254 } : Room)).room s m ([.ref a] : List Value).toArray below meth c H locs (0) (0) (MQ below (kQb (fun (r : Bool) H' => ∃ (g2 : Nat → Int), (r = (ex_s t fn cn S).1) ∧ (kAi D H' ra 514 g2) ∧ (MRow g2 (ex_s t fn cn S).2 gap)) (fun q : Nat => q = ra)) ([.ref a] : List Value).toArray s (0) (0) ((fun q : Nat => q = ra))) (F0 m 83 ls []) := by
        intro n_83
        induction n_83 with
        | zero => intro j b S1 g1 H hO_a hA_ra hA_ta hj hM1 hok1 hbS hEx locs hS hm_83; exact absurd hm_83 (Nat.not_lt_zero _)
        | succ n_83 ih_83 =>
          intro j b S1 g1 H hO_a hA_ra hA_ta hj hM1 hok1 hbS hEx locs hS hm_83 ls hl
          refine lv_iload_n hx hb dX3_carries_83 rfl (lv_at hl 2 rfl) ?_
          refine lv_aload_n hx hb dX3_carries_84 rfl (lv_at hl 0 rfl) ?_
          refine kx_get (v := .int (kI ((fn : Nat) : Int))) (C := RX3) (T := TX3) (N := 13) hx hb hts in_X3 hown hK hO_a rfl 11 (by decide) q2249 (fun _ h9 => h9) rfl dX3_carries_85 ?_
          refine lv_aload_n hx hb dX3_carries_88 rfl (lv_at hl 0 rfl) ?_
          refine kx_get (v := .int (kI ((cn : Nat) : Int))) (C := RX3) (T := TX3) (N := 13) hx hb hts in_X3 hown hK hO_a rfl 12 (by decide) q2250 (fun _ h9 => h9) rfl dX3_carries_89 ?_
          refine kx_iadd hx hb dX3_carries_92 ?_
          refine kx_icmp_ge (x := ((fn + j : Nat) : Int)) (y := (((fn : Nat) : Int) + ((cn : Nat) : Int))) (tgt := 174) hx hb dX3_carries_93 (by decide) (by omega) (by omega) (by omega) (by omega) (fun c_93_4 => ?_) (fun c_93_4 => ?_)
          · -- taken at 93
            refine lv_iload_n hx hb dX3_carries_174 rfl (lv_at hl 1 rfl) ?_
            have hfin : ex_s t fn cn S = (b, S1) := ex_s_end hEx (fun zb => by first | omega | (exact Bool.noConfusion (zb.symm.trans (by assumption : b = false))))
            exact kx_zret (z := b) hx hb hr hlk (⟨g1, by rw [hfin], hA_ra, by rw [hfin]; exact hM1⟩) hS dX3_carries_175
          · -- not taken at 93
            refine lv_iload_n hx hb dX3_carries_96 rfl (lv_at hl 1 rfl) ?_
            refine kx_ifz (tgt := 174) hx hb dX3_carries_97 (by decide) (fun c_97_5 => ?_) (fun c_97_5 => ?_)
            · -- taken at 97
              refine lv_iload_n hx hb dX3_carries_174 rfl (lv_at hl 1 rfl) ?_
              have hfin : ex_s t fn cn S = (b, S1) := ex_s_end hEx (fun zb => by first | omega | (exact Bool.noConfusion (zb.symm.trans (by assumption : b = false))))
              exact kx_zret (z := b) hx hb hr hlk (⟨g1, by rw [hfin], hA_ra, by rw [hfin]; exact hM1⟩) hS dX3_carries_175
            · -- not taken at 97
              have hb9 : b = true := by assumption
              have hS1 := hbS hb9
              have hd9 := hdig j (by omega)
              have hrs := ref_rng_s S1 ((S1.length : Int) - 1) (tsg t (fn + j) - 48)
              have hL81 := hok1.1
              refine lv_aload_n hx hb dX3_carries_100 rfl (lv_at hl 0 rfl) ?_
              refine lv_aload_n hx hb dX3_carries_101 rfl (lv_at hl 0 rfl) ?_
              refine kx_get (v := .int (kI (115))) (C := RX3) (T := TX3) (N := 13) hx hb hts in_X3 hown hK hO_a rfl 10 (by decide) q2248 (fun _ h9 => h9) rfl dX3_carries_102 ?_
              refine lv_aload_n hx hb dX3_carries_105 rfl (lv_at hl 0 rfl) ?_
              refine kx_get (v := .ref ra) (C := RX3) (T := TX3) (N := 13) hx hb hts in_X3 hown hK hO_a rfl 0 (by decide) q2238 (fun _ h9 => h9) rfl dX3_carries_106 ?_
              refine kx_iconst hx hb dX3_carries_109 ?_
              refine kx_iald (i := 0) hx hb hK hA_ra 0 (rfl) (by omega) (by omega) dX3_carries_110 ?_
              refine kx_eqi (((S1.length : Nat) : Int)) (hM1.len) ?_
              refine kx_iconst hx hb dX3_carries_111 ?_
              refine kx_isub hx hb dX3_carries_112 ?_
              refine lv_aload_n hx hb dX3_carries_113 rfl (lv_at hl 0 rfl) ?_
              refine kx_get (v := .ref ta) (C := RX3) (T := TX3) (N := 13) hx hb hts in_X3 hown hK hO_a rfl 5 (by decide) q2243 (fun _ h9 => h9) rfl dX3_carries_114 ?_
              refine lv_iload_n hx hb dX3_carries_117 rfl (lv_at hl 2 rfl) ?_
              refine kx_iald (i := ((fn + j : Nat) : Int)) hx hb hK hA_ta (fn + j) (rfl) (by omega) (by omega) dX3_carries_118 ?_
              refine kx_eqi (tsg t (fn + j)) (hT.at (by omega)) ?_
              refine kx_bipush hx hb (by decide) dX3_carries_119 ?_
              refine kx_isub hx hb dX3_carries_121 ?_
              refine kx_ci0 (va_runV (As := [.int (kI (115)), .int (kI ((((S1.length : Nat) : Int) - 1))), .int (kI ((tsg t (fn + j) - 48)))]) (rest := []) ⟨hx, hb, hml, hown, hts⟩ (m_ref_s l D H a ([.ref ra, .ref sa, .int (kI ((sn : Nat) : Int)), .ref ka, .int (kI (kb (ik))), .ref ta, .int (kI ((t.length : Nat) : Int)), .int (kI (th)), .int (kI (sp)), .int (kI (kb (iw))), .int (kI (115)), .int (kI ((fn : Nat) : Int)), .int (kI ((cn : Nat) : Int))]) ra g1 S1 gap ((((S1.length : Nat) : Int) - 1)) ((tsg t (fn + j) - 48)) hO_a rfl hA_ra hM1 hok1 (by first | assumption | omega) (by first | assumption | omega)) (cwV 3 hts (lw_V q2290 q2292 qs38 q89 q2293) rfl rfl rfl (by decide +kernel) ⟨Nat.le_of_ble_eq_true rfl, Nat.le_of_ble_eq_true rfl⟩) (kx_pv hK hS hB (kx_rc hK hO_a (C := RX3) (T := TX3) (N := 13) rfl)) rfl rfl hl.1 rfl (lv_room (Nat.le_of_ble_eq_true rfl)) dX3_carries_122 ⟨by first | exact Nat.le_of_ble_eq_true rfl | omega | (show _ ≤ _; omega) | (dsimp only [headSpec]; omega), by first | exact Nat.le_of_ble_eq_true rfl | omega | (show _ ≤ _; omega) | (dsimp only [headSpec]; omega)⟩) hS (fun z_9 locs_6 hz_8 hS_7 => ?_)
              subst z_9
              refine kx_if_ne (x := ref_s S1 ((((S1.length : Nat) : Int) - 1)) ((tsg t (fn + j) - 48))) (tgt := 132) hx hb dX3_carries_125 (by decide) (by omega) (by omega) (fun c_125_10 => ?_) (fun c_125_10 => ?_)
              · -- taken at 125
                refine kx_iconst hx hb dX3_carries_132 ?_
                refine lv_istore_n (lv' := [(2, .int (kI (0))), (0, .ref a), (3, .int (kI ((fn + j : Nat) : Int)))]) hx hb dX3_carries_133 rfl hl (by decide) rfl (fun ls hl => ?_)
                refine lv_iload_n hx hb dX3_carries_134 rfl (lv_at hl 0 rfl) ?_
                refine kx_if_eq (x := 0) (tgt := 166) hx hb dX3_carries_135 (by decide) (by omega) (by omega) (fun c_135_11 => ?_) (fun c_135_11 => ?_)
                · -- taken at 135
                  refine kx_iconst hx hb dX3_carries_166 ?_
                  refine lv_istore_n (lv' := [(1, .int (kI (0))), (2, .int (kI (0))), (0, .ref a), (3, .int (kI ((fn + j : Nat) : Int)))]) hx hb dX3_carries_167 rfl hl (by decide) rfl (fun ls hl => ?_)
                  refine lv_iinc (v := kI (((fn + j + 1 : Nat) : Int))) (lv' := [(3, .int (kI ((fn + j + 1 : Nat) : Int))), (1, .int (kI (0))), (2, .int (kI (0))), (0, .ref a)]) hx hb dX3_carries_168 hl (k := 3) rfl (kI_incN _ _) (by decide) rfl (fun ls hl => ?_)
                  refine lv_goto (tgt := 83) hx hb dX3_carries_171 (by decide) ?_
                  exact ih_83  (j + 1) false S1 g1 H hO_a hA_ra hA_ta (by first | assumption | omega | (simp_all; done) | grind) (hM1) (hok1) (by first | (intro z; exact absurd z Bool.false_ne_true) | (intro _; rw [List.length_set]; omega)) (by rw [hEx, if_pos hb9, show cn - j = (cn - (j + 1)) + 1 by omega]; first | (rw [ex_st_t (by assumption), if_pos rfl]; rfl) | (rw [ex_st_f (by omega), if_neg Bool.false_ne_true])) _ hS_7 (by omega) ls (lv_sub hl [3, 2, 0] rfl)
                · -- not taken at 135
                  exfalso; omega
              · -- not taken at 125
                refine kx_iconst hx hb dX3_carries_128 ?_
                refine lv_goto (tgt := 133) hx hb dX3_carries_129 (by decide) ?_
                refine lv_istore_n (lv' := [(2, .int (kI (1))), (0, .ref a), (3, .int (kI ((fn + j : Nat) : Int)))]) hx hb dX3_carries_133 rfl hl (by decide) rfl (fun ls hl => ?_)
                refine lv_iload_n hx hb dX3_carries_134 rfl (lv_at hl 0 rfl) ?_
                refine kx_if_eq (x := 1) (tgt := 166) hx hb dX3_carries_135 (by decide) (by omega) (by omega) (fun c_135_12 => ?_) (fun c_135_12 => ?_)
                · -- taken at 135
                  exfalso; omega
                · -- not taken at 135
                  have hz0 := ref_s_0 hok1 (by assumption)
                  rw [show ((S1.length : Int) - 1).toNat = S1.length - 1 by omega] at hz0
                  have hx1 := hok1.exSt (by assumption)
                  rw [show ((S1.length : Int) - 1).toNat = S1.length - 1 by omega] at hx1
                  refine lv_aload_n hx hb dX3_carries_138 rfl (lv_at hl 1 rfl) ?_
                  refine lv_aload_n hx hb dX3_carries_139 rfl (lv_at hl 1 rfl) ?_
                  refine kx_get (v := .int (kI (115))) (C := RX3) (T := TX3) (N := 13) hx hb hts in_X3 hown hK hO_a rfl 10 (by decide) q2248 (fun _ h9 => h9) rfl dX3_carries_140 ?_
                  refine lv_aload_n hx hb dX3_carries_143 rfl (lv_at hl 1 rfl) ?_
                  refine kx_get (v := .ref ra) (C := RX3) (T := TX3) (N := 13) hx hb hts in_X3 hown hK hO_a rfl 0 (by decide) q2238 (fun _ h9 => h9) rfl dX3_carries_144 ?_
                  refine kx_iconst hx hb dX3_carries_147 ?_
                  refine kx_iald (i := 0) hx hb hK hA_ra 0 (rfl) (by omega) (by omega) dX3_carries_148 ?_
                  refine kx_eqi (((S1.length : Nat) : Int)) (hM1.len) ?_
                  refine kx_iconst hx hb dX3_carries_149 ?_
                  refine kx_isub hx hb dX3_carries_150 ?_
                  refine kx_eqi (((S1.length - 1 : Nat) : Int)) (by omega) ?_
                  refine lv_aload_n hx hb dX3_carries_151 rfl (lv_at hl 1 rfl) ?_
                  refine kx_get (v := .ref ta) (C := RX3) (T := TX3) (N := 13) hx hb hts in_X3 hown hK hO_a rfl 5 (by decide) q2243 (fun _ h9 => h9) rfl dX3_carries_152 ?_
                  refine lv_iload_n hx hb dX3_carries_155 rfl (lv_at hl 2 rfl) ?_
                  refine kx_iald (i := ((fn + j : Nat) : Int)) hx hb hK hA_ta (fn + j) (rfl) (by omega) (by omega) dX3_carries_156 ?_
                  refine kx_eqi (tsg t (fn + j)) (hT.at (by omega)) ?_
                  refine kx_bipush hx hb (by decide) dX3_carries_157 ?_
                  refine kx_isub hx hb dX3_carries_159 ?_
                  refine kx_ci (va_runV (As := [.int (kI (115)), .int (kI ((S1.length - 1 : Nat) : Int)), .int (kI ((tsg t (fn + j) - 48)))]) (rest := []) ⟨hx, hb, hml, hown, hts⟩ (m_do_s l D H a ([.ref ra, .ref sa, .int (kI ((sn : Nat) : Int)), .ref ka, .int (kI (kb (ik))), .ref ta, .int (kI ((t.length : Nat) : Int)), .int (kI (th)), .int (kI (sp)), .int (kI (kb (iw))), .int (kI (115)), .int (kI ((fn : Nat) : Int)), .int (kI ((cn : Nat) : Int))]) ra g1 S1 gap (S1.length - 1) ((tsg t (fn + j) - 48)) hO_a rfl hA_ra hM1 hok1 (by first | assumption | omega) (by first | assumption | omega) (by first | assumption | omega) (by first | assumption | omega) (by first | assumption | omega) (by first | assumption | omega)) (cwV 3 hts (lw_V q2387 q2389 qs57 q89 q2390) rfl rfl rfl (by decide +kernel) ⟨Nat.le_of_ble_eq_true rfl, Nat.le_of_ble_eq_true rfl⟩) (kx_pv hK hS_7 hB (kx_rc hK hO_a (C := RX3) (T := TX3) (N := 13) rfl)) rfl rfl hl.1 rfl (lv_room (Nat.le_of_ble_eq_true rfl)) dX3_carries_160 ⟨by first | exact Nat.le_of_ble_eq_true rfl | omega | (show _ ≤ _; omega) | (dsimp only [headSpec]; omega), by first | exact Nat.le_of_ble_eq_true rfl | omega | (show _ ≤ _; omega) | (dsimp only [headSpec]; omega)⟩) hS_7 (fun q _ h => by (try dsimp only at h); (try dsimp only); (try simp only [kNW] at h); (try simp only [kNW]); omega) (fun q h => by (try dsimp only at h); (try dsimp only); (try simp only [kNW] at h); (try simp only [kNW]); omega) (fun z_18 H_16 locs_13 hz_15 hF_17 hS_14 => ?_)
                  have hzf_19 := hF_17.1
                  refine W.widen (k := 0) (n := 0) (Nat.le_of_ble_eq_true rfl) (Nat.le_of_ble_eq_true rfl) ?_
                  obtain ⟨g2_20, hv_21, ho_22, hM9⟩ := hz_15
                  subst z_18
                  refine lv_goto (tgt := 167) hx hb dX3_carries_163 (by decide) ?_
                  refine lv_istore_n (lv' := [(1, .int (kI (kb (ln_cl (w_step (st_ln S1 (S1.length - 1)) (((tsg t (fn + j) - 48)))))))), (2, .int (kI (1))), (0, .ref a), (3, .int (kI ((fn + j : Nat) : Int)))]) hx hb dX3_carries_167 rfl hl (by decide) rfl (fun ls hl => ?_)
                  refine lv_iinc (v := kI (((fn + j + 1 : Nat) : Int))) (lv' := [(3, .int (kI ((fn + j + 1 : Nat) : Int))), (1, .int (kI (kb (ln_cl (w_step (st_ln S1 (S1.length - 1)) (((tsg t (fn + j) - 48)))))))), (2, .int (kI (1))), (0, .ref a)]) hx hb dX3_carries_168 hl (k := 3) rfl (kI_incN _ _) (by decide) rfl (fun ls hl => ?_)
                  refine lv_goto (tgt := 83) hx hb dX3_carries_171 (by decide) ?_
                  have h_23 := hO_a.fr hF_17 (fun h => by (try dsimp only at h); (try simp only [kNW] at h); omega)
                  have h_24 := hA_ta.fr hF_17 (fun h => by (try dsimp only at h); (try simp only [kNW] at h); omega)
                  exact ih_83  (j + 1) true ((S1.set (S1.length - 1) (w_step (st_ln S1 (S1.length - 1)) (tsg t (fn + j) - 48)))) g2_20 H_16 h_23 ho_22 h_24 (by first | assumption | omega | (simp_all; done) | grind) (hM9) (hx1) (by first | (intro z; exact absurd z Bool.false_ne_true) | (intro _; rw [List.length_set]; omega)) (by rw [hEx, if_pos hb9, show cn - j = (cn - (j + 1)) + 1 by omega]; first | (rw [ex_st_t (by assumption), if_pos rfl]; rfl) | (rw [ex_st_f (by omega), if_neg Bool.false_ne_true])) _ hS_14 (by omega) ls (lv_sub hl [3, 2, 0] rfl)
      exact lp_83_x_3 (cn - 0 + 1) 0 false S g s.heap hO_a hA_ra hA_ta (by first | assumption | omega | (simp_all; done) | grind) (hM) (hok) (by first | (intro _; omega) | (intro z; exact absurd z Bool.false_ne_true)) (by unfold ex_s; first | (rw [if_pos (by omega), if_pos rfl]; rfl) | (rw [if_neg (by omega)]; rfl)) _ hS (Nat.lt_succ_self _) ls (lv_sub hl [3, 1, 0] rfl)
    · -- not taken at 69
      refine kx_iconst hx hb dX3_carries_72 ?_
      refine lv_goto (tgt := 77) hx hb dX3_carries_73 (by decide) ?_
      refine lv_istore_n (lv' := [(2, .int (kI (1))), (1, .int (kI (0))), (0, .ref a)]) hx hb dX3_carries_77 rfl hl (by decide) rfl (fun ls hl => ?_)
      refine lv_aload_n hx hb dX3_carries_78 rfl (lv_at hl 2 rfl) ?_
      refine kx_get (v := .int (kI ((fn : Nat) : Int))) (C := RX3) (T := TX3) (N := 13) hx hb hts in_X3 hown hK hO_a rfl 11 (by decide) q2249 (fun _ h9 => h9) rfl dX3_carries_79 ?_
      refine lv_istore_n (lv' := [(3, .int (kI ((fn : Nat) : Int))), (2, .int (kI (1))), (1, .int (kI (0))), (0, .ref a)]) hx hb dX3_carries_82 rfl hl (by decide) rfl (fun ls hl => ?_)
      have lp_83_x_25 : ∀ (n_83 : Nat) (j : Nat) (b : Bool) (S1 : Ls) (g1 : Nat → Int) (H : Heap) (hO_a : kO D H a 2 [.ref ra, .ref sa, .int (kI ((sn : Nat) : Int)), .ref ka, .int (kI (kb (ik))), .ref ta, .int (kI ((t.length : Nat) : Int)), .int (kI (th)), .int (kI (sp)), .int (kI (kb (iw))), .int (kI (115)), .int (kI ((fn : Nat) : Int)), .int (kI ((cn : Nat) : Int))]) (hA_ra : kAi D H ra 514 g1) (hA_ta : kAi D H ta 60 gt) (hj : j ≤ cn) (hM1 : MRow g1 S1 gap) (hok1 : LsOK S1 gap) (hbS : b = true → 0 < S1.length) (hEx : ex_s t fn cn S = (if b = true then ex_st t (cn - j) (fn + j) S1 else (false, S1))) (locs : List Loc) (hS : va_S (fun q : Nat => q = ra) s.heap H locs) (hm_83 : cn - j < n_83) (ls : Array Slot), lv_has ls 4 [(0, .ref a), (2, .int (kI (kb (b)))), (3, .int (kI ((fn + j : Nat) : Int)))] → W p l e (headSpec (ws_ yX3_carries cX3_carries 4 (some .boolean)) ({ frames := 11, cells := 0, slots := 0, locals := 254 } : Room)).room s m ([.ref a] : List Value).toArray below meth c H locs (0) (0) (MQ below (kQb (fun (r : Bool) H' => ∃ (g2 : Nat → Int), (r = (ex_s t fn cn S).1) ∧ (kAi D H' ra 514 g2) ∧ (MRow g2 (ex_s t fn cn S).2 gap)) (fun q : Nat => q = ra)) ([.ref a] : List Value).toArray s (0) (0) ((fun q : Nat => q = ra))) (F0 m 83 ls []) := by
        intro n_83
        induction n_83 with
        | zero => intro j b S1 g1 H hO_a hA_ra hA_ta hj hM1 hok1 hbS hEx locs hS hm_83; exact absurd hm_83 (Nat.not_lt_zero _)
        | succ n_83 ih_83 =>
          intro j b S1 g1 H hO_a hA_ra hA_ta hj hM1 hok1 hbS hEx locs hS hm_83 ls hl
          refine lv_iload_n hx hb dX3_carries_83 rfl (lv_at hl 2 rfl) ?_
          refine lv_aload_n hx hb dX3_carries_84 rfl (lv_at hl 0 rfl) ?_
          refine kx_get (v := .int (kI ((fn : Nat) : Int))) (C := RX3) (T := TX3) (N := 13) hx hb hts in_X3 hown hK hO_a rfl 11 (by decide) q2249 (fun _ h9 => h9) rfl dX3_carries_85 ?_
          refine lv_aload_n hx hb dX3_carries_88 rfl (lv_at hl 0 rfl) ?_
          refine kx_get (v := .int (kI ((cn : Nat) : Int))) (C := RX3) (T := TX3) (N := 13) hx hb hts in_X3 hown hK hO_a rfl 12 (by decide) q2250 (fun _ h9 => h9) rfl dX3_carries_89 ?_
          refine kx_iadd hx hb dX3_carries_92 ?_
          refine kx_icmp_ge (x := ((fn + j : Nat) : Int)) (y := (((fn : Nat) : Int) + ((cn : Nat) : Int))) (tgt := 174) hx hb dX3_carries_93 (by decide) (by omega) (by omega) (by omega) (by omega) (fun c_93_26 => ?_) (fun c_93_26 => ?_)
          · -- taken at 93
            refine lv_iload_n hx hb dX3_carries_174 rfl (lv_at hl 1 rfl) ?_
            have hfin : ex_s t fn cn S = (b, S1) := ex_s_end hEx (fun zb => by first | omega | (exact Bool.noConfusion (zb.symm.trans (by assumption : b = false))))
            exact kx_zret (z := b) hx hb hr hlk (⟨g1, by rw [hfin], hA_ra, by rw [hfin]; exact hM1⟩) hS dX3_carries_175
          · -- not taken at 93
            refine lv_iload_n hx hb dX3_carries_96 rfl (lv_at hl 1 rfl) ?_
            refine kx_ifz (tgt := 174) hx hb dX3_carries_97 (by decide) (fun c_97_27 => ?_) (fun c_97_27 => ?_)
            · -- taken at 97
              refine lv_iload_n hx hb dX3_carries_174 rfl (lv_at hl 1 rfl) ?_
              have hfin : ex_s t fn cn S = (b, S1) := ex_s_end hEx (fun zb => by first | omega | (exact Bool.noConfusion (zb.symm.trans (by assumption : b = false))))
              exact kx_zret (z := b) hx hb hr hlk (⟨g1, by rw [hfin], hA_ra, by rw [hfin]; exact hM1⟩) hS dX3_carries_175
            · -- not taken at 97
              have hb9 : b = true := by assumption
              have hS1 := hbS hb9
              have hd9 := hdig j (by omega)
              have hrs := ref_rng_s S1 ((S1.length : Int) - 1) (tsg t (fn + j) - 48)
              have hL81 := hok1.1
              refine lv_aload_n hx hb dX3_carries_100 rfl (lv_at hl 0 rfl) ?_
              refine lv_aload_n hx hb dX3_carries_101 rfl (lv_at hl 0 rfl) ?_
              refine kx_get (v := .int (kI (115))) (C := RX3) (T := TX3) (N := 13) hx hb hts in_X3 hown hK hO_a rfl 10 (by decide) q2248 (fun _ h9 => h9) rfl dX3_carries_102 ?_
              refine lv_aload_n hx hb dX3_carries_105 rfl (lv_at hl 0 rfl) ?_
              refine kx_get (v := .ref ra) (C := RX3) (T := TX3) (N := 13) hx hb hts in_X3 hown hK hO_a rfl 0 (by decide) q2238 (fun _ h9 => h9) rfl dX3_carries_106 ?_
              refine kx_iconst hx hb dX3_carries_109 ?_
              refine kx_iald (i := 0) hx hb hK hA_ra 0 (rfl) (by omega) (by omega) dX3_carries_110 ?_
              refine kx_eqi (((S1.length : Nat) : Int)) (hM1.len) ?_
              refine kx_iconst hx hb dX3_carries_111 ?_
              refine kx_isub hx hb dX3_carries_112 ?_
              refine lv_aload_n hx hb dX3_carries_113 rfl (lv_at hl 0 rfl) ?_
              refine kx_get (v := .ref ta) (C := RX3) (T := TX3) (N := 13) hx hb hts in_X3 hown hK hO_a rfl 5 (by decide) q2243 (fun _ h9 => h9) rfl dX3_carries_114 ?_
              refine lv_iload_n hx hb dX3_carries_117 rfl (lv_at hl 2 rfl) ?_
              refine kx_iald (i := ((fn + j : Nat) : Int)) hx hb hK hA_ta (fn + j) (rfl) (by omega) (by omega) dX3_carries_118 ?_
              refine kx_eqi (tsg t (fn + j)) (hT.at (by omega)) ?_
              refine kx_bipush hx hb (by decide) dX3_carries_119 ?_
              refine kx_isub hx hb dX3_carries_121 ?_
              refine kx_ci0 (va_runV (As := [.int (kI (115)), .int (kI ((((S1.length : Nat) : Int) - 1))), .int (kI ((tsg t (fn + j) - 48)))]) (rest := []) ⟨hx, hb, hml, hown, hts⟩ (m_ref_s l D H a ([.ref ra, .ref sa, .int (kI ((sn : Nat) : Int)), .ref ka, .int (kI (kb (ik))), .ref ta, .int (kI ((t.length : Nat) : Int)), .int (kI (th)), .int (kI (sp)), .int (kI (kb (iw))), .int (kI (115)), .int (kI ((fn : Nat) : Int)), .int (kI ((cn : Nat) : Int))]) ra g1 S1 gap ((((S1.length : Nat) : Int) - 1)) ((tsg t (fn + j) - 48)) hO_a rfl hA_ra hM1 hok1 (by first | assumption | omega) (by first | assumption | omega)) (cwV 3 hts (lw_V q2290 q2292 qs38 q89 q2293) rfl rfl rfl (by decide +kernel) ⟨Nat.le_of_ble_eq_true rfl, Nat.le_of_ble_eq_true rfl⟩) (kx_pv hK hS hB (kx_rc hK hO_a (C := RX3) (T := TX3) (N := 13) rfl)) rfl rfl hl.1 rfl (lv_room (Nat.le_of_ble_eq_true rfl)) dX3_carries_122 ⟨by first | exact Nat.le_of_ble_eq_true rfl | omega | (show _ ≤ _; omega) | (dsimp only [headSpec]; omega), by first | exact Nat.le_of_ble_eq_true rfl | omega | (show _ ≤ _; omega) | (dsimp only [headSpec]; omega)⟩) hS (fun z_31 locs_28 hz_30 hS_29 => ?_)
              subst z_31
              refine kx_if_ne (x := ref_s S1 ((((S1.length : Nat) : Int) - 1)) ((tsg t (fn + j) - 48))) (tgt := 132) hx hb dX3_carries_125 (by decide) (by omega) (by omega) (fun c_125_32 => ?_) (fun c_125_32 => ?_)
              · -- taken at 125
                refine kx_iconst hx hb dX3_carries_132 ?_
                refine lv_istore_n (lv' := [(2, .int (kI (0))), (0, .ref a), (3, .int (kI ((fn + j : Nat) : Int)))]) hx hb dX3_carries_133 rfl hl (by decide) rfl (fun ls hl => ?_)
                refine lv_iload_n hx hb dX3_carries_134 rfl (lv_at hl 0 rfl) ?_
                refine kx_if_eq (x := 0) (tgt := 166) hx hb dX3_carries_135 (by decide) (by omega) (by omega) (fun c_135_33 => ?_) (fun c_135_33 => ?_)
                · -- taken at 135
                  refine kx_iconst hx hb dX3_carries_166 ?_
                  refine lv_istore_n (lv' := [(1, .int (kI (0))), (2, .int (kI (0))), (0, .ref a), (3, .int (kI ((fn + j : Nat) : Int)))]) hx hb dX3_carries_167 rfl hl (by decide) rfl (fun ls hl => ?_)
                  refine lv_iinc (v := kI (((fn + j + 1 : Nat) : Int))) (lv' := [(3, .int (kI ((fn + j + 1 : Nat) : Int))), (1, .int (kI (0))), (2, .int (kI (0))), (0, .ref a)]) hx hb dX3_carries_168 hl (k := 3) rfl (kI_incN _ _) (by decide) rfl (fun ls hl => ?_)
                  refine lv_goto (tgt := 83) hx hb dX3_carries_171 (by decide) ?_
                  exact ih_83  (j + 1) false S1 g1 H hO_a hA_ra hA_ta (by first | assumption | omega | (simp_all; done) | grind) (hM1) (hok1) (by first | (intro z; exact absurd z Bool.false_ne_true) | (intro _; rw [List.length_set]; omega)) (by rw [hEx, if_pos hb9, show cn - j = (cn - (j + 1)) + 1 by omega]; first | (rw [ex_st_t (by assumption), if_pos rfl]; rfl) | (rw [ex_st_f (by omega), if_neg Bool.false_ne_true])) _ hS_29 (by omega) ls (lv_sub hl [3, 2, 0] rfl)
                · -- not taken at 135
                  exfalso; omega
              · -- not taken at 125
                refine kx_iconst hx hb dX3_carries_128 ?_
                refine lv_goto (tgt := 133) hx hb dX3_carries_129 (by decide) ?_
                refine lv_istore_n (lv' := [(2, .int (kI (1))), (0, .ref a), (3, .int (kI ((fn + j : Nat) : Int)))]) hx hb dX3_carries_133 rfl hl (by decide) rfl (fun ls hl => ?_)
                refine lv_iload_n hx hb dX3_carries_134 rfl (lv_at hl 0 rfl) ?_
                refine kx_if_eq (x := 1) (tgt := 166) hx hb dX3_carries_135 (by decide) (by omega) (by omega) (fun c_135_34 => ?_) (fun c_135_34 => ?_)
                · -- taken at 135
                  exfalso; omega
                · -- not taken at 135
                  have hz0 := ref_s_0 hok1 (by assumption)
                  rw [show ((S1.length : Int) - 1).toNat = S1.length - 1 by omega] at hz0
                  have hx1 := hok1.exSt (by assumption)
                  rw [show ((S1.length : Int) - 1).toNat = S1.length - 1 by omega] at hx1
                  refine lv_aload_n hx hb dX3_carries_138 rfl (lv_at hl 1 rfl) ?_
                  refine lv_aload_n hx hb dX3_carries_139 rfl (lv_at hl 1 rfl) ?_
                  refine kx_get (v := .int (kI (115))) (C := RX3) (T := TX3) (N := 13) hx hb hts in_X3 hown hK hO_a rfl 10 (by decide) q2248 (fun _ h9 => h9) rfl dX3_carries_140 ?_
                  refine lv_aload_n hx hb dX3_carries_143 rfl (lv_at hl 1 rfl) ?_
                  refine kx_get (v := .ref ra) (C := RX3) (T := TX3) (N := 13) hx hb hts in_X3 hown hK hO_a rfl 0 (by decide) q2238 (fun _ h9 => h9) rfl dX3_carries_144 ?_
                  refine kx_iconst hx hb dX3_carries_147 ?_
                  refine kx_iald (i := 0) hx hb hK hA_ra 0 (rfl) (by omega) (by omega) dX3_carries_148 ?_
                  refine kx_eqi (((S1.length : Nat) : Int)) (hM1.len) ?_
                  refine kx_iconst hx hb dX3_carries_149 ?_
                  refine kx_isub hx hb dX3_carries_150 ?_
                  refine kx_eqi (((S1.length - 1 : Nat) : Int)) (by omega) ?_
                  refine lv_aload_n hx hb dX3_carries_151 rfl (lv_at hl 1 rfl) ?_
                  refine kx_get (v := .ref ta) (C := RX3) (T := TX3) (N := 13) hx hb hts in_X3 hown hK hO_a rfl 5 (by decide) q2243 (fun _ h9 => h9) rfl dX3_carries_152 ?_
                  refine lv_iload_n hx hb dX3_carries_155 rfl (lv_at hl 2 rfl) ?_
                  refine kx_iald (i := ((fn + j : Nat) : Int)) hx hb hK hA_ta (fn + j) (rfl) (by omega) (by omega) dX3_carries_156 ?_
                  refine kx_eqi (tsg t (fn + j)) (hT.at (by omega)) ?_
                  refine kx_bipush hx hb (by decide) dX3_carries_157 ?_
                  refine kx_isub hx hb dX3_carries_159 ?_
                  refine kx_ci (va_runV (As := [.int (kI (115)), .int (kI ((S1.length - 1 : Nat) : Int)), .int (kI ((tsg t (fn + j) - 48)))]) (rest := []) ⟨hx, hb, hml, hown, hts⟩ (m_do_s l D H a ([.ref ra, .ref sa, .int (kI ((sn : Nat) : Int)), .ref ka, .int (kI (kb (ik))), .ref ta, .int (kI ((t.length : Nat) : Int)), .int (kI (th)), .int (kI (sp)), .int (kI (kb (iw))), .int (kI (115)), .int (kI ((fn : Nat) : Int)), .int (kI ((cn : Nat) : Int))]) ra g1 S1 gap (S1.length - 1) ((tsg t (fn + j) - 48)) hO_a rfl hA_ra hM1 hok1 (by first | assumption | omega) (by first | assumption | omega) (by first | assumption | omega) (by first | assumption | omega) (by first | assumption | omega) (by first | assumption | omega)) (cwV 3 hts (lw_V q2387 q2389 qs57 q89 q2390) rfl rfl rfl (by decide +kernel) ⟨Nat.le_of_ble_eq_true rfl, Nat.le_of_ble_eq_true rfl⟩) (kx_pv hK hS_29 hB (kx_rc hK hO_a (C := RX3) (T := TX3) (N := 13) rfl)) rfl rfl hl.1 rfl (lv_room (Nat.le_of_ble_eq_true rfl)) dX3_carries_160 ⟨by first | exact Nat.le_of_ble_eq_true rfl | omega | (show _ ≤ _; omega) | (dsimp only [headSpec]; omega), by first | exact Nat.le_of_ble_eq_true rfl | omega | (show _ ≤ _; omega) | (dsimp only [headSpec]; omega)⟩) hS_29 (fun q _ h => by (try dsimp only at h); (try dsimp only); (try simp only [kNW] at h); (try simp only [kNW]); omega) (fun q h => by (try dsimp only at h); (try dsimp only); (try simp only [kNW] at h); (try simp only [kNW]); omega) (fun z_40 H_38 locs_35 hz_37 hF_39 hS_36 => ?_)
                  have hzf_41 := hF_39.1
                  refine W.widen (k := 0) (n := 0) (Nat.le_of_ble_eq_true rfl) (Nat.le_of_ble_eq_true rfl) ?_
                  obtain ⟨g2_42, hv_43, ho_44, hM9⟩ := hz_37
                  subst z_40
                  refine lv_goto (tgt := 167) hx hb dX3_carries_163 (by decide) ?_
                  refine lv_istore_n (lv' := [(1, .int (kI (kb (ln_cl (w_step (st_ln S1 (S1.length - 1)) (((tsg t (fn + j) - 48)))))))), (2, .int (kI (1))), (0, .ref a), (3, .int (kI ((fn + j : Nat) : Int)))]) hx hb dX3_carries_167 rfl hl (by decide) rfl (fun ls hl => ?_)
                  refine lv_iinc (v := kI (((fn + j + 1 : Nat) : Int))) (lv' := [(3, .int (kI ((fn + j + 1 : Nat) : Int))), (1, .int (kI (kb (ln_cl (w_step (st_ln S1 (S1.length - 1)) (((tsg t (fn + j) - 48)))))))), (2, .int (kI (1))), (0, .ref a)]) hx hb dX3_carries_168 hl (k := 3) rfl (kI_incN _ _) (by decide) rfl (fun ls hl => ?_)
                  refine lv_goto (tgt := 83) hx hb dX3_carries_171 (by decide) ?_
                  have h_45 := hO_a.fr hF_39 (fun h => by (try dsimp only at h); (try simp only [kNW] at h); omega)
                  have h_46 := hA_ta.fr hF_39 (fun h => by (try dsimp only at h); (try simp only [kNW] at h); omega)
                  exact ih_83  (j + 1) true ((S1.set (S1.length - 1) (w_step (st_ln S1 (S1.length - 1)) (tsg t (fn + j) - 48)))) g2_42 H_38 h_45 ho_44 h_46 (by first | assumption | omega | (simp_all; done) | grind) (hM9) (hx1) (by first | (intro z; exact absurd z Bool.false_ne_true) | (intro _; rw [List.length_set]; omega)) (by rw [hEx, if_pos hb9, show cn - j = (cn - (j + 1)) + 1 by omega]; first | (rw [ex_st_t (by assumption), if_pos rfl]; rfl) | (rw [ex_st_f (by omega), if_neg Bool.false_ne_true])) _ hS_36 (by omega) ls (lv_sub hl [3, 2, 0] rfl)
      exact lp_83_x_25 (cn - 0 + 1) 0 true S g s.heap hO_a hA_ra hA_ta (by first | assumption | omega | (simp_all; done) | grind) (hM) (hok) (by first | (intro _; omega) | (intro z; exact absurd z Bool.false_ne_true)) (by unfold ex_s; first | (rw [if_pos (by omega), if_pos rfl]; rfl) | (rw [if_neg (by omega)]; rfl)) _ hS (Nat.lt_succ_self _) ls (lv_sub hl [3, 1, 0] rfl)
  · -- not taken at 8
    exfalso; omega
set_option maxHeartbeats 4000000 in
set_option maxRecDepth 100000 in
theorem m_X3_carries (l : Launch) (D : kG) (H : Heap) (a : Nat) (ra : Nat) (sa : Nat) (ka : Nat) (ta : Nat) (sn : Nat) (ik : Bool) (th : Int) (sp : Int) (iw : Bool) (t : List Int) (gt : Nat → Int) (g : Nat → Int) (S : Ls) (gap : Int) (le : Int) (fi : Int) (se : Int) (i : Nat) (e : Nat) (hO_a : kO D H a 2 [.ref ra, .ref sa, .int (kI ((sn : Nat) : Int)), .ref ka, .int (kI (kb (ik))), .ref ta, .int (kI ((t.length : Nat) : Int)), .int (kI (th)), .int (kI (sp)), .int (kI (kb (iw))), .int (kI (le)), .int (kI (fi)), .int (kI (se))]) (hA_ra : kAi D H ra 514 g) (hA_ta : kAi D H ta 60 gt) (hM : MRow g S gap) (hok : LsOK S gap) (hT : MTx gt t) (ht60 : t.length ≤ 60) (ne_a_ra : a ≠ ra) (ne_ra_ta : ra ≠ ta) (bs_ra : kBase D ≤ ra) (hle : le = tsg t i) (hi : i < t.length) (hrd : rdW t i = (true, e, fi, se)) : Met l yX3_carries (ws_ yX3_carries cX3_carries 4 (some .boolean)) ({ frames := 11, cells := 0, slots := 0, locals := 254 } : Room) (kPre D H [.ref a]) (kQb (fun (r : Bool) H' => ∃ (g2 : Nat → Int), (r = (ex_one t le fi se S gap).1) ∧ (kAi D H' ra 514 g2) ∧ (MRow g2 (ex_one t le fi se S gap).2.1 (ex_one t le fi se S gap).2.2)) (fun q : Nat => q = ra)) (0) (0) ((fun q : Nat => q = ra)) := by
  have hq := rdW_spec hT hrd
  rcases hq with ⟨h1, h2, h3⟩ | ⟨h1, h2, h3⟩ | ⟨h1, h2, h3⟩ | ⟨h1, h2, h3⟩ | ⟨h1, h2, h3⟩ | ⟨h1, h2, h3⟩ | ⟨h1, h2, h3⟩ | ⟨h1, h2, h3⟩
  · rw [h1] at hle; subst hle; exact m_carries_b l D H a ra sa ka ta sn ik th sp iw t gt g S gap fi se hO_a hA_ra hA_ta hM hok hT ht60 ne_a_ra ne_ra_ta bs_ra (by omega) (by omega)
  · rw [h1] at hle; subst hle; subst h2; have h4 := h3.1; subst h4; rw [ex_one_s]; exact m_carries_s l D H a ra sa ka ta sn ik th sp iw t gt g S gap (i + 1) (tx_cnt t (i + 1) 20) hO_a hA_ra hA_ta hM hok hT ht60 ne_a_ra ne_ra_ta bs_ra (tx_cnt_place hT 20 (i + 1) hi) (fun j hj => tx_cnt_dig hT 20 (i + 1) j hj)
  · rw [h1] at hle; subst hle; exact m_carries_w l D H a ra sa ka ta sn ik th sp iw t gt g S gap fi se hO_a hA_ra hA_ta hM hok hT ht60 ne_a_ra ne_ra_ta bs_ra (by omega) (by omega)
  · rw [h1] at hle; subst hle; exact m_carries_l l D H a ra sa ka ta sn ik th sp iw t gt g S gap fi se hO_a hA_ra hA_ta hM hok hT ht60 ne_a_ra ne_ra_ta bs_ra (by omega) (by omega)
  · rw [h1] at hle; subst hle; exact m_carries_u l D H a ra sa ka ta sn ik th sp iw t gt g S gap fi se hO_a hA_ra hA_ta hM hok hT ht60 ne_a_ra ne_ra_ta bs_ra (by omega) (by omega)
  · rw [h1] at hle; subst hle; exact m_carries_best l D H a ra sa ka ta sn ik th sp iw t gt g S gap fi se hO_a hA_ra hA_ta hM hok hT ht60 ne_a_ra ne_ra_ta bs_ra (by omega) (by omega)
  · rw [h1] at hle; subst hle; exact m_carries_a l D H a ra sa ka ta sn ik th sp iw t gt g S gap fi se hO_a hA_ra hA_ta hM hok hT ht60 ne_a_ra ne_ra_ta bs_ra (by omega) (by omega)
  · rw [h1] at hle; subst hle; exact m_carries_g l D H a ra sa ka ta sn ik th sp iw t gt g S gap fi se hO_a hA_ra hA_ta hM hok hT ht60 ne_a_ra ne_ra_ta bs_ra (by omega) (by omega)

