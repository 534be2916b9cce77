/-! MATH 10: the text and its orders -/
def tsg (t : List Int) (i : Nat) : Int := if i < t.length then t.getD i 0 else 0
def MTx (gt : Nat → Int) (t : List Int) : Prop := ∀ i, i < t.length → gt i = t.getD i 0 ∧ 32 ≤ t.getD i 0 ∧ t.getD i 0 ≤ 126
theorem MTx.rng {gt : Nat → Int} {t : List Int} (h : MTx gt t) (i : Nat) : 0 ≤ tsg t i ∧ tsg t i ≤ 126 := by
  unfold tsg
  split
  · have := h i (by assumption); omega
  · omega
theorem MTx.lt {gt : Nat → Int} {t : List Int} (h : MTx gt t) {i : Nat} (hi : 0 < tsg t i) : i < t.length := by
  unfold tsg at hi
  split at hi
  · assumption
  · omega
/-- the rest of a number: its value, and the place behind it -/
def tx_nl (t : List Int) (most : Int) : Nat → Nat → Int → Int × Nat
  | 0, i, v => (v, i)
  | f + 1, i, v => if 0 < v ∧ (48 ≤ tsg t i ∧ tsg t i ≤ 57) ∧ 10 * v + tsg t i - 48 ≤ most then tx_nl t most f (i + 1) (10 * v + tsg t i - 48) else (v, i)
abbrev tx_numOK (t : List Int) (least most : Int) (i : Nat) : Prop := (0 ≤ tsg t i - 48 ∧ tsg t i - 48 ≤ 9) ∧ (least ≤ tsg t i - 48 ∧ tsg t i - 48 ≤ most)
def tx_num (t : List Int) (most : Int) (i : Nat) : Int × Nat := tx_nl t most (t.length - (i + 1)) (i + 1) (tsg t i - 48)
def tx_cnt (t : List Int) : Nat → Nat → Nat
  | _, 0 => 0
  | i, f + 1 => if 48 ≤ tsg t i ∧ tsg t i ≤ 55 then 1 + tx_cnt t (i + 1) f else 0
def tx_let (c : Int) : Prop := c = 110 ∨ c = 115 ∨ c = 119 ∨ c = 108 ∨ c = 117 ∨ c = 98 ∨ c = 97 ∨ c = 103
theorem tx_nl_place (t : List Int) (most : Int) : ∀ (f i : Nat) (v : Int), i ≤ (tx_nl t most f i v).2 ∧ (tx_nl t most f i v).2 ≤ i + f := by
  intro f
  induction f with
  | zero => intro i v; simp [tx_nl]
  | succ f ih =>
    intro i v
    rw [tx_nl]
    split
    · have := ih (i + 1) (10 * v + tsg t i - 48); omega
    · simp
theorem tx_nl_val (t : List Int) (most : Int) (hm : 0 ≤ most) : ∀ (f i : Nat) (v : Int), 0 ≤ v → v ≤ most → 0 ≤ (tx_nl t most f i v).1 ∧ (tx_nl t most f i v).1 ≤ most := by
  intro f
  induction f with
  | zero => intro i v h1 h2; exact ⟨h1, h2⟩
  | succ f ih =>
    intro i v h1 h2
    rw [tx_nl]
    split
    · exact ih _ _ (by omega) (by omega)
    · exact ⟨h1, h2⟩
theorem tx_cnt_le (t : List Int) : ∀ (f i : Nat), tx_cnt t i f ≤ f := by
  intro f
  induction f with
  | zero => intro i; simp [tx_cnt]
  | succ f ih => intro i; rw [tx_cnt]; split; have := ih (i + 1); omega; omega
theorem tx_cnt_place {gt : Nat → Int} {t : List Int} (h : MTx gt t) : ∀ (f i : Nat), i ≤ t.length → i + tx_cnt t i f ≤ t.length := by
  intro f
  induction f with
  | zero => intro i hi; simpa [tx_cnt] using hi
  | succ f ih =>
    intro i hi
    rw [tx_cnt]
    split
    · have h1 := h.lt (i := i) (by omega)
      have := ih (i + 1) h1
      omega
    · omega
theorem tx_cnt_dig {gt : Nat → Int} {t : List Int} (h : MTx gt t) : ∀ (f i j : Nat), j < tx_cnt t i f → 48 ≤ tsg t (i + j) ∧ tsg t (i + j) ≤ 55 := by
  intro f
  induction f with
  | zero => intro i j hj; exact absurd hj (Nat.not_lt_zero j)
  | succ f ih =>
    intro i j hj
    rw [tx_cnt] at hj
    split at hj
    · cases j with
      | zero => assumption
      | succ j => have := ih (i + 1) j (by omega); rw [show i + (j + 1) = i + 1 + j by omega]; exact this
    · omega
/-- what reads() finds from a place on: is it well, the place behind, first, second -/
def rdW (t : List Int) (i : Nat) : Bool × Nat × Int × Int :=
  if tsg t i = 115 then (decide (48 ≤ tsg t (i + 1) ∧ tsg t (i + 1) ≤ 55), i + 1 + tx_cnt t (i + 1) 20, ((i + 1 : Nat) : Int), (tx_cnt t (i + 1) 20 : Int))
  else if tsg t i = 97 then (true, i + 1, ((i + 1 : Nat) : Int), 0)
  else if tsg t i = 110 then rdTwo t i 99 64 383
  else if tsg t i = 108 then rdTwo t i 7 46 59
  else if tsg t i = 119 ∨ tsg t i = 117 ∨ tsg t i = 98 then rdOne t i 0 7
  else if tsg t i = 103 then rdOne t i 1 6
  else (false, i, (i : Int), 0)
where
  rdOne (t : List Int) (i : Nat) (least most : Int) : Bool × Nat × Int × Int :=
    if tx_numOK t least most (i + 1) then (true, (tx_num t most (i + 1)).2, (tx_num t most (i + 1)).1, 0) else (false, i + 1, tsg t (i + 1) - 48, 0)
  rdTwo (t : List Int) (i : Nat) (most want most2 : Int) : Bool × Nat × Int × Int :=
    if tx_numOK t 0 most (i + 1) then
      (if tsg t (tx_num t most (i + 1)).2 = want then
        (if tx_numOK t 0 most2 ((tx_num t most (i + 1)).2 + 1)
          then (true, (tx_num t most2 ((tx_num t most (i + 1)).2 + 1)).2, (tx_num t most (i + 1)).1, (tx_num t most2 ((tx_num t most (i + 1)).2 + 1)).1)
          else (false, (tx_num t most (i + 1)).2 + 1, (tx_num t most (i + 1)).1, tsg t ((tx_num t most (i + 1)).2 + 1) - 48))
        else (false, (tx_num t most (i + 1)).2, (tx_num t most (i + 1)).1, 0))
    else (false, i + 1, tsg t (i + 1) - 48, 0)
theorem tx_nl_stop {t : List Int} {most : Int} {f i : Nat} {v : Int} (h : ¬ (0 < v ∧ (48 ≤ tsg t i ∧ tsg t i ≤ 57) ∧ 10 * v + tsg t i - 48 ≤ most)) : tx_nl t most f i v = (v, i) := by
  cases f with
  | zero => rfl
  | succ f => rw [tx_nl, if_neg h]
theorem tx_num_place {t : List Int} {i : Nat} (most : Int) (h : i < t.length) : i < (tx_num t most i).2 ∧ (tx_num t most i).2 ≤ t.length := by
  have h1 := tx_nl_place t most (t.length - (i + 1)) (i + 1) (tsg t i - 48)
  unfold tx_num
  omega
set_option maxHeartbeats 4000000 in
set_option maxRecDepth 100000 in
theorem m_X3_sign (l : Launch) (D : kG) (H : Heap) (a : Nat) (ra : Nat) (sa : Nat) (ka : Nat) (ta : Nat) (sn : Nat) (ik : Bool) (th : Int) (iw : Bool) (le : Int) (fi : Int) (se : Int) (spn : Nat) (gt : Nat → Int) (t : List Int) (hO_a : kO D H a 2 [.ref ra, .ref sa, .int (kI ((sn : Nat) : Int)), .ref ka, .int (kI (kb (ik))), .ref ta, .int (kI ((t.length : Nat) : Int)), .int (kI (th)), .int (kI ((spn : Nat) : Int)), .int (kI (kb (iw))), .int (kI (le)), .int (kI (fi)), .int (kI (se))]) (hA_ta : kAi D H ta 60 gt) (hsp : spn ≤ 1000) (hT : MTx gt t) (ht60 : t.length ≤ 60) (ne_a_ta : a ≠ ta) (bs_a : kBase D ≤ a) : Met l yX3_sign (ws_ yX3_sign cX3_sign 1 (some .int)) ({ frames := 0, cells := 0, slots := 0, locals := 0 } : Room) (kPre D H [.ref a]) (kQi (fun (r : Int) H' => H' = H ∧ r = tsg t spn) kNO) (0) (0) (kNO) := by
  refine Met.ofW (cc := cX3_sign) (maxL := 1) (ret := (some .int)) (by decide) rfl ?_
  intro p e s m args below meth c s₁ B hml hv
  obtain ⟨rfl, hH, hK⟩ := hv
  subst hH
  have hx := B.exec
  have hb := B.bytes
  have hr := B.returns
  have hts := atoms_spec (ws := ws_ yX3_sign cX3_sign 1 (some .int)) B.pre
  have hts : ∀ w ∈ lw_all, w.before _ s = true := fun w h => hts w (List.mem_cons_of_mem _ h)
  have hown : s.vm.findClass RX3 = some m.cls := findClass_of_methodNamed B.named
  have hlk := B.notSynchronized
  have hS : va_S kNO s.heap s.heap [] := va_S.rf
  have hB : ∀ q, kNO q → kBase D ≤ q := fun _ h => h.elim
  have hl := lv_entry ([.ref a]) (n := 1) (Nat.le_of_ble_eq_true rfl)
  rw [lg_entry_eq]
  generalize (lg_sl ([.ref a]) ++ List.replicate (1 - (lg_sl ([.ref a])).length) Slot.unset).toArray = ls at hl ⊢
  have hl : lv_has ls 1 [(0, .ref a)] := hl
  have hsr := hT.rng spn
  refine lv_aload_n hx hb dX3_sign_0 rfl (lv_at hl 0 rfl) ?_
  refine kx_get (v := .int (kI ((spn : Nat) : Int))) (C := RX3) (T := TX3) (N := 13) hx hb hts in_X3 hown hK hO_a rfl 8 (by decide) q2246 (fun _ h9 => h9) rfl dX3_sign_1 ?_
  refine lv_aload_n hx hb dX3_sign_4 rfl (lv_at hl 0 rfl) ?_
  refine kx_get (v := .int (kI ((t.length : Nat) : Int))) (C := RX3) (T := TX3) (N := 13) hx hb hts in_X3 hown hK hO_a rfl 6 (by decide) q2244 (fun _ h9 => h9) rfl dX3_sign_5 ?_
  refine kx_icmp_ge (x := ((spn : Nat) : Int)) (y := ((t.length : Nat) : Int)) (tgt := 23) hx hb dX3_sign_8 (by decide) (by omega) (by omega) (by omega) (by omega) (fun c8 => ?_) (fun c8 => ?_)
  · -- taken at 8
    refine kx_iconst hx hb dX3_sign_23 ?_
    exact kx_iret (z := 0) hx hb hr hlk (⟨rfl, by unfold tsg; first | (rw [if_neg (by omega)]; done) | (rw [if_pos (by omega)]; exact hq.1)⟩) hS dX3_sign_24
  · -- not taken at 8
    have hq := hT spn (by omega)
    refine lv_aload_n hx hb dX3_sign_11 rfl (lv_at hl 0 rfl) ?_
    refine kx_get (v := .ref ta) (C := RX3) (T := TX3) (N := 13) hx hb hts in_X3 hown hK hO_a rfl 5 (by decide) q2243 (fun _ h9 => h9) rfl dX3_sign_12 ?_
    refine lv_aload_n hx hb dX3_sign_15 rfl (lv_at hl 0 rfl) ?_
    refine kx_get (v := .int (kI ((spn : Nat) : Int))) (C := RX3) (T := TX3) (N := 13) hx hb hts in_X3 hown hK hO_a rfl 8 (by decide) q2246 (fun _ h9 => h9) rfl dX3_sign_16 ?_
    refine kx_iald (i := ((spn : Nat) : Int)) hx hb hK hA_ta spn (rfl) (by omega) (by omega) dX3_sign_19 ?_
    refine lv_goto (tgt := 24) hx hb dX3_sign_20 (by decide) ?_
    exact kx_iret (z := (gt spn)) hx hb hr hlk (⟨rfl, by unfold tsg; first | (rw [if_neg (by omega)]; done) | (rw [if_pos (by omega)]; exact hq.1)⟩) hS dX3_sign_24

set_option maxHeartbeats 4000000 in
set_option maxRecDepth 100000 in
theorem m_needs_t (l : Launch) (D : kG) (H : Heap) (a : Nat) (ra : Nat) (sa : Nat) (ka : Nat) (ta : Nat) (sn : Nat) (ik : Bool) (th : Int) (le : Int) (fi : Int) (se : Int) (spn : Nat) (gt : Nat → Int) (t : List Int) (x : Int) (hO_a : kO D H a 2 [.ref ra, .ref sa, .int (kI ((sn : Nat) : Int)), .ref ka, .int (kI (kb (ik))), .ref ta, .int (kI ((t.length : Nat) : Int)), .int (kI (th)), .int (kI ((spn : Nat) : Int)), .int (kI (kb (true))), .int (kI (le)), .int (kI (fi)), .int (kI (se))]) (hA_ta : kAi D H ta 60 gt) (hsp : spn ≤ 1000) (hT : MTx gt t) (ht60 : t.length ≤ 60) (ne_a_ta : a ≠ ta) (bs_a : kBase D ≤ a) (hxw : tsg t spn = x) : Met l yX3_needs (ws_ yX3_needs cX3_needs 2 none) ({ frames := 1, cells := 0, slots := 0, locals := 20 } : Room) (kPre D H [.ref a, .int (kI (x))]) (kQv (fun H' => (kO D H' a 2 [.ref ra, .ref sa, .int (kI ((sn : Nat) : Int)), .ref ka, .int (kI (kb (ik))), .ref ta, .int (kI ((t.length : Nat) : Int)), .int (kI (th)), .int (kI ((spn + 1 : Nat) : Int)), .int (kI (kb (true))), .int (kI (le)), .int (kI (fi)), .int (kI (se))])) (fun q : Nat => q = a)) (0) (0) ((fun q : Nat => q = a)) := by
  refine Met.ofW (cc := cX3_needs) (maxL := 2) (ret := none) (by decide) rfl ?_
  intro p e s m args below meth c s₁ B hml hv
  obtain ⟨rfl, hH, hK⟩ := hv
  subst hH
  have hx := B.exec
  have hb := B.bytes
  have hr := B.returns
  have hts := atoms_spec (ws := ws_ yX3_needs cX3_needs 2 none) B.pre
  have hts : ∀ w ∈ lw_all, w.before _ s = true := fun w h => hts w (List.mem_cons_of_mem _ h)
  have hown : s.vm.findClass RX3 = some m.cls := findClass_of_methodNamed B.named
  have hlk := B.notSynchronized
  have hS : va_S (fun q : Nat => q = a) s.heap s.heap [] := va_S.rf
  have hB : ∀ q, (fun q : Nat => q = a) q → kBase D ≤ q := fun q h => by (try dsimp only at h); (try simp only [kNW] at h); have hks := hK.size; omega
  have hl := lv_entry ([.ref a, .int (kI (x))]) (n := 2) (Nat.le_of_ble_eq_true rfl)
  rw [lg_entry_eq]
  generalize (lg_sl ([.ref a, .int (kI (x))]) ++ List.replicate (2 - (lg_sl ([.ref a, .int (kI (x))])).length) Slot.unset).toArray = ls at hl ⊢
  have hl : lv_has ls 2 [(0, .ref a), (1, .int (kI (x)))] := hl
  have hsr := hT.rng spn
  have hlt : spn < 1000 ∨ 1000 ≤ spn := by omega
  refine lv_aload_n hx hb dX3_needs_0 rfl (lv_at hl 0 rfl) ?_
  refine lv_aload_n hx hb dX3_needs_1 rfl (lv_at hl 0 rfl) ?_
  refine kx_get (v := .int (kI (kb (true)))) (C := RX3) (T := TX3) (N := 13) hx hb hts in_X3 hown hK hO_a rfl 9 (by decide) q2247 (fun _ h9 => h9) rfl dX3_needs_2 ?_
  refine kx_ifz (tgt := 20) hx hb dX3_needs_5 (by decide) (fun c_5_1 => ?_) (fun c_5_1 => ?_)
  · -- taken at 5
    exact absurd c_5_1 (by decide)
  · -- not taken at 5
    refine lv_aload_n hx hb dX3_needs_8 rfl (lv_at hl 0 rfl) ?_
    refine kx_ci0 (va_runV (As := []) (rest := [.ref a]) ⟨hx, hb, hml, hown, hts⟩ (m_X3_sign l D s.heap a ra sa ka ta sn ik th true le fi se spn gt t hO_a hA_ta (by first | assumption | omega) (by first | assumption | omega) (by first | assumption | omega) (by first | assumption | omega) (by first | assumption | omega)) (cwV 0 hts (lw_V q2609 q2611 qs74 q89 q2612) rfl rfl rfl (by decide +kernel) ⟨Nat.le_of_ble_eq_true rfl, Nat.le_of_ble_eq_true rfl⟩) (kx_pv hK hS hB (kx_rc hK hO_a (C := RX3) (T := TX3) (N := 13) rfl)) rfl rfl hl.1 rfl (lv_room (Nat.le_of_ble_eq_true rfl)) dX3_needs_9 ⟨by first | exact Nat.le_of_ble_eq_true rfl | omega | (show _ ≤ _; omega) | (dsimp only [headSpec]; omega), by first | exact Nat.le_of_ble_eq_true rfl | omega | (show _ ≤ _; omega) | (dsimp only [headSpec]; omega)⟩) hS (fun z_5 locs_2 hz_4 hS_3 => ?_)
    subst z_5
    refine lv_iload_n hx hb dX3_needs_12 rfl (lv_at hl 1 rfl) ?_
    refine kx_icmp_ne (x := tsg t spn) (y := x) (tgt := 20) hx hb dX3_needs_13 (by decide) (by omega) (by omega) (by omega) (by omega) (fun c_13_6 => ?_) (fun c_13_6 => ?_)
    · -- taken at 13
      exfalso; omega
    · -- not taken at 13
      refine kx_iconst hx hb dX3_needs_16 ?_
      refine lv_goto (tgt := 21) hx hb dX3_needs_17 (by decide) ?_
      refine kx_put (v := .int (kI (kb (true)))) (C := RX3) (T := TX3) (N := 13) hx hb hts in_X3 hown hK hO_a rfl 9 (by decide) tyX3 tyX3_ok nmX3 hS_3 (by first | rfl | exact Or.inl rfl | exact Or.inr rfl | exact Or.inr (Or.inl rfl) | exact Or.inr (Or.inr rfl) | exact Or.inr (Or.inr (Or.inl rfl)) | exact Or.inr (Or.inr (Or.inr rfl)) | ((try dsimp only); (try simp only [kNW]); omega)) q2247 (fun _ h9 => h9) rfl rfl (kb_narZ _) (kb_fitZ _) (Nat.le_of_ble_eq_true rfl) dX3_needs_21 (fun H_9 locs_10 hO_8 hU_7 hS_11 => ?_)
      have hO_8 : kO D H_9 a 2 [.ref ra, .ref sa, .int (kI ((sn : Nat) : Int)), .ref ka, .int (kI (kb (ik))), .ref ta, .int (kI ((t.length : Nat) : Int)), .int (kI (th)), .int (kI ((spn : Nat) : Int)), .int (kI (kb (true))), .int (kI (le)), .int (kI (fi)), .int (kI (se))] := hO_8
      have hzu_12 := hU_7.1
      refine lv_aload_n hx hb dX3_needs_24 rfl (lv_at hl 0 rfl) ?_
      refine lv_dup hx hb dX3_needs_25 rfl ?_
      refine kx_get (v := .int (kI ((spn : Nat) : Int))) (C := RX3) (T := TX3) (N := 13) hx hb hts in_X3 hown hK hO_8 rfl 8 (by decide) q2246 (fun _ h9 => h9) rfl dX3_needs_26 ?_
      refine lv_aload_n hx hb dX3_needs_29 rfl (lv_at hl 0 rfl) ?_
      refine kx_get (v := .int (kI (kb (true)))) (C := RX3) (T := TX3) (N := 13) hx hb hts in_X3 hown hK hO_8 rfl 9 (by decide) q2247 (fun _ h9 => h9) rfl dX3_needs_30 ?_
      refine kx_ifz (tgt := 40) hx hb dX3_needs_33 (by decide) (fun c_33_13 => ?_) (fun c_33_13 => ?_)
      · -- taken at 33
        exact absurd c_33_13 (by decide)
      · -- not taken at 33
        refine kx_iconst hx hb dX3_needs_36 ?_
        refine lv_goto (tgt := 41) hx hb dX3_needs_37 (by decide) ?_
        refine kx_iadd hx hb dX3_needs_41 ?_
        refine kx_eqi (((spn + 1 : Nat) : Int)) (by omega) ?_
        refine kx_put (v := .int (kI ((spn + 1 : Nat) : Int))) (C := RX3) (T := TX3) (N := 13) hx hb hts in_X3 hown hK hO_8 rfl 8 (by decide) tyX3 tyX3_ok nmX3 hS_11 (by first | rfl | exact Or.inl rfl | exact Or.inr rfl | exact Or.inr (Or.inl rfl) | exact Or.inr (Or.inr rfl) | exact Or.inr (Or.inr (Or.inl rfl)) | exact Or.inr (Or.inr (Or.inr rfl)) | ((try dsimp only); (try simp only [kNW]); omega)) q2246 (fun _ h9 => h9) rfl rfl rfl rfl (Nat.le_of_ble_eq_true rfl) dX3_needs_42 (fun H_16 locs_17 hO_15 hU_14 hS_18 => ?_)
        have hO_15 : kO D H_16 a 2 [.ref ra, .ref sa, .int (kI ((sn : Nat) : Int)), .ref ka, .int (kI (kb (ik))), .ref ta, .int (kI ((t.length : Nat) : Int)), .int (kI (th)), .int (kI ((spn + 1 : Nat) : Int)), .int (kI (kb (true))), .int (kI (le)), .int (kI (fi)), .int (kI (se))] := hO_15
        have hzu_19 := hU_14.1
        exact kx_vret hx hb hr hlk (hO_15) hS_18 dX3_needs_45

set_option maxHeartbeats 4000000 in
set_option maxRecDepth 100000 in
theorem m_needs_f (l : Launch) (D : kG) (H : Heap) (a : Nat) (ra : Nat) (sa : Nat) (ka : Nat) (ta : Nat) (sn : Nat) (ik : Bool) (th : Int) (iw : Bool) (le : Int) (fi : Int) (se : Int) (spn : Nat) (gt : Nat → Int) (t : List Int) (x : Int) (hO_a : kO D H a 2 [.ref ra, .ref sa, .int (kI ((sn : Nat) : Int)), .ref ka, .int (kI (kb (ik))), .ref ta, .int (kI ((t.length : Nat) : Int)), .int (kI (th)), .int (kI ((spn : Nat) : Int)), .int (kI (kb (iw))), .int (kI (le)), .int (kI (fi)), .int (kI (se))]) (hA_ta : kAi D H ta 60 gt) (hsp : spn ≤ 1000) (hT : MTx gt t) (ht60 : t.length ≤ 60) (ne_a_ta : a ≠ ta) (bs_a : kBase D ≤ a) (hr_x : -2147483648 ≤ x ∧ x ≤ 2147483647) (hxw : iw = false ∨ tsg t spn ≠ x) : Met l yX3_needs (ws_ yX3_needs cX3_needs 2 none) ({ frames := 1, cells := 0, slots := 0, locals := 20 } : Room) (kPre D H [.ref a, .int (kI (x))]) (kQv (fun H' => (kO D H' a 2 [.ref ra, .ref sa, .int (kI ((sn : Nat) : Int)), .ref ka, .int (kI (kb (ik))), .ref ta, .int (kI ((t.length : Nat) : Int)), .int (kI (th)), .int (kI ((spn : Nat) : Int)), .int (kI (kb (false))), .int (kI (le)), .int (kI (fi)), .int (kI (se))])) (fun q : Nat => q = a)) (0) (0) ((fun q : Nat => q = a)) := by
  refine Met.ofW (cc := cX3_needs) (maxL := 2) (ret := none) (by decide) rfl ?_
  intro p e s m args below meth c s₁ B hml hv
  obtain ⟨rfl, hH, hK⟩ := hv
  subst hH
  have hx := B.exec
  have hb := B.bytes
  have hr := B.returns
  have hts := atoms_spec (ws := ws_ yX3_needs cX3_needs 2 none) B.pre
  have hts : ∀ w ∈ lw_all, w.before _ s = true := fun w h => hts w (List.mem_cons_of_mem _ h)
  have hown : s.vm.findClass RX3 = some m.cls := findClass_of_methodNamed B.named
  have hlk := B.notSynchronized
  have hS : va_S (fun q : Nat => q = a) s.heap s.heap [] := va_S.rf
  have hB : ∀ q, (fun q : Nat => q = a) q → kBase D ≤ q := fun q h => by (try dsimp only at h); (try simp only [kNW] at h); have hks := hK.size; omega
  have hl := lv_entry ([.ref a, .int (kI (x))]) (n := 2) (Nat.le_of_ble_eq_true rfl)
  rw [lg_entry_eq]
  generalize (lg_sl ([.ref a, .int (kI (x))]) ++ List.replicate (2 - (lg_sl ([.ref a, .int (kI (x))])).length) Slot.unset).toArray = ls at hl ⊢
  have hl : lv_has ls 2 [(0, .ref a), (1, .int (kI (x)))] := hl
  have hsr := hT.rng spn
  refine lv_aload_n hx hb dX3_needs_0 rfl (lv_at hl 0 rfl) ?_
  refine lv_aload_n hx hb dX3_needs_1 rfl (lv_at hl 0 rfl) ?_
  refine kx_get (v := .int (kI (kb (iw)))) (C := RX3) (T := TX3) (N := 13) hx hb hts in_X3 hown hK hO_a rfl 9 (by decide) q2247 (fun _ h9 => h9) rfl dX3_needs_2 ?_
  refine kx_ifz (tgt := 20) hx hb dX3_needs_5 (by decide) (fun c5 => ?_) (fun c5 => ?_)
  · -- taken at 5
    refine kx_iconst hx hb dX3_needs_20 ?_
    refine kx_put (v := .int (kI (kb (false)))) (C := RX3) (T := TX3) (N := 13) hx hb hts in_X3 hown hK hO_a rfl 9 (by decide) tyX3 tyX3_ok nmX3 hS (by first | rfl | exact Or.inl rfl | exact Or.inr rfl | exact Or.inr (Or.inl rfl) | exact Or.inr (Or.inr rfl) | exact Or.inr (Or.inr (Or.inl rfl)) | exact Or.inr (Or.inr (Or.inr rfl)) | ((try dsimp only); (try simp only [kNW]); omega)) q2247 (fun _ h9 => h9) rfl rfl (kb_narZ _) (kb_fitZ _) (Nat.le_of_ble_eq_true rfl) dX3_needs_21 (fun H_3 locs_4 hO_2 hU_1 hS_5 => ?_)
    have hO_2 : kO D H_3 a 2 [.ref ra, .ref sa, .int (kI ((sn : Nat) : Int)), .ref ka, .int (kI (kb (ik))), .ref ta, .int (kI ((t.length : Nat) : Int)), .int (kI (th)), .int (kI ((spn : Nat) : Int)), .int (kI (kb (false))), .int (kI (le)), .int (kI (fi)), .int (kI (se))] := hO_2
    have hzu_6 := hU_1.1
    refine lv_aload_n hx hb dX3_needs_24 rfl (lv_at hl 0 rfl) ?_
    refine lv_dup hx hb dX3_needs_25 rfl ?_
    refine kx_get (v := .int (kI ((spn : Nat) : Int))) (C := RX3) (T := TX3) (N := 13) hx hb hts in_X3 hown hK hO_2 rfl 8 (by decide) q2246 (fun _ h9 => h9) rfl dX3_needs_26 ?_
    refine lv_aload_n hx hb dX3_needs_29 rfl (lv_at hl 0 rfl) ?_
    refine kx_get (v := .int (kI (kb (false)))) (C := RX3) (T := TX3) (N := 13) hx hb hts in_X3 hown hK hO_2 rfl 9 (by decide) q2247 (fun _ h9 => h9) rfl dX3_needs_30 ?_
    refine kx_ifz (tgt := 40) hx hb dX3_needs_33 (by decide) (fun c_33_7 => ?_) (fun c_33_7 => ?_)
    · -- taken at 33
      refine kx_iconst hx hb dX3_needs_40 ?_
      refine kx_iadd hx hb dX3_needs_41 ?_
      refine kx_eqi (((spn : Nat) : Int)) (by omega) ?_
      refine kx_put (v := .int (kI ((spn : Nat) : Int))) (C := RX3) (T := TX3) (N := 13) hx hb hts in_X3 hown hK hO_2 rfl 8 (by decide) tyX3 tyX3_ok nmX3 hS_5 (by first | rfl | exact Or.inl rfl | exact Or.inr rfl | exact Or.inr (Or.inl rfl) | exact Or.inr (Or.inr rfl) | exact Or.inr (Or.inr (Or.inl rfl)) | exact Or.inr (Or.inr (Or.inr rfl)) | ((try dsimp only); (try simp only [kNW]); omega)) q2246 (fun _ h9 => h9) rfl rfl rfl rfl (Nat.le_of_ble_eq_true rfl) dX3_needs_42 (fun H_10 locs_11 hO_9 hU_8 hS_12 => ?_)
      have hO_9 : kO D H_10 a 2 [.ref ra, .ref sa, .int (kI ((sn : Nat) : Int)), .ref ka, .int (kI (kb (ik))), .ref ta, .int (kI ((t.length : Nat) : Int)), .int (kI (th)), .int (kI ((spn : Nat) : Int)), .int (kI (kb (false))), .int (kI (le)), .int (kI (fi)), .int (kI (se))] := hO_9
      have hzu_13 := hU_8.1
      exact kx_vret hx hb hr hlk (hO_9) hS_12 dX3_needs_45
    · -- not taken at 33
      exact absurd c_33_7 (by decide)
  · -- not taken at 5
    refine lv_aload_n hx hb dX3_needs_8 rfl (lv_at hl 0 rfl) ?_
    refine kx_ci0 (va_runV (As := []) (rest := [.ref a]) ⟨hx, hb, hml, hown, hts⟩ (m_X3_sign l D s.heap a ra sa ka ta sn ik th iw le fi se spn gt t hO_a hA_ta (by first | assumption | omega) (by first | assumption | omega) (by first | assumption | omega) (by first | assumption | omega) (by first | assumption | omega)) (cwV 0 hts (lw_V q2609 q2611 qs74 q89 q2612) rfl rfl rfl (by decide +kernel) ⟨Nat.le_of_ble_eq_true rfl, Nat.le_of_ble_eq_true rfl⟩) (kx_pv hK hS hB (kx_rc hK hO_a (C := RX3) (T := TX3) (N := 13) rfl)) rfl rfl hl.1 rfl (lv_room (Nat.le_of_ble_eq_true rfl)) dX3_needs_9 ⟨by first | exact Nat.le_of_ble_eq_true rfl | omega | (show _ ≤ _; omega) | (dsimp only [headSpec]; omega), by first | exact Nat.le_of_ble_eq_true rfl | omega | (show _ ≤ _; omega) | (dsimp only [headSpec]; omega)⟩) hS (fun z_17 locs_14 hz_16 hS_15 => ?_)
    subst z_17
    refine lv_iload_n hx hb dX3_needs_12 rfl (lv_at hl 1 rfl) ?_
    refine kx_icmp_ne (x := tsg t spn) (y := x) (tgt := 20) hx hb dX3_needs_13 (by decide) (by omega) (by omega) (by omega) (by omega) (fun c_13_18 => ?_) (fun c_13_18 => ?_)
    · -- taken at 13
      refine kx_iconst hx hb dX3_needs_20 ?_
      refine kx_put (v := .int (kI (kb (false)))) (C := RX3) (T := TX3) (N := 13) hx hb hts in_X3 hown hK hO_a rfl 9 (by decide) tyX3 tyX3_ok nmX3 hS_15 (by first | rfl | exact Or.inl rfl | exact Or.inr rfl | exact Or.inr (Or.inl rfl) | exact Or.inr (Or.inr rfl) | exact Or.inr (Or.inr (Or.inl rfl)) | exact Or.inr (Or.inr (Or.inr rfl)) | ((try dsimp only); (try simp only [kNW]); omega)) q2247 (fun _ h9 => h9) rfl rfl (kb_narZ _) (kb_fitZ _) (Nat.le_of_ble_eq_true rfl) dX3_needs_21 (fun H_21 locs_22 hO_20 hU_19 hS_23 => ?_)
      have hO_20 : kO D H_21 a 2 [.ref ra, .ref sa, .int (kI ((sn : Nat) : Int)), .ref ka, .int (kI (kb (ik))), .ref ta, .int (kI ((t.length : Nat) : Int)), .int (kI (th)), .int (kI ((spn : Nat) : Int)), .int (kI (kb (false))), .int (kI (le)), .int (kI (fi)), .int (kI (se))] := hO_20
      have hzu_24 := hU_19.1
      refine lv_aload_n hx hb dX3_needs_24 rfl (lv_at hl 0 rfl) ?_
      refine lv_dup hx hb dX3_needs_25 rfl ?_
      refine kx_get (v := .int (kI ((spn : Nat) : Int))) (C := RX3) (T := TX3) (N := 13) hx hb hts in_X3 hown hK hO_20 rfl 8 (by decide) q2246 (fun _ h9 => h9) rfl dX3_needs_26 ?_
      refine lv_aload_n hx hb dX3_needs_29 rfl (lv_at hl 0 rfl) ?_
      refine kx_get (v := .int (kI (kb (false)))) (C := RX3) (T := TX3) (N := 13) hx hb hts in_X3 hown hK hO_20 rfl 9 (by decide) q2247 (fun _ h9 => h9) rfl dX3_needs_30 ?_
      refine kx_ifz (tgt := 40) hx hb dX3_needs_33 (by decide) (fun c_33_25 => ?_) (fun c_33_25 => ?_)
      · -- taken at 33
        refine kx_iconst hx hb dX3_needs_40 ?_
        refine kx_iadd hx hb dX3_needs_41 ?_
        refine kx_eqi (((spn : Nat) : Int)) (by omega) ?_
        refine kx_put (v := .int (kI ((spn : Nat) : Int))) (C := RX3) (T := TX3) (N := 13) hx hb hts in_X3 hown hK hO_20 rfl 8 (by decide) tyX3 tyX3_ok nmX3 hS_23 (by first | rfl | exact Or.inl rfl | exact Or.inr rfl | exact Or.inr (Or.inl rfl) | exact Or.inr (Or.inr rfl) | exact Or.inr (Or.inr (Or.inl rfl)) | exact Or.inr (Or.inr (Or.inr rfl)) | ((try dsimp only); (try simp only [kNW]); omega)) q2246 (fun _ h9 => h9) rfl rfl rfl rfl (Nat.le_of_ble_eq_true rfl) dX3_needs_42 (fun H_28 locs_29 hO_27 hU_26 hS_30 => ?_)
        have hO_27 : kO D H_28 a 2 [.ref ra, .ref sa, .int (kI ((sn : Nat) : Int)), .ref ka, .int (kI (kb (ik))), .ref ta, .int (kI ((t.length : Nat) : Int)), .int (kI (th)), .int (kI ((spn : Nat) : Int)), .int (kI (kb (false))), .int (kI (le)), .int (kI (fi)), .int (kI (se))] := hO_27
        have hzu_31 := hU_26.1
        exact kx_vret hx hb hr hlk (hO_27) hS_30 dX3_needs_45
      · -- not taken at 33
        exact absurd c_33_25 (by decide)
    · -- not taken at 13
      exfalso; (rcases hxw with z | z; (rw [c5] at z; exact absurd z (by decide)); omega)

set_option maxHeartbeats 4000000 in
set_option maxRecDepth 100000 in
theorem m_num_f (l : Launch) (D : kG) (H : Heap) (a : Nat) (ra : Nat) (sa : Nat) (ka : Nat) (ta : Nat) (sn : Nat) (ik : Bool) (th : Int) (le : Int) (fi : Int) (se : Int) (spn : Nat) (gt : Nat → Int) (t : List Int) (lo : Int) (most : Int) (hO_a : kO D H a 2 [.ref ra, .ref sa, .int (kI ((sn : Nat) : Int)), .ref ka, .int (kI (kb (ik))), .ref ta, .int (kI ((t.length : Nat) : Int)), .int (kI (th)), .int (kI ((spn : Nat) : Int)), .int (kI (kb (true))), .int (kI (le)), .int (kI (fi)), .int (kI (se))]) (hA_ta : kAi D H ta 60 gt) (hsp : spn ≤ 1000) (hT : MTx gt t) (ht60 : t.length ≤ 60) (ne_a_ta : a ≠ ta) (bs_a : kBase D ≤ a) (hm : 0 ≤ lo ∧ lo ≤ 9 ∧ 0 ≤ most ∧ most ≤ 1000) (hno : ¬ tx_numOK t lo most spn) : Met l yX3_number (ws_ yX3_number cX3_number 4 (some .int)) ({ frames := 1, cells := 0, slots := 0, locals := 22 } : Room) (kPre D H [.ref a, .int (kI (lo)), .int (kI (most))]) (kQi (fun (r : Int) H' => (r = tsg t spn - 48) ∧ (kO D H' a 2 [.ref ra, .ref sa, .int (kI ((sn : Nat) : Int)), .ref ka, .int (kI (kb (ik))), .ref ta, .int (kI ((t.length : Nat) : Int)), .int (kI (th)), .int (kI ((spn : Nat) : Int)), .int (kI (kb (false))), .int (kI (le)), .int (kI (fi)), .int (kI (se))])) (fun q : Nat => q = a)) (0) (0) ((fun q : Nat => q = a)) := by
  refine Met.ofW (cc := cX3_number) (maxL := 4) (ret := (some .int)) (by decide) rfl ?_
  intro p e s m args below meth c s₁ B hml hv
  obtain ⟨rfl, hH, hK⟩ := hv
  subst hH
  have hx := B.exec
  have hb := B.bytes
  have hr := B.returns
  have hts := atoms_spec (ws := ws_ yX3_number cX3_number 4 (some .int)) B.pre
  have hts : ∀ w ∈ lw_all, w.before _ s = true := fun w h => hts w (List.mem_cons_of_mem _ h)
  have hown : s.vm.findClass RX3 = some m.cls := findClass_of_methodNamed B.named
  have hlk := B.notSynchronized
  have hS : va_S (fun q : Nat => q = a) s.heap s.heap [] := va_S.rf
  have hB : ∀ q, (fun q : Nat => q = a) q → kBase D ≤ q := fun q h => by (try dsimp only at h); (try simp only [kNW] at h); have hks := hK.size; omega
  have hl := lv_entry ([.ref a, .int (kI (lo)), .int (kI (most))]) (n := 4) (Nat.le_of_ble_eq_true rfl)
  rw [lg_entry_eq]
  generalize (lg_sl ([.ref a, .int (kI (lo)), .int (kI (most))]) ++ List.replicate (4 - (lg_sl ([.ref a, .int (kI (lo)), .int (kI (most))])).length) Slot.unset).toArray = ls at hl ⊢
  have hl : lv_has ls 4 [(0, .ref a), (1, .int (kI (lo))), (2, .int (kI (most)))] := hl
  have hsr := hT.rng spn
  refine lv_aload_n hx hb dX3_number_0 rfl (lv_at hl 0 rfl) ?_
  refine kx_ci0 (va_runV (As := []) (rest := []) ⟨hx, hb, hml, hown, hts⟩ (m_X3_sign l D s.heap a ra sa ka ta sn ik th true le fi se spn gt t hO_a hA_ta (by first | assumption | omega) (by first | assumption | omega) (by first | assumption | omega) (by first | assumption | omega) (by first | assumption | omega)) (cwV 0 hts (lw_V q2609 q2611 qs74 q89 q2612) rfl rfl rfl (by decide +kernel) ⟨Nat.le_of_ble_eq_true rfl, Nat.le_of_ble_eq_true rfl⟩) (kx_pv hK hS hB (kx_rc hK hO_a (C := RX3) (T := TX3) (N := 13) rfl)) rfl rfl hl.1 rfl (lv_room (Nat.le_of_ble_eq_true rfl)) dX3_number_1 ⟨by first | exact Nat.le_of_ble_eq_true rfl | omega | (show _ ≤ _; omega) | (dsimp only [headSpec]; omega), by first | exact Nat.le_of_ble_eq_true rfl | omega | (show _ ≤ _; omega) | (dsimp only [headSpec]; omega)⟩) hS (fun z_4 locs_1 hz_3 hS_2 => ?_)
  subst z_4
  refine kx_bipush hx hb (by decide) dX3_number_4 ?_
  refine kx_isub hx hb dX3_number_6 ?_
  refine lv_istore_n (lv' := [(3, .int (kI ((tsg t spn - 48)))), (0, .ref a), (1, .int (kI (lo))), (2, .int (kI (most)))]) hx hb dX3_number_7 rfl hl (by decide) rfl (fun ls hl => ?_)
  refine lv_aload_n hx hb dX3_number_8 rfl (lv_at hl 1 rfl) ?_
  refine lv_aload_n hx hb dX3_number_9 rfl (lv_at hl 1 rfl) ?_
  refine kx_get (v := .int (kI (kb (true)))) (C := RX3) (T := TX3) (N := 13) hx hb hts in_X3 hown hK hO_a rfl 9 (by decide) q2247 (fun _ h9 => h9) rfl dX3_number_10 ?_
  refine kx_ifz (tgt := 39) hx hb dX3_number_13 (by decide) (fun c_13_5 => ?_) (fun c_13_5 => ?_)
  · -- taken at 13
    exact absurd c_13_5 (by decide)
  · -- not taken at 13
    refine lv_iload_n hx hb dX3_number_16 rfl (lv_at hl 0 rfl) ?_
    refine kx_iconst hx hb dX3_number_17 ?_
    refine kx_bipush hx hb (by decide) dX3_number_18 ?_
    refine kx_cb0 (va_runS (As := [.int (kI ((tsg t spn - 48))), .int (kI (0)), .int (kI (9))]) (rest := [.ref a]) ⟨hx, hb, hml, hown, hts⟩ (m_X3_in l D s.heap ((tsg t spn - 48)) 0 9  (by first | assumption | omega) (by first | assumption | omega) (by first | assumption | omega)) (va_cwS 3 hts (lw_S q2297 q2298 q89 q2299) rfl rfl rfl (by decide +kernel) ⟨Nat.le_of_ble_eq_true rfl, Nat.le_of_ble_eq_true rfl⟩) (kx_ps hK hS_2 hB) rfl rfl hl.1 rfl (lv_room (Nat.le_of_ble_eq_true rfl)) dX3_number_20 ⟨by first | exact Nat.le_of_ble_eq_true rfl | omega | (show _ ≤ _; omega) | (dsimp only [headSpec]; omega), by first | exact Nat.le_of_ble_eq_true rfl | omega | (show _ ≤ _; omega) | (dsimp only [headSpec]; omega)⟩) hS_2 (fun z_9 locs_6 hz_8 hS_7 => ?_)
    subst z_9
    refine kx_ifz (tgt := 39) hx hb dX3_number_23 (by decide) (fun c_23_10 => ?_) (fun c_23_10 => ?_)
    · -- taken at 23
      have c_23_10 := of_decide_eq_false c_23_10
      refine kx_iconst hx hb dX3_number_39 ?_
      refine kx_put (v := .int (kI (kb (false)))) (C := RX3) (T := TX3) (N := 13) hx hb hts in_X3 hown hK hO_a rfl 9 (by decide) tyX3 tyX3_ok nmX3 hS_7 (by first | rfl | exact Or.inl rfl | exact Or.inr rfl | exact Or.inr (Or.inl rfl) | exact Or.inr (Or.inr rfl) | exact Or.inr (Or.inr (Or.inl rfl)) | exact Or.inr (Or.inr (Or.inr rfl)) | ((try dsimp only); (try simp only [kNW]); omega)) q2247 (fun _ h9 => h9) rfl rfl (kb_narZ _) (kb_fitZ _) (Nat.le_of_ble_eq_true rfl) dX3_number_40 (fun H_13 locs_14 hO_12 hU_11 hS_15 => ?_)
      have hO_12 : kO D H_13 a 2 [.ref ra, .ref sa, .int (kI ((sn : Nat) : Int)), .ref ka, .int (kI (kb (ik))), .ref ta, .int (kI ((t.length : Nat) : Int)), .int (kI (th)), .int (kI ((spn : Nat) : Int)), .int (kI (kb (false))), .int (kI (le)), .int (kI (fi)), .int (kI (se))] := hO_12
      have hzu_16 := hU_11.1
      refine lv_aload_n hx hb dX3_number_43 rfl (lv_at hl 1 rfl) ?_
      refine lv_dup hx hb dX3_number_44 rfl ?_
      refine kx_get (v := .int (kI ((spn : Nat) : Int))) (C := RX3) (T := TX3) (N := 13) hx hb hts in_X3 hown hK hO_12 rfl 8 (by decide) q2246 (fun _ h9 => h9) rfl dX3_number_45 ?_
      refine lv_aload_n hx hb dX3_number_48 rfl (lv_at hl 1 rfl) ?_
      refine kx_get (v := .int (kI (kb (false)))) (C := RX3) (T := TX3) (N := 13) hx hb hts in_X3 hown hK hO_12 rfl 9 (by decide) q2247 (fun _ h9 => h9) rfl dX3_number_49 ?_
      refine kx_ifz (tgt := 59) hx hb dX3_number_52 (by decide) (fun c_52_17 => ?_) (fun c_52_17 => ?_)
      · -- taken at 52
        refine kx_iconst hx hb dX3_number_59 ?_
        refine kx_iadd hx hb dX3_number_60 ?_
        refine kx_eqi (((spn : Nat) : Int)) (by omega) ?_
        refine kx_put (v := .int (kI ((spn : Nat) : Int))) (C := RX3) (T := TX3) (N := 13) hx hb hts in_X3 hown hK hO_12 rfl 8 (by decide) tyX3 tyX3_ok nmX3 hS_15 (by first | rfl | exact Or.inl rfl | exact Or.inr rfl | exact Or.inr (Or.inl rfl) | exact Or.inr (Or.inr rfl) | exact Or.inr (Or.inr (Or.inl rfl)) | exact Or.inr (Or.inr (Or.inr rfl)) | ((try dsimp only); (try simp only [kNW]); omega)) q2246 (fun _ h9 => h9) rfl rfl rfl rfl (Nat.le_of_ble_eq_true rfl) dX3_number_61 (fun H_20 locs_21 hO_19 hU_18 hS_22 => ?_)
        have hO_19 : kO D H_20 a 2 [.ref ra, .ref sa, .int (kI ((sn : Nat) : Int)), .ref ka, .int (kI (kb (ik))), .ref ta, .int (kI ((t.length : Nat) : Int)), .int (kI (th)), .int (kI ((spn : Nat) : Int)), .int (kI (kb (false))), .int (kI (le)), .int (kI (fi)), .int (kI (se))] := hO_19
        have hzu_23 := hU_18.1
        refine lv_aload_n hx hb dX3_number_64 rfl (lv_at hl 1 rfl) ?_
        refine kx_get (v := .int (kI (kb (false)))) (C := RX3) (T := TX3) (N := 13) hx hb hts in_X3 hown hK hO_19 rfl 9 (by decide) q2247 (fun _ h9 => h9) rfl dX3_number_65 ?_
        refine kx_ifz (tgt := 131) hx hb dX3_number_68 (by decide) (fun c_68_24 => ?_) (fun c_68_24 => ?_)
        · -- taken at 68
          refine lv_iload_n hx hb dX3_number_131 rfl (lv_at hl 0 rfl) ?_
          exact kx_iret (z := (tsg t spn - 48)) hx hb hr hlk (⟨by rfl, hO_19⟩) hS_22 dX3_number_132
        · -- not taken at 68
          exact absurd c_68_24 (by decide)
      · -- not taken at 52
        exact absurd c_52_17 (by decide)
    · -- not taken at 23
      have c_23_10 := of_decide_eq_true c_23_10
      refine lv_iload_n hx hb dX3_number_26 rfl (lv_at hl 0 rfl) ?_
      refine lv_iload_n hx hb dX3_number_27 rfl (lv_at hl 2 rfl) ?_
      refine lv_iload_n hx hb dX3_number_28 rfl (lv_at hl 3 rfl) ?_
      refine kx_cb0 (va_runS (As := [.int (kI ((tsg t spn - 48))), .int (kI (lo)), .int (kI (most))]) (rest := [.ref a]) ⟨hx, hb, hml, hown, hts⟩ (m_X3_in l D s.heap ((tsg t spn - 48)) lo most  (by first | assumption | omega) (by first | assumption | omega) (by first | assumption | omega)) (va_cwS 3 hts (lw_S q2297 q2298 q89 q2299) rfl rfl rfl (by decide +kernel) ⟨Nat.le_of_ble_eq_true rfl, Nat.le_of_ble_eq_true rfl⟩) (kx_ps hK hS_7 hB) rfl rfl hl.1 rfl (lv_room (Nat.le_of_ble_eq_true rfl)) dX3_number_29 ⟨by first | exact Nat.le_of_ble_eq_true rfl | omega | (show _ ≤ _; omega) | (dsimp only [headSpec]; omega), by first | exact Nat.le_of_ble_eq_true rfl | omega | (show _ ≤ _; omega) | (dsimp only [headSpec]; omega)⟩) hS_7 (fun z_28 locs_25 hz_27 hS_26 => ?_)
      subst z_28
      refine kx_ifz (tgt := 39) hx hb dX3_number_32 (by decide) (fun c_32_29 => ?_) (fun c_32_29 => ?_)
      · -- taken at 32
        have c_32_29 := of_decide_eq_false c_32_29
        refine kx_iconst hx hb dX3_number_39 ?_
        refine kx_put (v := .int (kI (kb (false)))) (C := RX3) (T := TX3) (N := 13) hx hb hts in_X3 hown hK hO_a rfl 9 (by decide) tyX3 tyX3_ok nmX3 hS_26 (by first | rfl | exact Or.inl rfl | exact Or.inr rfl | exact Or.inr (Or.inl rfl) | exact Or.inr (Or.inr rfl) | exact Or.inr (Or.inr (Or.inl rfl)) | exact Or.inr (Or.inr (Or.inr rfl)) | ((try dsimp only); (try simp only [kNW]); omega)) q2247 (fun _ h9 => h9) rfl rfl (kb_narZ _) (kb_fitZ _) (Nat.le_of_ble_eq_true rfl) dX3_number_40 (fun H_32 locs_33 hO_31 hU_30 hS_34 => ?_)
        have hO_31 : kO D H_32 a 2 [.ref ra, .ref sa, .int (kI ((sn : Nat) : Int)), .ref ka, .int (kI (kb (ik))), .ref ta, .int (kI ((t.length : Nat) : Int)), .int (kI (th)), .int (kI ((spn : Nat) : Int)), .int (kI (kb (false))), .int (kI (le)), .int (kI (fi)), .int (kI (se))] := hO_31
        have hzu_35 := hU_30.1
        refine lv_aload_n hx hb dX3_number_43 rfl (lv_at hl 1 rfl) ?_
        refine lv_dup hx hb dX3_number_44 rfl ?_
        refine kx_get (v := .int (kI ((spn : Nat) : Int))) (C := RX3) (T := TX3) (N := 13) hx hb hts in_X3 hown hK hO_31 rfl 8 (by decide) q2246 (fun _ h9 => h9) rfl dX3_number_45 ?_
        refine lv_aload_n hx hb dX3_number_48 rfl (lv_at hl 1 rfl) ?_
        refine kx_get (v := .int (kI (kb (false)))) (C := RX3) (T := TX3) (N := 13) hx hb hts in_X3 hown hK hO_31 rfl 9 (by decide) q2247 (fun _ h9 => h9) rfl dX3_number_49 ?_
        refine kx_ifz (tgt := 59) hx hb dX3_number_52 (by decide) (fun c_52_36 => ?_) (fun c_52_36 => ?_)
        · -- taken at 52
          refine kx_iconst hx hb dX3_number_59 ?_
          refine kx_iadd hx hb dX3_number_60 ?_
          refine kx_eqi (((spn : Nat) : Int)) (by omega) ?_
          refine kx_put (v := .int (kI ((spn : Nat) : Int))) (C := RX3) (T := TX3) (N := 13) hx hb hts in_X3 hown hK hO_31 rfl 8 (by decide) tyX3 tyX3_ok nmX3 hS_34 (by first | rfl | exact Or.inl rfl | exact Or.inr rfl | exact Or.inr (Or.inl rfl) | exact Or.inr (Or.inr rfl) | exact Or.inr (Or.inr (Or.inl rfl)) | exact Or.inr (Or.inr (Or.inr rfl)) | ((try dsimp only); (try simp only [kNW]); omega)) q2246 (fun _ h9 => h9) rfl rfl rfl rfl (Nat.le_of_ble_eq_true rfl) dX3_number_61 (fun H_39 locs_40 hO_38 hU_37 hS_41 => ?_)
          have hO_38 : kO D H_39 a 2 [.ref ra, .ref sa, .int (kI ((sn : Nat) : Int)), .ref ka, .int (kI (kb (ik))), .ref ta, .int (kI ((t.length : Nat) : Int)), .int (kI (th)), .int (kI ((spn : Nat) : Int)), .int (kI (kb (false))), .int (kI (le)), .int (kI (fi)), .int (kI (se))] := hO_38
          have hzu_42 := hU_37.1
          refine lv_aload_n hx hb dX3_number_64 rfl (lv_at hl 1 rfl) ?_
          refine kx_get (v := .int (kI (kb (false)))) (C := RX3) (T := TX3) (N := 13) hx hb hts in_X3 hown hK hO_38 rfl 9 (by decide) q2247 (fun _ h9 => h9) rfl dX3_number_65 ?_
          refine kx_ifz (tgt := 131) hx hb dX3_number_68 (by decide) (fun c_68_43 => ?_) (fun c_68_43 => ?_)
          · -- taken at 68
            refine lv_iload_n hx hb dX3_number_131 rfl (lv_at hl 0 rfl) ?_
            exact kx_iret (z := (tsg t spn - 48)) hx hb hr hlk (⟨by rfl, hO_38⟩) hS_41 dX3_number_132
          · -- not taken at 68
            exact absurd c_68_43 (by decide)
        · -- not taken at 52
          exact absurd c_52_36 (by decide)
      · -- not taken at 32
        have c_32_29 := of_decide_eq_true c_32_29
        exfalso; exact hno ⟨by omega, by omega⟩

set_option maxHeartbeats 4000000 in
set_option maxRecDepth 100000 in
theorem m_num_t (l : Launch) (D : kG) (H : Heap) (a : Nat) (ra : Nat) (sa : Nat) (ka : Nat) (ta : Nat) (sn : Nat) (ik : Bool) (th : Int) (le : Int) (fi : Int) (se : Int) (spn : Nat) (gt : Nat → Int) (t : List Int) (lo : Int) (most : Int) (hO_a : kO D H a 2 [.ref ra, .ref sa, .int (kI ((sn : Nat) : Int)), .ref ka, .int (kI (kb (ik))), .ref ta, .int (kI ((t.length : Nat) : Int)), .int (kI (th)), .int (kI ((spn : Nat) : Int)), .int (kI (kb (true))), .int (kI (le)), .int (kI (fi)), .int (kI (se))]) (hA_ta : kAi D H ta 60 gt) (hsp : spn ≤ 1000) (hT : MTx gt t) (ht60 : t.length ≤ 60) (ne_a_ta : a ≠ ta) (bs_a : kBase D ≤ a) (hm : 0 ≤ lo ∧ lo ≤ 9 ∧ 0 ≤ most ∧ most ≤ 1000) (hyes : tx_numOK t lo most spn) : Met l yX3_number (ws_ yX3_number cX3_number 4 (some .int)) ({ frames := 1, cells := 0, slots := 0, locals := 22 } : Room) (kPre D H [.ref a, .int (kI (lo)), .int (kI (most))]) (kQi (fun (r : Int) H' => (r = (tx_num t most spn).1) ∧ (kO D H' a 2 [.ref ra, .ref sa, .int (kI ((sn : Nat) : Int)), .ref ka, .int (kI (kb (ik))), .ref ta, .int (kI ((t.length : Nat) : Int)), .int (kI (th)), .int (kI (((tx_num t most spn).2 : Nat) : Int)), .int (kI (kb (true))), .int (kI (le)), .int (kI (fi)), .int (kI (se))])) (fun q : Nat => q = a)) (0) (0) ((fun q : Nat => q = a)) := by
  refine Met.ofW (cc := cX3_number) (maxL := 4) (ret := (some .int)) (by decide) rfl ?_
  intro p e s m args below meth c s₁ B hml hv
  obtain ⟨rfl, hH, hK⟩ := hv
  subst hH
  have hx := B.exec
  have hb := B.bytes
  have hr := B.returns
  have hts := atoms_spec (ws := ws_ yX3_number cX3_number 4 (some .int)) B.pre
  have hts : ∀ w ∈ lw_all, w.before _ s = true := fun w h => hts w (List.mem_cons_of_mem _ h)
  have hown : s.vm.findClass RX3 = some m.cls := findClass_of_methodNamed B.named
  have hlk := B.notSynchronized
  have hS : va_S (fun q : Nat => q = a) s.heap s.heap [] := va_S.rf
  have hB : ∀ q, (fun q : Nat => q = a) q → kBase D ≤ q := fun q h => by (try dsimp only at h); (try simp only [kNW] at h); have hks := hK.size; omega
  have hl := lv_entry ([.ref a, .int (kI (lo)), .int (kI (most))]) (n := 4) (Nat.le_of_ble_eq_true rfl)
  rw [lg_entry_eq]
  generalize (lg_sl ([.ref a, .int (kI (lo)), .int (kI (most))]) ++ List.replicate (4 - (lg_sl ([.ref a, .int (kI (lo)), .int (kI (most))])).length) Slot.unset).toArray = ls at hl ⊢
  have hl : lv_has ls 4 [(0, .ref a), (1, .int (kI (lo))), (2, .int (kI (most)))] := hl
  have hsr := hT.rng spn
  obtain ⟨hy1, hy2⟩ := hyes
  have hlt := hT.lt (i := spn) (by omega)
  refine lv_aload_n hx hb dX3_number_0 rfl (lv_at hl 0 rfl) ?_
  refine kx_ci0 (va_runV (As := []) (rest := []) ⟨hx, hb, hml, hown, hts⟩ (m_X3_sign l D s.heap a ra sa ka ta sn ik th true le fi se spn gt t hO_a hA_ta (by first | assumption | omega) (by first | assumption | omega) (by first | assumption | omega) (by first | assumption | omega) (by first | assumption | omega)) (cwV 0 hts (lw_V q2609 q2611 qs74 q89 q2612) rfl rfl rfl (by decide +kernel) ⟨Nat.le_of_ble_eq_true rfl, Nat.le_of_ble_eq_true rfl⟩) (kx_pv hK hS hB (kx_rc hK hO_a (C := RX3) (T := TX3) (N := 13) rfl)) rfl rfl hl.1 rfl (lv_room (Nat.le_of_ble_eq_true rfl)) dX3_number_1 ⟨by first | exact Nat.le_of_ble_eq_true rfl | omega | (show _ ≤ _; omega) | (dsimp only [headSpec]; omega), by first | exact Nat.le_of_ble_eq_true rfl | omega | (show _ ≤ _; omega) | (dsimp only [headSpec]; omega)⟩) hS (fun z_4 locs_1 hz_3 hS_2 => ?_)
  subst z_4
  refine kx_bipush hx hb (by decide) dX3_number_4 ?_
  refine kx_isub hx hb dX3_number_6 ?_
  refine lv_istore_n (lv' := [(3, .int (kI ((tsg t spn - 48)))), (0, .ref a), (1, .int (kI (lo))), (2, .int (kI (most)))]) hx hb dX3_number_7 rfl hl (by decide) rfl (fun ls hl => ?_)
  refine lv_aload_n hx hb dX3_number_8 rfl (lv_at hl 1 rfl) ?_
  refine lv_aload_n hx hb dX3_number_9 rfl (lv_at hl 1 rfl) ?_
  refine kx_get (v := .int (kI (kb (true)))) (C := RX3) (T := TX3) (N := 13) hx hb hts in_X3 hown hK hO_a rfl 9 (by decide) q2247 (fun _ h9 => h9) rfl dX3_number_10 ?_
  refine kx_ifz (tgt := 39) hx hb dX3_number_13 (by decide) (fun c_13_5 => ?_) (fun c_13_5 => ?_)
  · -- taken at 13
    exact absurd c_13_5 (by decide)
  · -- not taken at 13
    refine lv_iload_n hx hb dX3_number_16 rfl (lv_at hl 0 rfl) ?_
    refine kx_iconst hx hb dX3_number_17 ?_
    refine kx_bipush hx hb (by decide) dX3_number_18 ?_
    refine kx_cb0 (va_runS (As := [.int (kI ((tsg t spn - 48))), .int (kI (0)), .int (kI (9))]) (rest := [.ref a]) ⟨hx, hb, hml, hown, hts⟩ (m_X3_in l D s.heap ((tsg t spn - 48)) 0 9  (by first | assumption | omega) (by first | assumption | omega) (by first | assumption | omega)) (va_cwS 3 hts (lw_S q2297 q2298 q89 q2299) rfl rfl rfl (by decide +kernel) ⟨Nat.le_of_ble_eq_true rfl, Nat.le_of_ble_eq_true rfl⟩) (kx_ps hK hS_2 hB) rfl rfl hl.1 rfl (lv_room (Nat.le_of_ble_eq_true rfl)) dX3_number_20 ⟨by first | exact Nat.le_of_ble_eq_true rfl | omega | (show _ ≤ _; omega) | (dsimp only [headSpec]; omega), by first | exact Nat.le_of_ble_eq_true rfl | omega | (show _ ≤ _; omega) | (dsimp only [headSpec]; omega)⟩) hS_2 (fun z_9 locs_6 hz_8 hS_7 => ?_)
    subst z_9
    refine kx_ifz (tgt := 39) hx hb dX3_number_23 (by decide) (fun c_23_10 => ?_) (fun c_23_10 => ?_)
    · -- taken at 23
      have c_23_10 := of_decide_eq_false c_23_10
      exfalso; omega
    · -- not taken at 23
      have c_23_10 := of_decide_eq_true c_23_10
      refine lv_iload_n hx hb dX3_number_26 rfl (lv_at hl 0 rfl) ?_
      refine lv_iload_n hx hb dX3_number_27 rfl (lv_at hl 2 rfl) ?_
      refine lv_iload_n hx hb dX3_number_28 rfl (lv_at hl 3 rfl) ?_
      refine kx_cb0 (va_runS (As := [.int (kI ((tsg t spn - 48))), .int (kI (lo)), .int (kI (most))]) (rest := [.ref a]) ⟨hx, hb, hml, hown, hts⟩ (m_X3_in l D s.heap ((tsg t spn - 48)) lo most  (by first | assumption | omega) (by first | assumption | omega) (by first | assumption | omega)) (va_cwS 3 hts (lw_S q2297 q2298 q89 q2299) rfl rfl rfl (by decide +kernel) ⟨Nat.le_of_ble_eq_true rfl, Nat.le_of_ble_eq_true rfl⟩) (kx_ps hK hS_7 hB) rfl rfl hl.1 rfl (lv_room (Nat.le_of_ble_eq_true rfl)) dX3_number_29 ⟨by first | exact Nat.le_of_ble_eq_true rfl | omega | (show _ ≤ _; omega) | (dsimp only [headSpec]; omega), by first | exact Nat.le_of_ble_eq_true rfl | omega | (show _ ≤ _; omega) | (dsimp only [headSpec]; omega)⟩) hS_7 (fun z_14 locs_11 hz_13 hS_12 => ?_)
      subst z_14
      refine kx_ifz (tgt := 39) hx hb dX3_number_32 (by decide) (fun c_32_15 => ?_) (fun c_32_15 => ?_)
      · -- taken at 32
        have c_32_15 := of_decide_eq_false c_32_15
        exfalso; omega
      · -- not taken at 32
        have c_32_15 := of_decide_eq_true c_32_15
        refine kx_iconst hx hb dX3_number_35 ?_
        refine lv_goto (tgt := 40) hx hb dX3_number_36 (by decide) ?_
        refine kx_put (v := .int (kI (kb (true)))) (C := RX3) (T := TX3) (N := 13) hx hb hts in_X3 hown hK hO_a rfl 9 (by decide) tyX3 tyX3_ok nmX3 hS_12 (by first | rfl | exact Or.inl rfl | exact Or.inr rfl | exact Or.inr (Or.inl rfl) | exact Or.inr (Or.inr rfl) | exact Or.inr (Or.inr (Or.inl rfl)) | exact Or.inr (Or.inr (Or.inr rfl)) | ((try dsimp only); (try simp only [kNW]); omega)) q2247 (fun _ h9 => h9) rfl rfl (kb_narZ _) (kb_fitZ _) (Nat.le_of_ble_eq_true rfl) dX3_number_40 (fun H_18 locs_19 hO_17 hU_16 hS_20 => ?_)
        have hO_17 : kO D H_18 a 2 [.ref ra, .ref sa, .int (kI ((sn : Nat) : Int)), .ref ka, .int (kI (kb (ik))), .ref ta, .int (kI ((t.length : Nat) : Int)), .int (kI (th)), .int (kI ((spn : Nat) : Int)), .int (kI (kb (true))), .int (kI (le)), .int (kI (fi)), .int (kI (se))] := hO_17
        have hzu_21 := hU_16.1
        refine lv_aload_n hx hb dX3_number_43 rfl (lv_at hl 1 rfl) ?_
        refine lv_dup hx hb dX3_number_44 rfl ?_
        refine kx_get (v := .int (kI ((spn : Nat) : Int))) (C := RX3) (T := TX3) (N := 13) hx hb hts in_X3 hown hK hO_17 rfl 8 (by decide) q2246 (fun _ h9 => h9) rfl dX3_number_45 ?_
        refine lv_aload_n hx hb dX3_number_48 rfl (lv_at hl 1 rfl) ?_
        refine kx_get (v := .int (kI (kb (true)))) (C := RX3) (T := TX3) (N := 13) hx hb hts in_X3 hown hK hO_17 rfl 9 (by decide) q2247 (fun _ h9 => h9) rfl dX3_number_49 ?_
        refine kx_ifz (tgt := 59) hx hb dX3_number_52 (by decide) (fun c_52_22 => ?_) (fun c_52_22 => ?_)
        · -- taken at 52
          exact absurd c_52_22 (by decide)
        · -- not taken at 52
          refine kx_iconst hx hb dX3_number_55 ?_
          refine lv_goto (tgt := 60) hx hb dX3_number_56 (by decide) ?_
          refine kx_iadd hx hb dX3_number_60 ?_
          refine kx_eqi (((spn + 1 : Nat) : Int)) (by omega) ?_
          refine kx_put (v := .int (kI ((spn + 1 : Nat) : Int))) (C := RX3) (T := TX3) (N := 13) hx hb hts in_X3 hown hK hO_17 rfl 8 (by decide) tyX3 tyX3_ok nmX3 hS_20 (by first | rfl | exact Or.inl rfl | exact Or.inr rfl | exact Or.inr (Or.inl rfl) | exact Or.inr (Or.inr rfl) | exact Or.inr (Or.inr (Or.inl rfl)) | exact Or.inr (Or.inr (Or.inr rfl)) | ((try dsimp only); (try simp only [kNW]); omega)) q2246 (fun _ h9 => h9) rfl rfl rfl rfl (Nat.le_of_ble_eq_true rfl) dX3_number_61 (fun H_25 locs_26 hO_24 hU_23 hS_27 => ?_)
          have hO_24 : kO D H_25 a 2 [.ref ra, .ref sa, .int (kI ((sn : Nat) : Int)), .ref ka, .int (kI (kb (ik))), .ref ta, .int (kI ((t.length : Nat) : Int)), .int (kI (th)), .int (kI ((spn + 1 : Nat) : Int)), .int (kI (kb (true))), .int (kI (le)), .int (kI (fi)), .int (kI (se))] := hO_24
          have hzu_28 := hU_23.1
          have lp_64_x_29 : ∀ (n_64 : Nat) (k : Nat) (v : Int) (H : Heap) (hO_a : kO D H a 2 [.ref ra, .ref sa, .int (kI ((sn : Nat) : Int)), .ref ka, .int (kI (kb (ik))), .ref ta, .int (kI ((t.length : Nat) : Int)), .int (kI (th)), .int (kI ((k : Nat) : Int)), .int (kI (kb (true))), .int (kI (le)), .int (kI (fi)), .int (kI (se))]) (hA_ta : kAi D H ta 60 gt) (hk : k ≤ t.length) (hv : 0 ≤ v ∧ v ≤ 1000) (hnl : tx_num t most spn = tx_nl t most (t.length - k) k v) (locs : List Loc) (hS : va_S (fun q : Nat => q = a) s.heap H locs) (hm_64 : t.length - k < n_64) (ls : Array Slot), lv_has ls 4 [(0, .ref a), (1, .int (kI (lo))), (2, .int (kI (most))), (3, .int (kI (v)))] → W p l e (headSpec (ws_ yX3_number cX3_number 4 (some .int)) ({ frames := 1, cells := 0, slots := 0, locals := 22 } : Room)).room s m ([.ref a, .int (kI (lo)), .int (kI (most))] : List Value).toArray below meth c H locs (0) (0) (MQ below (kQi (fun (r : Int) H' => (r = (tx_num t most spn).1) ∧ (kO D H' a 2 [.ref ra, .ref sa, .int (kI ((sn : Nat) : Int)), .ref ka, .int (kI (kb (ik))), .ref ta, .int (kI ((t.length : Nat) : Int)), .int (kI (th)), .int (kI (((tx_num t most spn).2 : Nat) : Int)), .int (kI (kb (true))), .int (kI (le)), .int (kI (fi)), .int (kI (se))])) (fun q : Nat => q = a)) ([.ref a, .int (kI (lo)), .int (kI (most))] : List Value).toArray s (0) (0) ((fun q : Nat => q = a))) (F0 m 64 ls []) := by
            intro n_64
            induction n_64 with
            | zero => intro k v H hO_a hA_ta hk hv hnl locs hS hm_64; exact absurd hm_64 (Nat.not_lt_zero _)
            | succ n_64 ih_64 =>
              intro k v H hO_a hA_ta hk hv hnl locs hS hm_64 ls hl
              have hkr := hT.rng k
              refine lv_aload_n hx hb dX3_number_64 rfl (lv_at hl 0 rfl) ?_
              refine kx_get (v := .int (kI (kb (true)))) (C := RX3) (T := TX3) (N := 13) hx hb hts in_X3 hown hK hO_a rfl 9 (by decide) q2247 (fun _ h9 => h9) rfl dX3_number_65 ?_
              refine kx_ifz (tgt := 131) hx hb dX3_number_68 (by decide) (fun c_68_30 => ?_) (fun c_68_30 => ?_)
              · -- taken at 68
                exact absurd c_68_30 (by decide)
              · -- not taken at 68
                refine lv_iload_n hx hb dX3_number_71 rfl (lv_at hl 3 rfl) ?_
                refine kx_if_le (x := v) (tgt := 131) hx hb dX3_number_72 (by decide) (by omega) (by omega) (fun c_72_31 => ?_) (fun c_72_31 => ?_)
                · -- taken at 72
                  have hfin : tx_num t most spn = (v, k) := by rw [hnl]; exact tx_nl_stop (by omega)
                  have hfe : k = (tx_num t most spn).2 := by rw [hfin]
                  have hOs_32 := hO_a
                  rw [hfe] at hOs_32
                  refine lv_iload_n hx hb dX3_number_131 rfl (lv_at hl 3 rfl) ?_
                  exact kx_iret (z := v) hx hb hr hlk (⟨by rw [hfin], hOs_32⟩) hS dX3_number_132
                · -- not taken at 72
                  refine lv_aload_n hx hb dX3_number_75 rfl (lv_at hl 0 rfl) ?_
                  refine kx_ci0 (va_runV (As := []) (rest := []) ⟨hx, hb, hml, hown, hts⟩ (m_X3_sign l D H a ra sa ka ta sn ik th true le fi se k gt t hO_a hA_ta (by first | assumption | omega) (by first | assumption | omega) (by first | assumption | omega) (by first | assumption | omega) (by first | assumption | omega)) (cwV 0 hts (lw_V q2609 q2611 qs74 q89 q2612) rfl rfl rfl (by decide +kernel) ⟨Nat.le_of_ble_eq_true rfl, Nat.le_of_ble_eq_true rfl⟩) (kx_pv hK hS hB (kx_rc hK hO_a (C := RX3) (T := TX3) (N := 13) rfl)) rfl rfl hl.1 rfl (lv_room (Nat.le_of_ble_eq_true rfl)) dX3_number_76 ⟨by first | exact Nat.le_of_ble_eq_true rfl | omega | (show _ ≤ _; omega) | (dsimp only [headSpec]; omega), by first | exact Nat.le_of_ble_eq_true rfl | omega | (show _ ≤ _; omega) | (dsimp only [headSpec]; omega)⟩) hS (fun z_36 locs_33 hz_35 hS_34 => ?_)
                  subst z_36
                  refine kx_bipush hx hb (by decide) dX3_number_79 ?_
                  refine kx_bipush hx hb (by decide) dX3_number_81 ?_
                  refine kx_cb0 (va_runS (As := [.int (kI (tsg t k)), .int (kI (48)), .int (kI (57))]) (rest := []) ⟨hx, hb, hml, hown, hts⟩ (m_X3_in l D H (tsg t k) 48 57  (by first | assumption | omega) (by first | assumption | omega) (by first | assumption | omega)) (va_cwS 3 hts (lw_S q2297 q2298 q89 q2299) rfl rfl rfl (by decide +kernel) ⟨Nat.le_of_ble_eq_true rfl, Nat.le_of_ble_eq_true rfl⟩) (kx_ps hK hS_34 hB) rfl rfl hl.1 rfl (lv_room (Nat.le_of_ble_eq_true rfl)) dX3_number_83 ⟨by first | exact Nat.le_of_ble_eq_true rfl | omega | (show _ ≤ _; omega) | (dsimp only [headSpec]; omega), by first | exact Nat.le_of_ble_eq_true rfl | omega | (show _ ≤ _; omega) | (dsimp only [headSpec]; omega)⟩) hS_34 (fun z_40 locs_37 hz_39 hS_38 => ?_)
                  subst z_40
                  refine kx_ifz (tgt := 131) hx hb dX3_number_86 (by decide) (fun c_86_41 => ?_) (fun c_86_41 => ?_)
                  · -- taken at 86
                    have c_86_41 := of_decide_eq_false c_86_41
                    have hfin : tx_num t most spn = (v, k) := by rw [hnl]; exact tx_nl_stop (by omega)
                    have hfe : k = (tx_num t most spn).2 := by rw [hfin]
                    have hOs_42 := hO_a
                    rw [hfe] at hOs_42
                    refine lv_iload_n hx hb dX3_number_131 rfl (lv_at hl 3 rfl) ?_
                    exact kx_iret (z := v) hx hb hr hlk (⟨by rw [hfin], hOs_42⟩) hS_38 dX3_number_132
                  · -- not taken at 86
                    have c_86_41 := of_decide_eq_true c_86_41
                    have hlt2 := hT.lt (i := k) (by omega)
                    refine kx_bipush hx hb (by decide) dX3_number_89 ?_
                    refine lv_iload_n hx hb dX3_number_91 rfl (lv_at hl 3 rfl) ?_
                    refine kx_imul hx hb dX3_number_92 ?_
                    refine lv_aload_n hx hb dX3_number_93 rfl (lv_at hl 0 rfl) ?_
                    refine kx_ci0 (va_runV (As := []) (rest := [.int (kI ((10 * v)))]) ⟨hx, hb, hml, hown, hts⟩ (m_X3_sign l D H a ra sa ka ta sn ik th true le fi se k gt t hO_a hA_ta (by first | assumption | omega) (by first | assumption | omega) (by first | assumption | omega) (by first | assumption | omega) (by first | assumption | omega)) (cwV 0 hts (lw_V q2609 q2611 qs74 q89 q2612) rfl rfl rfl (by decide +kernel) ⟨Nat.le_of_ble_eq_true rfl, Nat.le_of_ble_eq_true rfl⟩) (kx_pv hK hS_38 hB (kx_rc hK hO_a (C := RX3) (T := TX3) (N := 13) rfl)) rfl rfl hl.1 rfl (lv_room (Nat.le_of_ble_eq_true rfl)) dX3_number_94 ⟨by first | exact Nat.le_of_ble_eq_true rfl | omega | (show _ ≤ _; omega) | (dsimp only [headSpec]; omega), by first | exact Nat.le_of_ble_eq_true rfl | omega | (show _ ≤ _; omega) | (dsimp only [headSpec]; omega)⟩) hS_38 (fun z_46 locs_43 hz_45 hS_44 => ?_)
                    subst z_46
                    refine kx_iadd hx hb dX3_number_97 ?_
                    refine kx_bipush hx hb (by decide) dX3_number_98 ?_
                    refine kx_isub hx hb dX3_number_100 ?_
                    refine lv_iload_n hx hb dX3_number_101 rfl (lv_at hl 2 rfl) ?_
                    refine kx_icmp_gt (x := (((10 * v) + tsg t k) - 48)) (y := most) (tgt := 131) hx hb dX3_number_102 (by decide) (by omega) (by omega) (by omega) (by omega) (fun c_102_47 => ?_) (fun c_102_47 => ?_)
                    · -- taken at 102
                      have hfin : tx_num t most spn = (v, k) := by rw [hnl]; exact tx_nl_stop (by omega)
                      have hfe : k = (tx_num t most spn).2 := by rw [hfin]
                      have hOs_48 := hO_a
                      rw [hfe] at hOs_48
                      refine lv_iload_n hx hb dX3_number_131 rfl (lv_at hl 3 rfl) ?_
                      exact kx_iret (z := v) hx hb hr hlk (⟨by rw [hfin], hOs_48⟩) hS_44 dX3_number_132
                    · -- not taken at 102
                      refine kx_bipush hx hb (by decide) dX3_number_105 ?_
                      refine lv_iload_n hx hb dX3_number_107 rfl (lv_at hl 3 rfl) ?_
                      refine kx_imul hx hb dX3_number_108 ?_
                      refine lv_aload_n hx hb dX3_number_109 rfl (lv_at hl 0 rfl) ?_
                      refine kx_ci0 (va_runV (As := []) (rest := [.int (kI ((10 * v)))]) ⟨hx, hb, hml, hown, hts⟩ (m_X3_sign l D H a ra sa ka ta sn ik th true le fi se k gt t hO_a hA_ta (by first | assumption | omega) (by first | assumption | omega) (by first | assumption | omega) (by first | assumption | omega) (by first | assumption | omega)) (cwV 0 hts (lw_V q2609 q2611 qs74 q89 q2612) rfl rfl rfl (by decide +kernel) ⟨Nat.le_of_ble_eq_true rfl, Nat.le_of_ble_eq_true rfl⟩) (kx_pv hK hS_44 hB (kx_rc hK hO_a (C := RX3) (T := TX3) (N := 13) rfl)) rfl rfl hl.1 rfl (lv_room (Nat.le_of_ble_eq_true rfl)) dX3_number_110 ⟨by first | exact Nat.le_of_ble_eq_true rfl | omega | (show _ ≤ _; omega) | (dsimp only [headSpec]; omega), by first | exact Nat.le_of_ble_eq_true rfl | omega | (show _ ≤ _; omega) | (dsimp only [headSpec]; omega)⟩) hS_44 (fun z_52 locs_49 hz_51 hS_50 => ?_)
                      subst z_52
                      refine kx_iadd hx hb dX3_number_113 ?_
                      refine kx_bipush hx hb (by decide) dX3_number_114 ?_
                      refine kx_isub hx hb dX3_number_116 ?_
                      refine lv_istore_n (lv' := [(3, .int (kI ((((10 * v) + tsg t k) - 48)))), (0, .ref a), (1, .int (kI (lo))), (2, .int (kI (most)))]) hx hb dX3_number_117 rfl hl (by decide) rfl (fun ls hl => ?_)
                      refine lv_aload_n hx hb dX3_number_118 rfl (lv_at hl 1 rfl) ?_
                      refine lv_dup hx hb dX3_number_119 rfl ?_
                      refine kx_get (v := .int (kI ((k : Nat) : Int))) (C := RX3) (T := TX3) (N := 13) hx hb hts in_X3 hown hK hO_a rfl 8 (by decide) q2246 (fun _ h9 => h9) rfl dX3_number_120 ?_
                      refine kx_iconst hx hb dX3_number_123 ?_
                      refine kx_iadd hx hb dX3_number_124 ?_
                      refine kx_eqi (((k + 1 : Nat) : Int)) (by omega) ?_
                      refine kx_put (v := .int (kI ((k + 1 : Nat) : Int))) (C := RX3) (T := TX3) (N := 13) hx hb hts in_X3 hown hK hO_a rfl 8 (by decide) tyX3 tyX3_ok nmX3 hS_50 (by first | rfl | exact Or.inl rfl | exact Or.inr rfl | exact Or.inr (Or.inl rfl) | exact Or.inr (Or.inr rfl) | exact Or.inr (Or.inr (Or.inl rfl)) | exact Or.inr (Or.inr (Or.inr rfl)) | ((try dsimp only); (try simp only [kNW]); omega)) q2246 (fun _ h9 => h9) rfl rfl rfl rfl (Nat.le_of_ble_eq_true rfl) dX3_number_125 (fun H_55 locs_56 hO_54 hU_53 hS_57 => ?_)
                      have hO_54 : kO D H_55 a 2 [.ref ra, .ref sa, .int (kI ((sn : Nat) : Int)), .ref ka, .int (kI (kb (ik))), .ref ta, .int (kI ((t.length : Nat) : Int)), .int (kI (th)), .int (kI ((k + 1 : Nat) : Int)), .int (kI (kb (true))), .int (kI (le)), .int (kI (fi)), .int (kI (se))] := hO_54
                      have hzu_58 := hU_53.1
                      refine lv_goto (tgt := 64) hx hb dX3_number_128 (by decide) ?_
                      have h_59 := hA_ta.up hU_53 (by first | assumption | exact Ne.symm (by assumption) | omega | (have h9 := hA_ta.lt; omega))
                      exact ih_64  (k + 1) ((((10 * v) + tsg t k) - 48)) H_55 hO_54 h_59 (by first | assumption | omega | (simp_all; done) | grind) (by first | assumption | omega | (simp_all; done) | grind) (by rw [hnl, show t.length - k = (t.length - (k + 1)) + 1 by omega, tx_nl, if_pos ⟨by omega, ⟨by omega, by omega⟩, by omega⟩, show 10 * v + tsg t k - 48 = 10 * v + tsg t k - 48 from rfl]) _ hS_57 (by omega) ls (lv_sub hl [1, 2, 3, 0] rfl)
          have h_60 := hA_ta.up hU_16 (by first | assumption | exact Ne.symm (by assumption) | omega | (have h9 := hA_ta.lt; omega))
          have h_61 := h_60.up hU_23 (by first | assumption | exact Ne.symm (by assumption) | omega | (have h9 := h_60.lt; omega))
          exact lp_64_x_29 (t.length - (spn + 1) + 1) (spn + 1) ((tsg t spn - 48)) H_25 hO_24 h_61 (by first | assumption | omega | (simp_all; done) | grind) (by first | assumption | omega | (simp_all; done) | grind) (rfl) _ hS_27 (Nat.lt_succ_self _) ls (lv_sub hl [1, 2, 3, 0] rfl)

