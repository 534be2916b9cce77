/-! MATH 57: what the component reads -/
def csg (t : List Int) (i : Nat) : Int := if i < t.length then tsg t i else 32
theorem csg_or (t : List Int) (i : Nat) : (i < t.length ∧ csg t i = tsg t i) ∨ (t.length ≤ i ∧ csg t i = 32 ∧ tsg t i = 0) := by
  unfold csg tsg
  by_cases h : i < t.length
  · rw [if_pos h, if_pos h]; exact Or.inl ⟨h, rfl⟩
  · rw [if_neg h, if_neg h]; exact Or.inr ⟨by omega, rfl, rfl⟩
theorem MTx.gr {g : Nat → Int} {t : List Int} (h : MTx g t) {i : Nat} (hi : i < t.length) : 0 ≤ g i ∧ g i < 128 := by
  have := h i hi
  omega
theorem MTx.cr {g : Nat → Int} {t : List Int} (h : MTx g t) (i : Nat) : 32 ≤ csg t i ∧ csg t i ≤ 126 := by
  have := csg_or t i
  rcases this with ⟨h1, h2⟩ | ⟨h1, h2, -⟩
  · rw [h2]
    have := h i h1
    unfold tsg
    rw [if_pos h1]
    omega
  · omega
theorem tx_num_1 {t : List Int} {most : Int} {i : Nat} (hm : most ≤ 9) (h0 : 0 ≤ tsg t i - 48) (hr : ∀ j, 0 ≤ tsg t j) : tx_num t most i = (tsg t i - 48, i + 1) := by
  unfold tx_num
  exact tx_nl_stop (by rintro ⟨h1, h2, h3⟩; omega)
theorem tx_cnt_s {t : List Int} {i f : Nat} (h : 48 ≤ tsg t i ∧ tsg t i ≤ 55) : tx_cnt t i (f + 1) = 1 + tx_cnt t (i + 1) f := by rw [tx_cnt, if_pos h]
theorem tx_cnt_e {t : List Int} {i f : Nat} (h : f = 0 ∨ ¬ (48 ≤ tsg t i ∧ tsg t i ≤ 55)) : tx_cnt t i f = 0 := by
  cases f with
  | zero => rw [tx_cnt]
  | succ f => rw [tx_cnt, if_neg (by rcases h with h | h; omega; exact h)]
/-- the place of an order -/
def opos (t : List Int) : Nat → Nat
  | 0 => 0
  | k + 1 => (rdW t (opos t k)).2.1 + 1
/-- an order, as an object -/
def kOrd (D : kG) (H : Heap) (b0 b1 : Nat) (t : List Int) (i q : Nat) : Prop :=
  (tsg t i = 97 ∧ q = D.2.2.2 500) ∨ ((b0 ≤ q ∧ q < b1) ∧ (
    (tsg t i = 115 ∧ (48 ≤ tsg t (i + 1) ∧ tsg t (i + 1) ≤ 55) ∧ ∃ (ar : Nat) (gs : Nat → Int), (b0 ≤ ar ∧ ar < b1) ∧ kLm D H q 5 [.int (kI ((tx_cnt t (i + 1) 20 : Nat) : Int)), .ref ar] ∧ kAi D H ar 20 gs ∧ ∀ j, j < tx_cnt t (i + 1) 20 → gs j = tsg t (i + 1 + j) - 48) ∨
    (tsg t i = 110 ∧ kLm D H q 4 [.int (kI (rdW t i).2.2.1), .int (kI (rdW t i).2.2.2)]) ∨
    (tsg t i = 108 ∧ kLm D H q 12 [.int (kI (rdW t i).2.2.1), .int (kI (rdW t i).2.2.2)]) ∨
    (tsg t i = 119 ∧ kLm D H q 11 [.int (kI (rdW t i).2.2.1)]) ∨ (tsg t i = 117 ∧ kLm D H q 13 [.int (kI (rdW t i).2.2.1)]) ∨
    (tsg t i = 98 ∧ kLm D H q 14 [.int (kI (rdW t i).2.2.1)]) ∨ (tsg t i = 103 ∧ kLm D H q 16 [.int (kI (rdW t i).2.2.1)])))
theorem kOrd.fr {D : kG} {H H1 : Heap} {b0 b1 : Nat} {t : List Int} {i q : Nat} {A : Nat → Prop} (h : kOrd D H b0 b1 t i q) (f : kFr A H H1) (hA : ∀ x, A x → H.size ≤ x ∨ x < b0 ∨ b1 ≤ x) : kOrd D H1 b0 b1 t i q := by
  have hn : ∀ x, b0 ≤ x → x < b1 → x < H.size → ¬ A x := fun x h1 h2 h3 z => by have := hA x z; omega
  rcases h with h | ⟨⟨h1, h2⟩, h⟩
  · exact Or.inl h
  · refine Or.inr ⟨⟨h1, h2⟩, ?_⟩
    rcases h with ⟨e, e2, ar, gs, ⟨a1, a2⟩, a3, a4, a5⟩ | ⟨e, a⟩ | ⟨e, a⟩ | ⟨e, a⟩ | ⟨e, a⟩ | ⟨e, a⟩ | ⟨e, a⟩
    · exact Or.inl ⟨e, e2, ar, gs, ⟨a1, a2⟩, a3.fr f (hn _ h1 h2 a3.lt), a4.fr f (hn _ a1 a2 a4.lt), a5⟩
    · exact Or.inr (Or.inl ⟨e, a.fr f (hn _ h1 h2 a.lt)⟩)
    · exact Or.inr (Or.inr (Or.inl ⟨e, a.fr f (hn _ h1 h2 a.lt)⟩))
    · exact Or.inr (Or.inr (Or.inr (Or.inl ⟨e, a.fr f (hn _ h1 h2 a.lt)⟩)))
    · exact Or.inr (Or.inr (Or.inr (Or.inr (Or.inl ⟨e, a.fr f (hn _ h1 h2 a.lt)⟩))))
    · exact Or.inr (Or.inr (Or.inr (Or.inr (Or.inr (Or.inl ⟨e, a.fr f (hn _ h1 h2 a.lt)⟩)))))
    · exact Or.inr (Or.inr (Or.inr (Or.inr (Or.inr (Or.inr ⟨e, a.fr f (hn _ h1 h2 a.lt)⟩)))))
theorem kOrd.mono {D : kG} {H : Heap} {b0 b1 b2 : Nat} {t : List Int} {i q : Nat} (h : kOrd D H b0 b1 t i q) (hb : b1 ≤ b2) : kOrd D H b0 b2 t i q := by
  rcases h with h | ⟨⟨h1, h2⟩, h⟩
  · exact Or.inl h
  · refine Or.inr ⟨⟨h1, by omega⟩, ?_⟩
    rcases h with ⟨e, e2, ar, gs, ⟨a1, a2⟩, a3⟩ | h
    · exact Or.inl ⟨e, e2, ar, gs, ⟨a1, by omega⟩, a3⟩
    · exact Or.inr h
/-- the first n orders of a text -/
def kOl (D : kG) (H : Heap) (b0 b1 : Nat) (go : Nat → Option Nat) (n : Nat) (t : List Int) : Prop := ∀ k, k < n → ∃ q, go k = some q ∧ kOrd D H b0 b1 t (opos t k) q
theorem kOl.fr {D : kG} {H H1 : Heap} {b0 b1 : Nat} {go : Nat → Option Nat} {n : Nat} {t : List Int} {A : Nat → Prop} (h : kOl D H b0 b1 go n t) (f : kFr A H H1) (hA : ∀ x, A x → H.size ≤ x ∨ x < b0 ∨ b1 ≤ x) : kOl D H1 b0 b1 go n t := fun k hk => by
  obtain ⟨q, h1, h2⟩ := h k hk
  exact ⟨q, h1, h2.fr f hA⟩
theorem kOl.ex {D : kG} {H H1 : Heap} {b0 b1 : Nat} {go : Nat → Option Nat} {n : Nat} {t : List Int} (h : kOl D H b0 b1 go n t) (f : kEx H H1) : kOl D H1 b0 b1 go n t := h.fr (A := fun _ => False) ⟨f.1, fun q hq _ => f.2 q hq⟩ (fun _ z => z.elim)
theorem kOl.mono {D : kG} {H : Heap} {b0 b1 b2 : Nat} {go : Nat → Option Nat} {n : Nat} {t : List Int} (h : kOl D H b0 b1 go n t) (hb : b1 ≤ b2) : kOl D H b0 b2 go n t := fun k hk => by
  obtain ⟨q, h1, h2⟩ := h k hk
  exact ⟨q, h1, h2.mono hb⟩
theorem kOl.add {D : kG} {H : Heap} {b0 b1 : Nat} {go : Nat → Option Nat} {n q : Nat} {t : List Int} (h : kOl D H b0 b1 go n t) (hq : kOrd D H b0 b1 t (opos t n) q) : kOl D H b0 b1 (kupq go n (some q)) (n + 1) t := fun k hk => by
  by_cases e : k = n
  · subst e
    exact ⟨q, kupq_self _ _ _, hq⟩
  · obtain ⟨r, h1, h2⟩ := h k (by omega)
    exact ⟨r, by rw [kupq_ne e]; exact h1, h2⟩
theorem rd_two (t : List Int) (i : Nat) (most want most2 : Int) : rdW.rdTwo t i most want most2 = if tx_numOK t 0 most (i + 1) then (if tsg t (tx_num t most (i + 1)).2 = want then (if tx_numOK t 0 most2 ((tx_num t most (i + 1)).2 + 1) then (true, (tx_num t most2 ((tx_num t most (i + 1)).2 + 1)).2, (tx_num t most (i + 1)).1, (tx_num t most2 ((tx_num t most (i + 1)).2 + 1)).1) else (false, (tx_num t most (i + 1)).2 + 1, (tx_num t most (i + 1)).1, tsg t ((tx_num t most (i + 1)).2 + 1) - 48)) else (false, (tx_num t most (i + 1)).2, (tx_num t most (i + 1)).1, 0)) else (false, i + 1, tsg t (i + 1) - 48, 0) := by rw [rdW.rdTwo]
theorem rd_n {t : List Int} {i : Nat} (h : tsg t i = 110) : rdW t i = rdW.rdTwo t i 99 64 383 := by
  rw [rdW, if_neg (by omega), if_neg (by omega), if_pos h]
theorem rd_l {t : List Int} {i : Nat} (h : tsg t i = 108) : rdW t i = rdW.rdTwo t i 7 46 59 := by
  rw [rdW, if_neg (by omega), if_neg (by omega), if_neg (by omega), if_pos h]
theorem rd_1 {t : List Int} {i : Nat} (h : tsg t i = 119 ∨ tsg t i = 117 ∨ tsg t i = 98) : rdW t i = rdW.rdOne t i 0 7 := by
  rw [rdW, if_neg (by omega), if_neg (by omega), if_neg (by omega), if_neg (by omega), if_pos h]
theorem rd_g {t : List Int} {i : Nat} (h : tsg t i = 103) : rdW t i = rdW.rdOne t i 1 6 := by
  rw [rdW, if_neg (by omega), if_neg (by omega), if_neg (by omega), if_neg (by omega), if_neg (by omega), if_pos h]
theorem rd_s {t : List Int} {i : Nat} (h : tsg t i = 115) : rdW t i = (decide (48 ≤ tsg t (i + 1) ∧ tsg t (i + 1) ≤ 55), i + 1 + tx_cnt t (i + 1) 20, ((i + 1 : Nat) : Int), (tx_cnt t (i + 1) 20 : Int)) := by
  rw [rdW, if_pos h]
theorem rd_a {t : List Int} {i : Nat} (h : tsg t i = 97) : rdW t i = (true, i + 1, ((i + 1 : Nat) : Int), 0) := by
  rw [rdW, if_neg (by omega), if_pos h]
theorem rd_0 {t : List Int} {i : Nat} (h : ¬ tx_let (tsg t i)) : rdW t i = (false, i, (i : Int), 0) := by
  unfold tx_let at h
  rw [rdW, if_neg (by omega), if_neg (by omega), if_neg (by omega), if_neg (by omega), if_neg (by omega), if_neg (by omega)]
set_option maxHeartbeats 4000000 in
set_option maxRecDepth 100000 in
theorem m_sgn (l : Launch) (D : kG) (H : Heap) (rd : Nat) (pl : Nat) (w : Bool) (oa : Nat) (mn : Nat) (x1 : Nat) (st : Nat) (snp : Option Nat) (hi : Nat) (bu : Nat) (vb : Nat) (ml : Bool) (cap : Nat) (g : Nat → Int) (t : List Int) (hO_rd : kO D H rd 8 [.int (kI ((pl : Nat) : Int)), .int (kI (kb (w))), .ref oa, .int (kI ((mn : Nat) : Int)), .ref x1]) (hO_x1 : kO D H x1 0 [.ref st, va_rf (snp), .ref hi, .ref bu]) (hO_bu : kO D H bu 11 [.ref vb, .int (kI (0)), .int (kI (kb (ml))), .int (kI ((t.length : Nat) : Int))]) (hA_vb : kAb D H vb cap g) (hT : MTx g t) (ht60 : t.length ≤ 60) (hcap : t.length ≤ cap) (hc9 : cap ≤ 1000) (hpl : pl ≤ 62) : Met l yX9_sign (ws_ yX9_sign cX9_sign 1 (some .char)) ({ frames := 4, cells := 0, slots := 0, locals := 88 } : Room) (kPre D H [.ref rd]) (kQi (fun (r : Int) H' => H' = H ∧ r = csg t pl) kNO) (0) (0) (kNO) := by
  refine Met.ofW (cc := cX9_sign) (maxL := 1) (ret := (some .char)) (by decide) rfl ?_
  intro p e s m args below meth c s₁ B hml hv
  obtain ⟨rfl, hH, hK⟩ := hv
  subst hH
  have hx := B.exec
  have hb := B.bytes
  have hr := B.returns
  have hts := atoms_spec (ws := ws_ yX9_sign cX9_sign 1 (some .char)) B.pre
  have hts : ∀ w ∈ lw_all, w.before _ s = true := fun w h => hts w (List.mem_cons_of_mem _ h)
  have hown : s.vm.findClass RX9 = some m.cls := findClass_of_methodNamed B.named
  have hlk := B.notSynchronized
  have hS : va_S kNO s.heap s.heap [] := va_S.rf
  have hB : ∀ q, kNO q → kBase D ≤ q := fun _ h => h.elim
  have hl := lv_entry ([.ref rd]) (n := 1) (Nat.le_of_ble_eq_true rfl)
  rw [lg_entry_eq]
  generalize (lg_sl ([.ref rd]) ++ List.replicate (1 - (lg_sl ([.ref rd])).length) Slot.unset).toArray = ls at hl ⊢
  have hl : lv_has ls 1 [(0, .ref rd)] := hl
  have hd9 := hK.dis
  have ne_x1_rd : x1 ≠ rd := kO_ne hd9 hO_x1 hO_rd (by decide) (by decide) (by decide)
  have ne_bu_rd : bu ≠ rd := kO_ne hd9 hO_bu hO_rd (by decide) (by decide) (by decide)
  have ne_rd_vb : rd ≠ vb := kOA_ne hd9 hO_rd hA_vb (by decide) (by decide)
  have hltx1 := hO_x1.lt
  have hltrd := hO_rd.lt
  have hltbu := hO_bu.lt
  have hltvb := hA_vb.lt
  have hcoP := csg_or t pl
  have hcrP := hT.cr pl
  refine lv_aload_n hx hb dX9_sign_0 rfl (lv_at hl 0 rfl) ?_
  refine kx_get (v := .int (kI ((pl : Nat) : Int))) (C := RX9) (T := TX9) (N := 5) hx hb hts in_X9 hown hK hO_rd rfl 0 (by decide) q1541 (fun _ h9 => h9) rfl dX9_sign_1 ?_
  refine lv_aload_n hx hb dX9_sign_4 rfl (lv_at hl 0 rfl) ?_
  refine kx_get (v := .ref x1) (C := RX9) (T := TX9) (N := 5) hx hb hts in_X9 hown hK hO_rd rfl 4 (by decide) q1546 (fun _ h9 => h9) rfl dX9_sign_5 ?_
  refine kx_getN (v := .ref bu) (C := RX1) (T := TX1) (N := 4) hx hb hts in_X1 hown hK hO_x1 rfl 3 (by decide) (hK.w q232 rfl) (fun _ h9 => h9) rfl dX9_sign_8 ?_
  refine kx_ci0 (va_runV (As := []) (rest := [.int (kI ((pl : Nat) : Int))]) ⟨hx, hb, hml, hown, hts⟩ (m_J5_length l D s.heap bu vb ml t.length hO_bu ) (cwV 0 hts (lw_V q1570 q1293 q1294 q86 q1295) rfl rfl rfl (by decide +kernel) ⟨Nat.le_of_ble_eq_true rfl, Nat.le_of_ble_eq_true rfl⟩) (kx_pv hK hS hB (kx_rc hK hO_bu (C := RJ5) (T := TJ5) (N := 4) rfl)) rfl rfl hl.1 rfl (lv_room (Nat.le_of_ble_eq_true rfl)) dX9_sign_11 ⟨by first | exact Nat.le_of_ble_eq_true rfl | omega | (show _ ≤ _; omega) | (dsimp only [headSpec]; omega), by first | exact Nat.le_of_ble_eq_true rfl | omega | (show _ ≤ _; omega) | (dsimp only [headSpec]; omega)⟩) hS (fun z_4 locs_1 hz_3 hS_2 => ?_)
  subst z_4
  refine kx_icmp_ge (x := ((pl : Nat) : Int)) (y := ((t.length : Nat) : Int)) (tgt := 34) hx hb dX9_sign_14 (by decide) (by omega) (by omega) (by omega) (by omega) (fun c_14_5 => ?_) (fun c_14_5 => ?_)
  · -- taken at 14
    refine kx_bipush hx hb (by decide) dX9_sign_34 ?_
    exact kx_cret (z := 32) hx hb hr hlk (by omega) (by omega) (⟨rfl, by unfold csg; first | (rw [if_neg (by omega)]; done) | (rw [if_pos (by omega)]; exact hT.at (by omega))⟩) hS_2 dX9_sign_36
  · -- not taken at 14
    have hgp9 := hT.gr (show pl < t.length by omega)
    refine lv_aload_n hx hb dX9_sign_17 rfl (lv_at hl 0 rfl) ?_
    refine kx_get (v := .ref x1) (C := RX9) (T := TX9) (N := 5) hx hb hts in_X9 hown hK hO_rd rfl 4 (by decide) q1546 (fun _ h9 => h9) rfl dX9_sign_18 ?_
    refine kx_getN (v := .ref bu) (C := RX1) (T := TX1) (N := 4) hx hb hts in_X1 hown hK hO_x1 rfl 3 (by decide) (hK.w q232 rfl) (fun _ h9 => h9) rfl dX9_sign_21 ?_
    refine lv_aload_n hx hb dX9_sign_24 rfl (lv_at hl 0 rfl) ?_
    refine kx_get (v := .int (kI ((pl : Nat) : Int))) (C := RX9) (T := TX9) (N := 5) hx hb hts in_X9 hown hK hO_rd rfl 0 (by decide) q1541 (fun _ h9 => h9) rfl dX9_sign_25 ?_
    refine kx_ci0 (va_runV (As := [.int (kI ((pl : Nat) : Int))]) (rest := []) ⟨hx, hb, hml, hown, hts⟩ (m_J5_charAt l D s.heap bu vb ml t.length cap g pl hO_bu hA_vb hc9 hcap ((fun j hj => hT.gr hj)) ((by omega))) (cwV 1 hts (lw_V q1571 q1572 q1573 q86 q1574) rfl rfl rfl (by decide +kernel) ⟨Nat.le_of_ble_eq_true rfl, Nat.le_of_ble_eq_true rfl⟩) (kx_pv hK hS_2 hB (kx_rc hK hO_bu (C := RJ5) (T := TJ5) (N := 4) rfl)) rfl rfl hl.1 rfl (lv_room (Nat.le_of_ble_eq_true rfl)) dX9_sign_28 ⟨by first | exact Nat.le_of_ble_eq_true rfl | omega | (show _ ≤ _; omega) | (dsimp only [headSpec]; omega), by first | exact Nat.le_of_ble_eq_true rfl | omega | (show _ ≤ _; omega) | (dsimp only [headSpec]; omega)⟩) hS_2 (fun z_9 locs_6 hz_8 hS_7 => ?_)
    subst z_9
    refine lv_goto (tgt := 36) hx hb dX9_sign_31 (by decide) ?_
    exact kx_cret (z := g pl) hx hb hr hlk (by omega) (by omega) (⟨rfl, by unfold csg; first | (rw [if_neg (by omega)]; done) | (rw [if_pos (by omega)]; exact hT.at (by omega))⟩) hS_7 dX9_sign_36

set_option maxHeartbeats 4000000 in
set_option maxRecDepth 100000 in
theorem m_dig_y (l : Launch) (D : kG) (H : Heap) (rd : Nat) (pl : Nat) (oa : Nat) (mn : Nat) (x1 : Nat) (st : Nat) (snp : Option Nat) (hi : Nat) (bu : Nat) (vb : Nat) (ml : Bool) (cap : Nat) (g : Nat → Int) (t : List Int) (lo : Int) (hi9 : Int) (hO_rd : kO D H rd 8 [.int (kI ((pl : Nat) : Int)), .int (kI (kb (false))), .ref oa, .int (kI ((mn : Nat) : Int)), .ref x1]) (hO_x1 : kO D H x1 0 [.ref st, va_rf (snp), .ref hi, .ref bu]) (hO_bu : kO D H bu 11 [.ref vb, .int (kI (0)), .int (kI (kb (ml))), .int (kI ((t.length : Nat) : Int))]) (hA_vb : kAb D H vb cap g) (hT : MTx g t) (ht60 : t.length ≤ 60) (hcap : t.length ≤ cap) (hc9 : cap ≤ 1000) (hpl : pl ≤ 62) (hlo : 0 ≤ lo ∧ lo ≤ 9) (hhi : 0 ≤ hi9 ∧ hi9 ≤ 9) (bs_rd : kBase D ≤ rd) (hdg : lo ≤ csg t pl - 48 ∧ csg t pl - 48 ≤ hi9) : Met l yX9_digit (ws_ yX9_digit cX9_digit 4 (some .int)) ({ frames := 5, cells := 0, slots := 0, locals := 108 } : Room) (kPre D H [.ref rd, .int (kI (lo)), .int (kI (hi9))]) (kQi (fun (r : Int) H' => (r = (csg t pl - 48)) ∧ (kO D H' rd 8 [.int (kI ((pl + 1 : Nat) : Int)), .int (kI (kb (false))), .ref oa, .int (kI ((mn : Nat) : Int)), .ref x1])) (fun q : Nat => q = rd)) (0) (0) ((fun q : Nat => q = rd)) := by
  refine Met.ofW (cc := cX9_digit) (maxL := 4) (ret := (some .int)) (by decide) rfl ?_
  intro p e s m args below meth c s₁ B hml hv
  obtain ⟨rfl, hH, hK⟩ := hv
  subst hH
  have hx := B.exec
  have hb := B.bytes
  have hr := B.returns
  have hts := atoms_spec (ws := ws_ yX9_digit cX9_digit 4 (some .int)) B.pre
  have hts : ∀ w ∈ lw_all, w.before _ s = true := fun w h => hts w (List.mem_cons_of_mem _ h)
  have hown : s.vm.findClass RX9 = some m.cls := findClass_of_methodNamed B.named
  have hlk := B.notSynchronized
  have hS : va_S (fun q : Nat => q = rd) s.heap s.heap [] := va_S.rf
  have hB : ∀ q, (fun q : Nat => q = rd) q → kBase D ≤ q := fun q h => by (try dsimp only at h); (try simp only [kNW] at h); have hks := hK.size; omega
  have hl := lv_entry ([.ref rd, .int (kI (lo)), .int (kI (hi9))]) (n := 4) (Nat.le_of_ble_eq_true rfl)
  rw [lg_entry_eq]
  generalize (lg_sl ([.ref rd, .int (kI (lo)), .int (kI (hi9))]) ++ List.replicate (4 - (lg_sl ([.ref rd, .int (kI (lo)), .int (kI (hi9))])).length) Slot.unset).toArray = ls at hl ⊢
  have hl : lv_has ls 4 [(0, .ref rd), (1, .int (kI (lo))), (2, .int (kI (hi9)))] := hl
  have hd9 := hK.dis
  have ne_x1_rd : x1 ≠ rd := kO_ne hd9 hO_x1 hO_rd (by decide) (by decide) (by decide)
  have ne_bu_rd : bu ≠ rd := kO_ne hd9 hO_bu hO_rd (by decide) (by decide) (by decide)
  have ne_rd_vb : rd ≠ vb := kOA_ne hd9 hO_rd hA_vb (by decide) (by decide)
  have hltx1 := hO_x1.lt
  have hltrd := hO_rd.lt
  have hltbu := hO_bu.lt
  have hltvb := hA_vb.lt
  have hcoP := csg_or t pl
  have hcrP := hT.cr pl
  refine lv_aload_n hx hb dX9_digit_0 rfl (lv_at hl 0 rfl) ?_
  refine kx_ci0 (va_runV (As := []) (rest := []) ⟨hx, hb, hml, hown, hts⟩ (m_sgn l D s.heap rd pl false oa mn x1 st snp hi bu vb ml cap g t hO_rd hO_x1 hO_bu hA_vb (by first | assumption | omega) (by first | assumption | omega) (by first | assumption | omega) (by first | assumption | omega) (by first | assumption | omega)) (cwV 0 hts (lw_V q1566 q1568 qs20 q125 q1569) rfl rfl rfl (by decide +kernel) ⟨Nat.le_of_ble_eq_true rfl, Nat.le_of_ble_eq_true rfl⟩) (kx_pv hK hS hB (kx_rc hK hO_rd (C := RX9) (T := TX9) (N := 5) rfl)) rfl rfl hl.1 rfl (lv_room (Nat.le_of_ble_eq_true rfl)) dX9_digit_1 ⟨by first | exact Nat.le_of_ble_eq_true rfl | omega | (show _ ≤ _; omega) | (dsimp only [headSpec]; omega), by first | exact Nat.le_of_ble_eq_true rfl | omega | (show _ ≤ _; omega) | (dsimp only [headSpec]; omega)⟩) hS (fun z_4 locs_1 hz_3 hS_2 => ?_)
  subst z_4
  refine kx_bipush hx hb (by decide) dX9_digit_4 ?_
  refine kx_isub hx hb dX9_digit_6 ?_
  refine lv_istore_n (lv' := [(3, .int (kI ((csg t pl - 48)))), (0, .ref rd), (1, .int (kI (lo))), (2, .int (kI (hi9)))]) hx hb dX9_digit_7 rfl hl (by decide) rfl (fun ls hl => ?_)
  refine lv_aload_n hx hb dX9_digit_8 rfl (lv_at hl 1 rfl) ?_
  refine lv_dup hx hb dX9_digit_9 rfl ?_
  refine kx_get (v := .int (kI (kb (false)))) (C := RX9) (T := TX9) (N := 5) hx hb hts in_X9 hown hK hO_rd rfl 1 (by decide) q1543 (fun _ h9 => h9) rfl dX9_digit_10 ?_
  refine lv_iload_n hx hb dX9_digit_13 rfl (lv_at hl 0 rfl) ?_
  refine lv_iload_n hx hb dX9_digit_14 rfl (lv_at hl 2 rfl) ?_
  refine kx_icmp_lt (x := (csg t pl - 48)) (y := lo) (tgt := 23) hx hb dX9_digit_15 (by decide) (by omega) (by omega) (by omega) (by omega) (fun c_15_5 => ?_) (fun c_15_5 => ?_)
  · -- taken at 15
    exfalso; omega
  · -- not taken at 15
    refine lv_iload_n hx hb dX9_digit_18 rfl (lv_at hl 0 rfl) ?_
    refine lv_iload_n hx hb dX9_digit_19 rfl (lv_at hl 3 rfl) ?_
    refine kx_icmp_le (x := (csg t pl - 48)) (y := hi9) (tgt := 27) hx hb dX9_digit_20 (by decide) (by omega) (by omega) (by omega) (by omega) (fun c_20_6 => ?_) (fun c_20_6 => ?_)
    · -- taken at 20
      refine kx_iconst hx hb dX9_digit_27 ?_
      refine kx_iorb (x := false) (y := false) hx hb dX9_digit_28 ?_
      refine kx_eqbb (false) (rfl) ?_
      refine kx_put (v := .int (kI (kb (false)))) (C := RX9) (T := TX9) (N := 5) hx hb hts in_X9 hown hK hO_rd rfl 1 (by decide) tyX9 tyX9_ok nmX9 hS_2 (by first | rfl | exact Or.inl rfl | exact Or.inr rfl | exact Or.inr (Or.inl rfl) | exact Or.inr (Or.inr rfl) | exact Or.inr (Or.inr (Or.inl rfl)) | exact Or.inr (Or.inr (Or.inr rfl)) | ((try dsimp only); (try simp only [kNW]); omega)) q1543 (fun _ h9 => h9) rfl rfl (kb_narZ _) (kb_fitZ _) (Nat.le_of_ble_eq_true rfl) dX9_digit_29 (fun H_9 locs_10 hO_8 hU_7 hS_11 => ?_)
      have hO_8 : kO D H_9 rd 8 [.int (kI ((pl : Nat) : Int)), .int (kI (kb (false))), .ref oa, .int (kI ((mn : Nat) : Int)), .ref x1] := hO_8
      have hzu_12 := hU_7.1
      refine lv_aload_n hx hb dX9_digit_32 rfl (lv_at hl 1 rfl) ?_
      refine lv_dup hx hb dX9_digit_33 rfl ?_
      refine kx_get (v := .int (kI ((pl : Nat) : Int))) (C := RX9) (T := TX9) (N := 5) hx hb hts in_X9 hown hK hO_8 rfl 0 (by decide) q1541 (fun _ h9 => h9) rfl dX9_digit_34 ?_
      refine lv_aload_n hx hb dX9_digit_37 rfl (lv_at hl 1 rfl) ?_
      refine kx_get (v := .int (kI (kb (false)))) (C := RX9) (T := TX9) (N := 5) hx hb hts in_X9 hown hK hO_8 rfl 1 (by decide) q1543 (fun _ h9 => h9) rfl dX9_digit_38 ?_
      refine kx_ifz (tgt := 48) hx hb dX9_digit_41 (by decide) (fun c_41_13 => ?_) (fun c_41_13 => ?_)
      · -- taken at 41
        refine kx_iconst hx hb dX9_digit_48 ?_
        refine kx_iadd hx hb dX9_digit_49 ?_
        refine kx_eqi (((pl + 1 : Nat) : Int)) (by omega) ?_
        refine kx_put (v := .int (kI ((pl + 1 : Nat) : Int))) (C := RX9) (T := TX9) (N := 5) hx hb hts in_X9 hown hK hO_8 rfl 0 (by decide) tyX9 tyX9_ok nmX9 hS_11 (by first | rfl | exact Or.inl rfl | exact Or.inr rfl | exact Or.inr (Or.inl rfl) | exact Or.inr (Or.inr rfl) | exact Or.inr (Or.inr (Or.inl rfl)) | exact Or.inr (Or.inr (Or.inr rfl)) | ((try dsimp only); (try simp only [kNW]); omega)) q1541 (fun _ h9 => h9) rfl rfl rfl rfl (Nat.le_of_ble_eq_true rfl) dX9_digit_50 (fun H_16 locs_17 hO_15 hU_14 hS_18 => ?_)
        have hO_15 : kO D H_16 rd 8 [.int (kI ((pl + 1 : Nat) : Int)), .int (kI (kb (false))), .ref oa, .int (kI ((mn : Nat) : Int)), .ref x1] := hO_15
        have hzu_19 := hU_14.1
        refine lv_iload_n hx hb dX9_digit_53 rfl (lv_at hl 0 rfl) ?_
        exact kx_iret (z := (csg t pl - 48)) hx hb hr hlk (⟨by rfl, hO_15⟩) hS_18 dX9_digit_54
      · -- not taken at 41
        first | exact absurd c_41_13 (by decide) | exact Bool.noConfusion c_41_13 | (simp at c_41_13; done)
    · -- not taken at 20
      exfalso; omega

set_option maxHeartbeats 4000000 in
set_option maxRecDepth 100000 in
theorem m_dig_n (l : Launch) (D : kG) (H : Heap) (rd : Nat) (pl : Nat) (w : Bool) (oa : Nat) (mn : Nat) (x1 : Nat) (st : Nat) (snp : Option Nat) (hi : Nat) (bu : Nat) (vb : Nat) (ml : Bool) (cap : Nat) (g : Nat → Int) (t : List Int) (lo : Int) (hi9 : Int) (hO_rd : kO D H rd 8 [.int (kI ((pl : Nat) : Int)), .int (kI (kb (w))), .ref oa, .int (kI ((mn : Nat) : Int)), .ref x1]) (hO_x1 : kO D H x1 0 [.ref st, va_rf (snp), .ref hi, .ref bu]) (hO_bu : kO D H bu 11 [.ref vb, .int (kI (0)), .int (kI (kb (ml))), .int (kI ((t.length : Nat) : Int))]) (hA_vb : kAb D H vb cap g) (hT : MTx g t) (ht60 : t.length ≤ 60) (hcap : t.length ≤ cap) (hc9 : cap ≤ 1000) (hpl : pl ≤ 62) (hlo : 0 ≤ lo ∧ lo ≤ 9) (hhi : 0 ≤ hi9 ∧ hi9 ≤ 9) (bs_rd : kBase D ≤ rd) (hno : w = true ∨ ¬ (lo ≤ csg t pl - 48 ∧ csg t pl - 48 ≤ hi9)) : Met l yX9_digit (ws_ yX9_digit cX9_digit 4 (some .int)) ({ frames := 5, cells := 0, slots := 0, locals := 108 } : Room) (kPre D H [.ref rd, .int (kI (lo)), .int (kI (hi9))]) (kQi (fun (r : Int) H' => (r = (csg t pl - 48)) ∧ (kO D H' rd 8 [.int (kI ((pl : Nat) : Int)), .int (kI (kb (true))), .ref oa, .int (kI ((mn : Nat) : Int)), .ref x1])) (fun q : Nat => q = rd)) (0) (0) ((fun q : Nat => q = rd)) := by
  refine Met.ofW (cc := cX9_digit) (maxL := 4) (ret := (some .int)) (by decide) rfl ?_
  intro p e s m args below meth c s₁ B hml hv
  obtain ⟨rfl, hH, hK⟩ := hv
  subst hH
  have hx := B.exec
  have hb := B.bytes
  have hr := B.returns
  have hts := atoms_spec (ws := ws_ yX9_digit cX9_digit 4 (some .int)) B.pre
  have hts : ∀ w ∈ lw_all, w.before _ s = true := fun w h => hts w (List.mem_cons_of_mem _ h)
  have hown : s.vm.findClass RX9 = some m.cls := findClass_of_methodNamed B.named
  have hlk := B.notSynchronized
  have hS : va_S (fun q : Nat => q = rd) s.heap s.heap [] := va_S.rf
  have hB : ∀ q, (fun q : Nat => q = rd) q → kBase D ≤ q := fun q h => by (try dsimp only at h); (try simp only [kNW] at h); have hks := hK.size; omega
  have hl := lv_entry ([.ref rd, .int (kI (lo)), .int (kI (hi9))]) (n := 4) (Nat.le_of_ble_eq_true rfl)
  rw [lg_entry_eq]
  generalize (lg_sl ([.ref rd, .int (kI (lo)), .int (kI (hi9))]) ++ List.replicate (4 - (lg_sl ([.ref rd, .int (kI (lo)), .int (kI (hi9))])).length) Slot.unset).toArray = ls at hl ⊢
  have hl : lv_has ls 4 [(0, .ref rd), (1, .int (kI (lo))), (2, .int (kI (hi9)))] := hl
  have hd9 := hK.dis
  have ne_x1_rd : x1 ≠ rd := kO_ne hd9 hO_x1 hO_rd (by decide) (by decide) (by decide)
  have ne_bu_rd : bu ≠ rd := kO_ne hd9 hO_bu hO_rd (by decide) (by decide) (by decide)
  have ne_rd_vb : rd ≠ vb := kOA_ne hd9 hO_rd hA_vb (by decide) (by decide)
  have hltx1 := hO_x1.lt
  have hltrd := hO_rd.lt
  have hltbu := hO_bu.lt
  have hltvb := hA_vb.lt
  have hcoP := csg_or t pl
  have hcrP := hT.cr pl
  refine lv_aload_n hx hb dX9_digit_0 rfl (lv_at hl 0 rfl) ?_
  refine kx_ci0 (va_runV (As := []) (rest := []) ⟨hx, hb, hml, hown, hts⟩ (m_sgn l D s.heap rd pl w oa mn x1 st snp hi bu vb ml cap g t hO_rd hO_x1 hO_bu hA_vb (by first | assumption | omega) (by first | assumption | omega) (by first | assumption | omega) (by first | assumption | omega) (by first | assumption | omega)) (cwV 0 hts (lw_V q1566 q1568 qs20 q125 q1569) rfl rfl rfl (by decide +kernel) ⟨Nat.le_of_ble_eq_true rfl, Nat.le_of_ble_eq_true rfl⟩) (kx_pv hK hS hB (kx_rc hK hO_rd (C := RX9) (T := TX9) (N := 5) rfl)) rfl rfl hl.1 rfl (lv_room (Nat.le_of_ble_eq_true rfl)) dX9_digit_1 ⟨by first | exact Nat.le_of_ble_eq_true rfl | omega | (show _ ≤ _; omega) | (dsimp only [headSpec]; omega), by first | exact Nat.le_of_ble_eq_true rfl | omega | (show _ ≤ _; omega) | (dsimp only [headSpec]; omega)⟩) hS (fun z_4 locs_1 hz_3 hS_2 => ?_)
  subst z_4
  refine kx_bipush hx hb (by decide) dX9_digit_4 ?_
  refine kx_isub hx hb dX9_digit_6 ?_
  refine lv_istore_n (lv' := [(3, .int (kI ((csg t pl - 48)))), (0, .ref rd), (1, .int (kI (lo))), (2, .int (kI (hi9)))]) hx hb dX9_digit_7 rfl hl (by decide) rfl (fun ls hl => ?_)
  refine lv_aload_n hx hb dX9_digit_8 rfl (lv_at hl 1 rfl) ?_
  refine lv_dup hx hb dX9_digit_9 rfl ?_
  refine kx_get (v := .int (kI (kb (w)))) (C := RX9) (T := TX9) (N := 5) hx hb hts in_X9 hown hK hO_rd rfl 1 (by decide) q1543 (fun _ h9 => h9) rfl dX9_digit_10 ?_
  refine lv_iload_n hx hb dX9_digit_13 rfl (lv_at hl 0 rfl) ?_
  refine lv_iload_n hx hb dX9_digit_14 rfl (lv_at hl 2 rfl) ?_
  refine kx_icmp_lt (x := (csg t pl - 48)) (y := lo) (tgt := 23) hx hb dX9_digit_15 (by decide) (by omega) (by omega) (by omega) (by omega) (fun c_15_5 => ?_) (fun c_15_5 => ?_)
  · -- taken at 15
    refine kx_iconst hx hb dX9_digit_23 ?_
    refine lv_goto (tgt := 28) hx hb dX9_digit_24 (by decide) ?_
    refine kx_iorb (x := w) (y := true) hx hb dX9_digit_28 ?_
    refine kx_eqbb (true) (by first | exact Bool.or_true w | (rcases hno with z | z; (rw [z]; rfl); (exfalso; omega))) ?_
    refine kx_put (v := .int (kI (kb (true)))) (C := RX9) (T := TX9) (N := 5) hx hb hts in_X9 hown hK hO_rd rfl 1 (by decide) tyX9 tyX9_ok nmX9 hS_2 (by first | rfl | exact Or.inl rfl | exact Or.inr rfl | exact Or.inr (Or.inl rfl) | exact Or.inr (Or.inr rfl) | exact Or.inr (Or.inr (Or.inl rfl)) | exact Or.inr (Or.inr (Or.inr rfl)) | ((try dsimp only); (try simp only [kNW]); omega)) q1543 (fun _ h9 => h9) rfl rfl (kb_narZ _) (kb_fitZ _) (Nat.le_of_ble_eq_true rfl) dX9_digit_29 (fun H_8 locs_9 hO_7 hU_6 hS_10 => ?_)
    have hO_7 : kO D H_8 rd 8 [.int (kI ((pl : Nat) : Int)), .int (kI (kb (true))), .ref oa, .int (kI ((mn : Nat) : Int)), .ref x1] := hO_7
    have hzu_11 := hU_6.1
    refine lv_aload_n hx hb dX9_digit_32 rfl (lv_at hl 1 rfl) ?_
    refine lv_dup hx hb dX9_digit_33 rfl ?_
    refine kx_get (v := .int (kI ((pl : Nat) : Int))) (C := RX9) (T := TX9) (N := 5) hx hb hts in_X9 hown hK hO_7 rfl 0 (by decide) q1541 (fun _ h9 => h9) rfl dX9_digit_34 ?_
    refine lv_aload_n hx hb dX9_digit_37 rfl (lv_at hl 1 rfl) ?_
    refine kx_get (v := .int (kI (kb (true)))) (C := RX9) (T := TX9) (N := 5) hx hb hts in_X9 hown hK hO_7 rfl 1 (by decide) q1543 (fun _ h9 => h9) rfl dX9_digit_38 ?_
    refine kx_ifz (tgt := 48) hx hb dX9_digit_41 (by decide) (fun c_41_12 => ?_) (fun c_41_12 => ?_)
    · -- taken at 41
      first | exact absurd c_41_12 (by decide) | exact Bool.noConfusion c_41_12 | (simp at c_41_12; done)
    · -- not taken at 41
      refine kx_iconst hx hb dX9_digit_44 ?_
      refine lv_goto (tgt := 49) hx hb dX9_digit_45 (by decide) ?_
      refine kx_iadd hx hb dX9_digit_49 ?_
      refine kx_eqi (((pl : Nat) : Int)) (by omega) ?_
      refine kx_put (v := .int (kI ((pl : Nat) : Int))) (C := RX9) (T := TX9) (N := 5) hx hb hts in_X9 hown hK hO_7 rfl 0 (by decide) tyX9 tyX9_ok nmX9 hS_10 (by first | rfl | exact Or.inl rfl | exact Or.inr rfl | exact Or.inr (Or.inl rfl) | exact Or.inr (Or.inr rfl) | exact Or.inr (Or.inr (Or.inl rfl)) | exact Or.inr (Or.inr (Or.inr rfl)) | ((try dsimp only); (try simp only [kNW]); omega)) q1541 (fun _ h9 => h9) rfl rfl rfl rfl (Nat.le_of_ble_eq_true rfl) dX9_digit_50 (fun H_15 locs_16 hO_14 hU_13 hS_17 => ?_)
      have hO_14 : kO D H_15 rd 8 [.int (kI ((pl : Nat) : Int)), .int (kI (kb (true))), .ref oa, .int (kI ((mn : Nat) : Int)), .ref x1] := hO_14
      have hzu_18 := hU_13.1
      refine lv_iload_n hx hb dX9_digit_53 rfl (lv_at hl 0 rfl) ?_
      exact kx_iret (z := (csg t pl - 48)) hx hb hr hlk (⟨by rfl, hO_14⟩) hS_17 dX9_digit_54
  · -- not taken at 15
    refine lv_iload_n hx hb dX9_digit_18 rfl (lv_at hl 0 rfl) ?_
    refine lv_iload_n hx hb dX9_digit_19 rfl (lv_at hl 3 rfl) ?_
    refine kx_icmp_le (x := (csg t pl - 48)) (y := hi9) (tgt := 27) hx hb dX9_digit_20 (by decide) (by omega) (by omega) (by omega) (by omega) (fun c_20_19 => ?_) (fun c_20_19 => ?_)
    · -- taken at 20
      refine kx_iconst hx hb dX9_digit_27 ?_
      refine kx_iorb (x := w) (y := false) hx hb dX9_digit_28 ?_
      refine kx_eqbb (true) (by first | exact Bool.or_true w | (rcases hno with z | z; (rw [z]; rfl); (exfalso; omega))) ?_
      refine kx_put (v := .int (kI (kb (true)))) (C := RX9) (T := TX9) (N := 5) hx hb hts in_X9 hown hK hO_rd rfl 1 (by decide) tyX9 tyX9_ok nmX9 hS_2 (by first | rfl | exact Or.inl rfl | exact Or.inr rfl | exact Or.inr (Or.inl rfl) | exact Or.inr (Or.inr rfl) | exact Or.inr (Or.inr (Or.inl rfl)) | exact Or.inr (Or.inr (Or.inr rfl)) | ((try dsimp only); (try simp only [kNW]); omega)) q1543 (fun _ h9 => h9) rfl rfl (kb_narZ _) (kb_fitZ _) (Nat.le_of_ble_eq_true rfl) dX9_digit_29 (fun H_22 locs_23 hO_21 hU_20 hS_24 => ?_)
      have hO_21 : kO D H_22 rd 8 [.int (kI ((pl : Nat) : Int)), .int (kI (kb (true))), .ref oa, .int (kI ((mn : Nat) : Int)), .ref x1] := hO_21
      have hzu_25 := hU_20.1
      refine lv_aload_n hx hb dX9_digit_32 rfl (lv_at hl 1 rfl) ?_
      refine lv_dup hx hb dX9_digit_33 rfl ?_
      refine kx_get (v := .int (kI ((pl : Nat) : Int))) (C := RX9) (T := TX9) (N := 5) hx hb hts in_X9 hown hK hO_21 rfl 0 (by decide) q1541 (fun _ h9 => h9) rfl dX9_digit_34 ?_
      refine lv_aload_n hx hb dX9_digit_37 rfl (lv_at hl 1 rfl) ?_
      refine kx_get (v := .int (kI (kb (true)))) (C := RX9) (T := TX9) (N := 5) hx hb hts in_X9 hown hK hO_21 rfl 1 (by decide) q1543 (fun _ h9 => h9) rfl dX9_digit_38 ?_
      refine kx_ifz (tgt := 48) hx hb dX9_digit_41 (by decide) (fun c_41_26 => ?_) (fun c_41_26 => ?_)
      · -- taken at 41
        first | exact absurd c_41_26 (by decide) | exact Bool.noConfusion c_41_26 | (simp at c_41_26; done)
      · -- not taken at 41
        refine kx_iconst hx hb dX9_digit_44 ?_
        refine lv_goto (tgt := 49) hx hb dX9_digit_45 (by decide) ?_
        refine kx_iadd hx hb dX9_digit_49 ?_
        refine kx_eqi (((pl : Nat) : Int)) (by omega) ?_
        refine kx_put (v := .int (kI ((pl : Nat) : Int))) (C := RX9) (T := TX9) (N := 5) hx hb hts in_X9 hown hK hO_21 rfl 0 (by decide) tyX9 tyX9_ok nmX9 hS_24 (by first | rfl | exact Or.inl rfl | exact Or.inr rfl | exact Or.inr (Or.inl rfl) | exact Or.inr (Or.inr rfl) | exact Or.inr (Or.inr (Or.inl rfl)) | exact Or.inr (Or.inr (Or.inr rfl)) | ((try dsimp only); (try simp only [kNW]); omega)) q1541 (fun _ h9 => h9) rfl rfl rfl rfl (Nat.le_of_ble_eq_true rfl) dX9_digit_50 (fun H_29 locs_30 hO_28 hU_27 hS_31 => ?_)
        have hO_28 : kO D H_29 rd 8 [.int (kI ((pl : Nat) : Int)), .int (kI (kb (true))), .ref oa, .int (kI ((mn : Nat) : Int)), .ref x1] := hO_28
        have hzu_32 := hU_27.1
        refine lv_iload_n hx hb dX9_digit_53 rfl (lv_at hl 0 rfl) ?_
        exact kx_iret (z := (csg t pl - 48)) hx hb hr hlk (⟨by rfl, hO_28⟩) hS_31 dX9_digit_54
    · -- not taken at 20
      refine kx_iconst hx hb dX9_digit_23 ?_
      refine lv_goto (tgt := 28) hx hb dX9_digit_24 (by decide) ?_
      refine kx_iorb (x := w) (y := true) hx hb dX9_digit_28 ?_
      refine kx_eqbb (true) (by first | exact Bool.or_true w | (rcases hno with z | z; (rw [z]; rfl); (exfalso; omega))) ?_
      refine kx_put (v := .int (kI (kb (true)))) (C := RX9) (T := TX9) (N := 5) hx hb hts in_X9 hown hK hO_rd rfl 1 (by decide) tyX9 tyX9_ok nmX9 hS_2 (by first | rfl | exact Or.inl rfl | exact Or.inr rfl | exact Or.inr (Or.inl rfl) | exact Or.inr (Or.inr rfl) | exact Or.inr (Or.inr (Or.inl rfl)) | exact Or.inr (Or.inr (Or.inr rfl)) | ((try dsimp only); (try simp only [kNW]); omega)) q1543 (fun _ h9 => h9) rfl rfl (kb_narZ _) (kb_fitZ _) (Nat.le_of_ble_eq_true rfl) dX9_digit_29 (fun H_35 locs_36 hO_34 hU_33 hS_37 => ?_)
      have hO_34 : kO D H_35 rd 8 [.int (kI ((pl : Nat) : Int)), .int (kI (kb (true))), .ref oa, .int (kI ((mn : Nat) : Int)), .ref x1] := hO_34
      have hzu_38 := hU_33.1
      refine lv_aload_n hx hb dX9_digit_32 rfl (lv_at hl 1 rfl) ?_
      refine lv_dup hx hb dX9_digit_33 rfl ?_
      refine kx_get (v := .int (kI ((pl : Nat) : Int))) (C := RX9) (T := TX9) (N := 5) hx hb hts in_X9 hown hK hO_34 rfl 0 (by decide) q1541 (fun _ h9 => h9) rfl dX9_digit_34 ?_
      refine lv_aload_n hx hb dX9_digit_37 rfl (lv_at hl 1 rfl) ?_
      refine kx_get (v := .int (kI (kb (true)))) (C := RX9) (T := TX9) (N := 5) hx hb hts in_X9 hown hK hO_34 rfl 1 (by decide) q1543 (fun _ h9 => h9) rfl dX9_digit_38 ?_
      refine kx_ifz (tgt := 48) hx hb dX9_digit_41 (by decide) (fun c_41_39 => ?_) (fun c_41_39 => ?_)
      · -- taken at 41
        first | exact absurd c_41_39 (by decide) | exact Bool.noConfusion c_41_39 | (simp at c_41_39; done)
      · -- not taken at 41
        refine kx_iconst hx hb dX9_digit_44 ?_
        refine lv_goto (tgt := 49) hx hb dX9_digit_45 (by decide) ?_
        refine kx_iadd hx hb dX9_digit_49 ?_
        refine kx_eqi (((pl : Nat) : Int)) (by omega) ?_
        refine kx_put (v := .int (kI ((pl : Nat) : Int))) (C := RX9) (T := TX9) (N := 5) hx hb hts in_X9 hown hK hO_34 rfl 0 (by decide) tyX9 tyX9_ok nmX9 hS_37 (by first | rfl | exact Or.inl rfl | exact Or.inr rfl | exact Or.inr (Or.inl rfl) | exact Or.inr (Or.inr rfl) | exact Or.inr (Or.inr (Or.inl rfl)) | exact Or.inr (Or.inr (Or.inr rfl)) | ((try dsimp only); (try simp only [kNW]); omega)) q1541 (fun _ h9 => h9) rfl rfl rfl rfl (Nat.le_of_ble_eq_true rfl) dX9_digit_50 (fun H_42 locs_43 hO_41 hU_40 hS_44 => ?_)
        have hO_41 : kO D H_42 rd 8 [.int (kI ((pl : Nat) : Int)), .int (kI (kb (true))), .ref oa, .int (kI ((mn : Nat) : Int)), .ref x1] := hO_41
        have hzu_45 := hU_40.1
        refine lv_iload_n hx hb dX9_digit_53 rfl (lv_at hl 0 rfl) ?_
        exact kx_iret (z := (csg t pl - 48)) hx hb hr hlk (⟨by rfl, hO_41⟩) hS_44 dX9_digit_54

set_option maxHeartbeats 4000000 in
set_option maxRecDepth 100000 in
theorem m_ned_y (l : Launch) (D : kG) (H : Heap) (rd : Nat) (pl : Nat) (oa : Nat) (mn : Nat) (x1 : Nat) (st : Nat) (snp : Option Nat) (hi : Nat) (bu : Nat) (vb : Nat) (ml : Bool) (cap : Nat) (g : Nat → Int) (t : List Int) (c9 : Int) (hO_rd : kO D H rd 8 [.int (kI ((pl : Nat) : Int)), .int (kI (kb (false))), .ref oa, .int (kI ((mn : Nat) : Int)), .ref x1]) (hO_x1 : kO D H x1 0 [.ref st, va_rf (snp), .ref hi, .ref bu]) (hO_bu : kO D H bu 11 [.ref vb, .int (kI (0)), .int (kI (kb (ml))), .int (kI ((t.length : Nat) : Int))]) (hA_vb : kAb D H vb cap g) (hT : MTx g t) (ht60 : t.length ≤ 60) (hcap : t.length ≤ cap) (hc9 : cap ≤ 1000) (hpl : pl ≤ 62) (hc99 : 0 ≤ c9 ∧ c9 ≤ 127) (bs_rd : kBase D ≤ rd) (hcs : csg t pl = c9) : Met l yX9_sign_2 (ws_ yX9_sign_2 cX9_sign_2 2 none) ({ frames := 5, cells := 0, slots := 0, locals := 108 } : Room) (kPre D H [.ref rd, .int (kI (c9))]) (kQv (fun H' => (kO D H' rd 8 [.int (kI ((pl + 1 : Nat) : Int)), .int (kI (kb (false))), .ref oa, .int (kI ((mn : Nat) : Int)), .ref x1])) (fun q : Nat => q = rd)) (0) (0) ((fun q : Nat => q = rd)) := by
  refine Met.ofW (cc := cX9_sign_2) (maxL := 2) (ret := none) (by decide) rfl ?_
  intro p e s m args below meth c s₁ B hml hv
  obtain ⟨rfl, hH, hK⟩ := hv
  subst hH
  have hx := B.exec
  have hb := B.bytes
  have hr := B.returns
  have hts := atoms_spec (ws := ws_ yX9_sign_2 cX9_sign_2 2 none) B.pre
  have hts : ∀ w ∈ lw_all, w.before _ s = true := fun w h => hts w (List.mem_cons_of_mem _ h)
  have hown : s.vm.findClass RX9 = some m.cls := findClass_of_methodNamed B.named
  have hlk := B.notSynchronized
  have hS : va_S (fun q : Nat => q = rd) s.heap s.heap [] := va_S.rf
  have hB : ∀ q, (fun q : Nat => q = rd) q → kBase D ≤ q := fun q h => by (try dsimp only at h); (try simp only [kNW] at h); have hks := hK.size; omega
  have hl := lv_entry ([.ref rd, .int (kI (c9))]) (n := 2) (Nat.le_of_ble_eq_true rfl)
  rw [lg_entry_eq]
  generalize (lg_sl ([.ref rd, .int (kI (c9))]) ++ List.replicate (2 - (lg_sl ([.ref rd, .int (kI (c9))])).length) Slot.unset).toArray = ls at hl ⊢
  have hl : lv_has ls 2 [(0, .ref rd), (1, .int (kI (c9)))] := hl
  have hd9 := hK.dis
  have ne_x1_rd : x1 ≠ rd := kO_ne hd9 hO_x1 hO_rd (by decide) (by decide) (by decide)
  have ne_bu_rd : bu ≠ rd := kO_ne hd9 hO_bu hO_rd (by decide) (by decide) (by decide)
  have ne_rd_vb : rd ≠ vb := kOA_ne hd9 hO_rd hA_vb (by decide) (by decide)
  have hltx1 := hO_x1.lt
  have hltrd := hO_rd.lt
  have hltbu := hO_bu.lt
  have hltvb := hA_vb.lt
  have hcoP := csg_or t pl
  have hcrP := hT.cr pl
  refine lv_aload_n hx hb dX9_sign_2_0 rfl (lv_at hl 0 rfl) ?_
  refine lv_dup hx hb dX9_sign_2_1 rfl ?_
  refine kx_get (v := .int (kI (kb (false)))) (C := RX9) (T := TX9) (N := 5) hx hb hts in_X9 hown hK hO_rd rfl 1 (by decide) q1543 (fun _ h9 => h9) rfl dX9_sign_2_2 ?_
  refine lv_aload_n hx hb dX9_sign_2_5 rfl (lv_at hl 0 rfl) ?_
  refine kx_ci0 (va_runV (As := []) (rest := [.int (kI (kb (false))), .ref rd]) ⟨hx, hb, hml, hown, hts⟩ (m_sgn l D s.heap rd pl false oa mn x1 st snp hi bu vb ml cap g t hO_rd hO_x1 hO_bu hA_vb (by first | assumption | omega) (by first | assumption | omega) (by first | assumption | omega) (by first | assumption | omega) (by first | assumption | omega)) (cwV 0 hts (lw_V q1566 q1568 qs20 q125 q1569) rfl rfl rfl (by decide +kernel) ⟨Nat.le_of_ble_eq_true rfl, Nat.le_of_ble_eq_true rfl⟩) (kx_pv hK hS hB (kx_rc hK hO_rd (C := RX9) (T := TX9) (N := 5) rfl)) rfl rfl hl.1 rfl (lv_room (Nat.le_of_ble_eq_true rfl)) dX9_sign_2_6 ⟨by first | exact Nat.le_of_ble_eq_true rfl | omega | (show _ ≤ _; omega) | (dsimp only [headSpec]; omega), by first | exact Nat.le_of_ble_eq_true rfl | omega | (show _ ≤ _; omega) | (dsimp only [headSpec]; omega)⟩) hS (fun z_4 locs_1 hz_3 hS_2 => ?_)
  subst z_4
  refine lv_iload_n hx hb dX9_sign_2_9 rfl (lv_at hl 1 rfl) ?_
  refine kx_icmp_eq (x := csg t pl) (y := c9) (tgt := 17) hx hb dX9_sign_2_10 (by decide) (by omega) (by omega) (by omega) (by omega) (fun c_10_5 => ?_) (fun c_10_5 => ?_)
  · -- taken at 10
    refine kx_iconst hx hb dX9_sign_2_17 ?_
    refine kx_iorb (x := false) (y := false) hx hb dX9_sign_2_18 ?_
    refine kx_eqbb (false) (rfl) ?_
    refine kx_put (v := .int (kI (kb (false)))) (C := RX9) (T := TX9) (N := 5) hx hb hts in_X9 hown hK hO_rd rfl 1 (by decide) tyX9 tyX9_ok nmX9 hS_2 (by first | rfl | exact Or.inl rfl | exact Or.inr rfl | exact Or.inr (Or.inl rfl) | exact Or.inr (Or.inr rfl) | exact Or.inr (Or.inr (Or.inl rfl)) | exact Or.inr (Or.inr (Or.inr rfl)) | ((try dsimp only); (try simp only [kNW]); omega)) q1543 (fun _ h9 => h9) rfl rfl (kb_narZ _) (kb_fitZ _) (Nat.le_of_ble_eq_true rfl) dX9_sign_2_19 (fun H_8 locs_9 hO_7 hU_6 hS_10 => ?_)
    have hO_7 : kO D H_8 rd 8 [.int (kI ((pl : Nat) : Int)), .int (kI (kb (false))), .ref oa, .int (kI ((mn : Nat) : Int)), .ref x1] := hO_7
    have hzu_11 := hU_6.1
    refine lv_aload_n hx hb dX9_sign_2_22 rfl (lv_at hl 0 rfl) ?_
    refine lv_dup hx hb dX9_sign_2_23 rfl ?_
    refine kx_get (v := .int (kI ((pl : Nat) : Int))) (C := RX9) (T := TX9) (N := 5) hx hb hts in_X9 hown hK hO_7 rfl 0 (by decide) q1541 (fun _ h9 => h9) rfl dX9_sign_2_24 ?_
    refine lv_aload_n hx hb dX9_sign_2_27 rfl (lv_at hl 0 rfl) ?_
    refine kx_get (v := .int (kI (kb (false)))) (C := RX9) (T := TX9) (N := 5) hx hb hts in_X9 hown hK hO_7 rfl 1 (by decide) q1543 (fun _ h9 => h9) rfl dX9_sign_2_28 ?_
    refine kx_ifz (tgt := 38) hx hb dX9_sign_2_31 (by decide) (fun c_31_12 => ?_) (fun c_31_12 => ?_)
    · -- taken at 31
      refine kx_iconst hx hb dX9_sign_2_38 ?_
      refine kx_iadd hx hb dX9_sign_2_39 ?_
      refine kx_eqi (((pl + 1 : Nat) : Int)) (by omega) ?_
      refine kx_put (v := .int (kI ((pl + 1 : Nat) : Int))) (C := RX9) (T := TX9) (N := 5) hx hb hts in_X9 hown hK hO_7 rfl 0 (by decide) tyX9 tyX9_ok nmX9 hS_10 (by first | rfl | exact Or.inl rfl | exact Or.inr rfl | exact Or.inr (Or.inl rfl) | exact Or.inr (Or.inr rfl) | exact Or.inr (Or.inr (Or.inl rfl)) | exact Or.inr (Or.inr (Or.inr rfl)) | ((try dsimp only); (try simp only [kNW]); omega)) q1541 (fun _ h9 => h9) rfl rfl rfl rfl (Nat.le_of_ble_eq_true rfl) dX9_sign_2_40 (fun H_15 locs_16 hO_14 hU_13 hS_17 => ?_)
      have hO_14 : kO D H_15 rd 8 [.int (kI ((pl + 1 : Nat) : Int)), .int (kI (kb (false))), .ref oa, .int (kI ((mn : Nat) : Int)), .ref x1] := hO_14
      have hzu_18 := hU_13.1
      exact kx_vret hx hb hr hlk (hO_14) hS_17 dX9_sign_2_43
    · -- not taken at 31
      first | exact absurd c_31_12 (by decide) | exact Bool.noConfusion c_31_12 | (simp at c_31_12; done)
  · -- not taken at 10
    exfalso; omega

set_option maxHeartbeats 4000000 in
set_option maxRecDepth 100000 in
theorem m_ned_n (l : Launch) (D : kG) (H : Heap) (rd : Nat) (pl : Nat) (w : Bool) (oa : Nat) (mn : Nat) (x1 : Nat) (st : Nat) (snp : Option Nat) (hi : Nat) (bu : Nat) (vb : Nat) (ml : Bool) (cap : Nat) (g : Nat → Int) (t : List Int) (c9 : Int) (hO_rd : kO D H rd 8 [.int (kI ((pl : Nat) : Int)), .int (kI (kb (w))), .ref oa, .int (kI ((mn : Nat) : Int)), .ref x1]) (hO_x1 : kO D H x1 0 [.ref st, va_rf (snp), .ref hi, .ref bu]) (hO_bu : kO D H bu 11 [.ref vb, .int (kI (0)), .int (kI (kb (ml))), .int (kI ((t.length : Nat) : Int))]) (hA_vb : kAb D H vb cap g) (hT : MTx g t) (ht60 : t.length ≤ 60) (hcap : t.length ≤ cap) (hc9 : cap ≤ 1000) (hpl : pl ≤ 62) (hc99 : 0 ≤ c9 ∧ c9 ≤ 127) (bs_rd : kBase D ≤ rd) (hno : w = true ∨ csg t pl ≠ c9) : Met l yX9_sign_2 (ws_ yX9_sign_2 cX9_sign_2 2 none) ({ frames := 5, cells := 0, slots := 0, locals := 108 } : Room) (kPre D H [.ref rd, .int (kI (c9))]) (kQv (fun H' => (kO D H' rd 8 [.int (kI ((pl : Nat) : Int)), .int (kI (kb (true))), .ref oa, .int (kI ((mn : Nat) : Int)), .ref x1])) (fun q : Nat => q = rd)) (0) (0) ((fun q : Nat => q = rd)) := by
  refine Met.ofW (cc := cX9_sign_2) (maxL := 2) (ret := none) (by decide) rfl ?_
  intro p e s m args below meth c s₁ B hml hv
  obtain ⟨rfl, hH, hK⟩ := hv
  subst hH
  have hx := B.exec
  have hb := B.bytes
  have hr := B.returns
  have hts := atoms_spec (ws := ws_ yX9_sign_2 cX9_sign_2 2 none) B.pre
  have hts : ∀ w ∈ lw_all, w.before _ s = true := fun w h => hts w (List.mem_cons_of_mem _ h)
  have hown : s.vm.findClass RX9 = some m.cls := findClass_of_methodNamed B.named
  have hlk := B.notSynchronized
  have hS : va_S (fun q : Nat => q = rd) s.heap s.heap [] := va_S.rf
  have hB : ∀ q, (fun q : Nat => q = rd) q → kBase D ≤ q := fun q h => by (try dsimp only at h); (try simp only [kNW] at h); have hks := hK.size; omega
  have hl := lv_entry ([.ref rd, .int (kI (c9))]) (n := 2) (Nat.le_of_ble_eq_true rfl)
  rw [lg_entry_eq]
  generalize (lg_sl ([.ref rd, .int (kI (c9))]) ++ List.replicate (2 - (lg_sl ([.ref rd, .int (kI (c9))])).length) Slot.unset).toArray = ls at hl ⊢
  have hl : lv_has ls 2 [(0, .ref rd), (1, .int (kI (c9)))] := hl
  have hd9 := hK.dis
  have ne_x1_rd : x1 ≠ rd := kO_ne hd9 hO_x1 hO_rd (by decide) (by decide) (by decide)
  have ne_bu_rd : bu ≠ rd := kO_ne hd9 hO_bu hO_rd (by decide) (by decide) (by decide)
  have ne_rd_vb : rd ≠ vb := kOA_ne hd9 hO_rd hA_vb (by decide) (by decide)
  have hltx1 := hO_x1.lt
  have hltrd := hO_rd.lt
  have hltbu := hO_bu.lt
  have hltvb := hA_vb.lt
  have hcoP := csg_or t pl
  have hcrP := hT.cr pl
  refine lv_aload_n hx hb dX9_sign_2_0 rfl (lv_at hl 0 rfl) ?_
  refine lv_dup hx hb dX9_sign_2_1 rfl ?_
  refine kx_get (v := .int (kI (kb (w)))) (C := RX9) (T := TX9) (N := 5) hx hb hts in_X9 hown hK hO_rd rfl 1 (by decide) q1543 (fun _ h9 => h9) rfl dX9_sign_2_2 ?_
  refine lv_aload_n hx hb dX9_sign_2_5 rfl (lv_at hl 0 rfl) ?_
  refine kx_ci0 (va_runV (As := []) (rest := [.int (kI (kb (w))), .ref rd]) ⟨hx, hb, hml, hown, hts⟩ (m_sgn l D s.heap rd pl w oa mn x1 st snp hi bu vb ml cap g t hO_rd hO_x1 hO_bu hA_vb (by first | assumption | omega) (by first | assumption | omega) (by first | assumption | omega) (by first | assumption | omega) (by first | assumption | omega)) (cwV 0 hts (lw_V q1566 q1568 qs20 q125 q1569) rfl rfl rfl (by decide +kernel) ⟨Nat.le_of_ble_eq_true rfl, Nat.le_of_ble_eq_true rfl⟩) (kx_pv hK hS hB (kx_rc hK hO_rd (C := RX9) (T := TX9) (N := 5) rfl)) rfl rfl hl.1 rfl (lv_room (Nat.le_of_ble_eq_true rfl)) dX9_sign_2_6 ⟨by first | exact Nat.le_of_ble_eq_true rfl | omega | (show _ ≤ _; omega) | (dsimp only [headSpec]; omega), by first | exact Nat.le_of_ble_eq_true rfl | omega | (show _ ≤ _; omega) | (dsimp only [headSpec]; omega)⟩) hS (fun z_4 locs_1 hz_3 hS_2 => ?_)
  subst z_4
  refine lv_iload_n hx hb dX9_sign_2_9 rfl (lv_at hl 1 rfl) ?_
  refine kx_icmp_eq (x := csg t pl) (y := c9) (tgt := 17) hx hb dX9_sign_2_10 (by decide) (by omega) (by omega) (by omega) (by omega) (fun c_10_5 => ?_) (fun c_10_5 => ?_)
  · -- taken at 10
    refine kx_iconst hx hb dX9_sign_2_17 ?_
    refine kx_iorb (x := w) (y := false) hx hb dX9_sign_2_18 ?_
    refine kx_eqbb (true) (by first | exact Bool.or_true w | (rcases hno with z | z; (rw [z]; rfl); (exfalso; omega))) ?_
    refine kx_put (v := .int (kI (kb (true)))) (C := RX9) (T := TX9) (N := 5) hx hb hts in_X9 hown hK hO_rd rfl 1 (by decide) tyX9 tyX9_ok nmX9 hS_2 (by first | rfl | exact Or.inl rfl | exact Or.inr rfl | exact Or.inr (Or.inl rfl) | exact Or.inr (Or.inr rfl) | exact Or.inr (Or.inr (Or.inl rfl)) | exact Or.inr (Or.inr (Or.inr rfl)) | ((try dsimp only); (try simp only [kNW]); omega)) q1543 (fun _ h9 => h9) rfl rfl (kb_narZ _) (kb_fitZ _) (Nat.le_of_ble_eq_true rfl) dX9_sign_2_19 (fun H_8 locs_9 hO_7 hU_6 hS_10 => ?_)
    have hO_7 : kO D H_8 rd 8 [.int (kI ((pl : Nat) : Int)), .int (kI (kb (true))), .ref oa, .int (kI ((mn : Nat) : Int)), .ref x1] := hO_7
    have hzu_11 := hU_6.1
    refine lv_aload_n hx hb dX9_sign_2_22 rfl (lv_at hl 0 rfl) ?_
    refine lv_dup hx hb dX9_sign_2_23 rfl ?_
    refine kx_get (v := .int (kI ((pl : Nat) : Int))) (C := RX9) (T := TX9) (N := 5) hx hb hts in_X9 hown hK hO_7 rfl 0 (by decide) q1541 (fun _ h9 => h9) rfl dX9_sign_2_24 ?_
    refine lv_aload_n hx hb dX9_sign_2_27 rfl (lv_at hl 0 rfl) ?_
    refine kx_get (v := .int (kI (kb (true)))) (C := RX9) (T := TX9) (N := 5) hx hb hts in_X9 hown hK hO_7 rfl 1 (by decide) q1543 (fun _ h9 => h9) rfl dX9_sign_2_28 ?_
    refine kx_ifz (tgt := 38) hx hb dX9_sign_2_31 (by decide) (fun c_31_12 => ?_) (fun c_31_12 => ?_)
    · -- taken at 31
      first | exact absurd c_31_12 (by decide) | exact Bool.noConfusion c_31_12 | (simp at c_31_12; done)
    · -- not taken at 31
      refine kx_iconst hx hb dX9_sign_2_34 ?_
      refine lv_goto (tgt := 39) hx hb dX9_sign_2_35 (by decide) ?_
      refine kx_iadd hx hb dX9_sign_2_39 ?_
      refine kx_eqi (((pl : Nat) : Int)) (by omega) ?_
      refine kx_put (v := .int (kI ((pl : Nat) : Int))) (C := RX9) (T := TX9) (N := 5) hx hb hts in_X9 hown hK hO_7 rfl 0 (by decide) tyX9 tyX9_ok nmX9 hS_10 (by first | rfl | exact Or.inl rfl | exact Or.inr rfl | exact Or.inr (Or.inl rfl) | exact Or.inr (Or.inr rfl) | exact Or.inr (Or.inr (Or.inl rfl)) | exact Or.inr (Or.inr (Or.inr rfl)) | ((try dsimp only); (try simp only [kNW]); omega)) q1541 (fun _ h9 => h9) rfl rfl rfl rfl (Nat.le_of_ble_eq_true rfl) dX9_sign_2_40 (fun H_15 locs_16 hO_14 hU_13 hS_17 => ?_)
      have hO_14 : kO D H_15 rd 8 [.int (kI ((pl : Nat) : Int)), .int (kI (kb (true))), .ref oa, .int (kI ((mn : Nat) : Int)), .ref x1] := hO_14
      have hzu_18 := hU_13.1
      exact kx_vret hx hb hr hlk (hO_14) hS_17 dX9_sign_2_43
  · -- not taken at 10
    refine kx_iconst hx hb dX9_sign_2_13 ?_
    refine lv_goto (tgt := 18) hx hb dX9_sign_2_14 (by decide) ?_
    refine kx_iorb (x := w) (y := true) hx hb dX9_sign_2_18 ?_
    refine kx_eqbb (true) (by first | exact Bool.or_true w | (rcases hno with z | z; (rw [z]; rfl); (exfalso; omega))) ?_
    refine kx_put (v := .int (kI (kb (true)))) (C := RX9) (T := TX9) (N := 5) hx hb hts in_X9 hown hK hO_rd rfl 1 (by decide) tyX9 tyX9_ok nmX9 hS_2 (by first | rfl | exact Or.inl rfl | exact Or.inr rfl | exact Or.inr (Or.inl rfl) | exact Or.inr (Or.inr rfl) | exact Or.inr (Or.inr (Or.inl rfl)) | exact Or.inr (Or.inr (Or.inr rfl)) | ((try dsimp only); (try simp only [kNW]); omega)) q1543 (fun _ h9 => h9) rfl rfl (kb_narZ _) (kb_fitZ _) (Nat.le_of_ble_eq_true rfl) dX9_sign_2_19 (fun H_21 locs_22 hO_20 hU_19 hS_23 => ?_)
    have hO_20 : kO D H_21 rd 8 [.int (kI ((pl : Nat) : Int)), .int (kI (kb (true))), .ref oa, .int (kI ((mn : Nat) : Int)), .ref x1] := hO_20
    have hzu_24 := hU_19.1
    refine lv_aload_n hx hb dX9_sign_2_22 rfl (lv_at hl 0 rfl) ?_
    refine lv_dup hx hb dX9_sign_2_23 rfl ?_
    refine kx_get (v := .int (kI ((pl : Nat) : Int))) (C := RX9) (T := TX9) (N := 5) hx hb hts in_X9 hown hK hO_20 rfl 0 (by decide) q1541 (fun _ h9 => h9) rfl dX9_sign_2_24 ?_
    refine lv_aload_n hx hb dX9_sign_2_27 rfl (lv_at hl 0 rfl) ?_
    refine kx_get (v := .int (kI (kb (true)))) (C := RX9) (T := TX9) (N := 5) hx hb hts in_X9 hown hK hO_20 rfl 1 (by decide) q1543 (fun _ h9 => h9) rfl dX9_sign_2_28 ?_
    refine kx_ifz (tgt := 38) hx hb dX9_sign_2_31 (by decide) (fun c_31_25 => ?_) (fun c_31_25 => ?_)
    · -- taken at 31
      first | exact absurd c_31_25 (by decide) | exact Bool.noConfusion c_31_25 | (simp at c_31_25; done)
    · -- not taken at 31
      refine kx_iconst hx hb dX9_sign_2_34 ?_
      refine lv_goto (tgt := 39) hx hb dX9_sign_2_35 (by decide) ?_
      refine kx_iadd hx hb dX9_sign_2_39 ?_
      refine kx_eqi (((pl : Nat) : Int)) (by omega) ?_
      refine kx_put (v := .int (kI ((pl : Nat) : Int))) (C := RX9) (T := TX9) (N := 5) hx hb hts in_X9 hown hK hO_20 rfl 0 (by decide) tyX9 tyX9_ok nmX9 hS_23 (by first | rfl | exact Or.inl rfl | exact Or.inr rfl | exact Or.inr (Or.inl rfl) | exact Or.inr (Or.inr rfl) | exact Or.inr (Or.inr (Or.inl rfl)) | exact Or.inr (Or.inr (Or.inr rfl)) | ((try dsimp only); (try simp only [kNW]); omega)) q1541 (fun _ h9 => h9) rfl rfl rfl rfl (Nat.le_of_ble_eq_true rfl) dX9_sign_2_40 (fun H_28 locs_29 hO_27 hU_26 hS_30 => ?_)
      have hO_27 : kO D H_28 rd 8 [.int (kI ((pl : Nat) : Int)), .int (kI (kb (true))), .ref oa, .int (kI ((mn : Nat) : Int)), .ref x1] := hO_27
      have hzu_31 := hU_26.1
      exact kx_vret hx hb hr hlk (hO_27) hS_30 dX9_sign_2_43

set_option maxHeartbeats 4000000 in
set_option maxRecDepth 100000 in
theorem m_num_y (l : Launch) (D : kG) (H : Heap) (rd : Nat) (pl : Nat) (oa : Nat) (mn : Nat) (x1 : Nat) (st : Nat) (snp : Option Nat) (hi : Nat) (bu : Nat) (vb : Nat) (ml : Bool) (cap : Nat) (g : Nat → Int) (t : List Int) (mo : Int) (hO_rd : kO D H rd 8 [.int (kI ((pl : Nat) : Int)), .int (kI (kb (false))), .ref oa, .int (kI ((mn : Nat) : Int)), .ref x1]) (hO_x1 : kO D H x1 0 [.ref st, va_rf (snp), .ref hi, .ref bu]) (hO_bu : kO D H bu 11 [.ref vb, .int (kI (0)), .int (kI (kb (ml))), .int (kI ((t.length : Nat) : Int))]) (hA_vb : kAb D H vb cap g) (hT : MTx g t) (ht60 : t.length ≤ 60) (hcap : t.length ≤ cap) (hc9 : cap ≤ 1000) (hpl : pl ≤ 62) (hmo : 0 ≤ mo ∧ mo ≤ 383) (bs_rd : kBase D ≤ rd) (hdg : 48 ≤ csg t pl ∧ csg t pl ≤ 57) : Met l yX9_number (ws_ yX9_number cX9_number 3 (some .int)) ({ frames := 6, cells := 0, slots := 0, locals := 131 } : Room) (kPre D H [.ref rd, .int (kI (mo))]) (kQi (fun (r : Int) H' => (r = (tx_num t mo pl).1) ∧ (kO D H' rd 8 [.int (kI (((tx_num t mo pl).2 : Nat) : Int)), .int (kI (kb (false))), .ref oa, .int (kI ((mn : Nat) : Int)), .ref x1])) (fun q : Nat => q = rd)) (0) (0) ((fun q : Nat => q = rd)) := by
  refine Met.ofW (cc := cX9_number) (maxL := 3) (ret := (some .int)) (by decide) rfl ?_
  intro p e s m args below meth c s₁ B hml hv
  obtain ⟨rfl, hH, hK⟩ := hv
  subst hH
  have hx := B.exec
  have hb := B.bytes
  have hr := B.returns
  have hts := atoms_spec (ws := ws_ yX9_number cX9_number 3 (some .int)) B.pre
  have hts : ∀ w ∈ lw_all, w.before _ s = true := fun w h => hts w (List.mem_cons_of_mem _ h)
  have hown : s.vm.findClass RX9 = some m.cls := findClass_of_methodNamed B.named
  have hlk := B.notSynchronized
  have hS : va_S (fun q : Nat => q = rd) s.heap s.heap [] := va_S.rf
  have hB : ∀ q, (fun q : Nat => q = rd) q → kBase D ≤ q := fun q h => by (try dsimp only at h); (try simp only [kNW] at h); have hks := hK.size; omega
  have hl := lv_entry ([.ref rd, .int (kI (mo))]) (n := 3) (Nat.le_of_ble_eq_true rfl)
  rw [lg_entry_eq]
  generalize (lg_sl ([.ref rd, .int (kI (mo))]) ++ List.replicate (3 - (lg_sl ([.ref rd, .int (kI (mo))])).length) Slot.unset).toArray = ls at hl ⊢
  have hl : lv_has ls 3 [(0, .ref rd), (1, .int (kI (mo)))] := hl
  have hd9 := hK.dis
  have ne_x1_rd : x1 ≠ rd := kO_ne hd9 hO_x1 hO_rd (by decide) (by decide) (by decide)
  have ne_bu_rd : bu ≠ rd := kO_ne hd9 hO_bu hO_rd (by decide) (by decide) (by decide)
  have ne_rd_vb : rd ≠ vb := kOA_ne hd9 hO_rd hA_vb (by decide) (by decide)
  have hltx1 := hO_x1.lt
  have hltrd := hO_rd.lt
  have hltbu := hO_bu.lt
  have hltvb := hA_vb.lt
  have hcoP := csg_or t pl
  have hcrP := hT.cr pl
  refine lv_aload_n hx hb dX9_number_0 rfl (lv_at hl 0 rfl) ?_
  refine kx_iconst hx hb dX9_number_1 ?_
  refine kx_bipush hx hb (by decide) dX9_number_2 ?_
  refine kx_ci (va_runV (As := [.int (kI (0)), .int (kI (9))]) (rest := []) ⟨hx, hb, hml, hown, hts⟩ (m_dig_y l D s.heap rd pl oa mn x1 st snp hi bu vb ml cap g t 0 9 hO_rd hO_x1 hO_bu hA_vb (by first | assumption | omega) (by first | assumption | omega) (by first | assumption | omega) (by first | assumption | omega) (by first | assumption | omega) ((by omega)) ((by omega)) bs_rd ((by omega))) (cwV 2 hts (lw_V q1637 q1639 qs22 q125 q1640) rfl rfl rfl (by decide +kernel) ⟨Nat.le_of_ble_eq_true rfl, Nat.le_of_ble_eq_true rfl⟩) (kx_pv hK hS hB (kx_rc hK hO_rd (C := RX9) (T := TX9) (N := 5) rfl)) rfl rfl hl.1 rfl (lv_room (Nat.le_of_ble_eq_true rfl)) dX9_number_4 ⟨by first | exact Nat.le_of_ble_eq_true rfl | omega | (show _ ≤ _; omega) | (dsimp only [headSpec]; omega), by first | exact Nat.le_of_ble_eq_true rfl | omega | (show _ ≤ _; omega) | (dsimp only [headSpec]; omega)⟩) hS (fun q _ h => by have h9 := hS.1; (try dsimp only at h); (try dsimp only); (try simp only [kNW] at h); (try simp only [kNW]); omega) (fun q h => by have h9 := hS.1; (try dsimp only at h); (try dsimp only); (try simp only [kNW] at h); (try simp only [kNW]); omega) (fun z_6 H_4 locs_1 hz_3 hF_5 hS_2 => ?_)
  have hzf_7 := hF_5.1
  refine W.widen (k := 0) (n := 0) (Nat.le_of_ble_eq_true rfl) (Nat.le_of_ble_eq_true rfl) ?_
  obtain ⟨hv_8, ho_9⟩ := hz_3
  subst z_6
  refine lv_istore_n (lv' := [(2, .int (kI ((csg t pl - 48)))), (0, .ref rd), (1, .int (kI (mo)))]) hx hb dX9_number_7 rfl hl (by decide) rfl (fun ls hl => ?_)
  have lp_8_x_10 : ∀ (n_8 : Nat) (i : Nat) (v : Int) (f : Nat) (H : Heap) (hO_rd : kO D H rd 8 [.int (kI ((i : Nat) : Int)), .int (kI (kb (false))), .ref oa, .int (kI ((mn : Nat) : Int)), .ref x1]) (hO_x1 : kO D H x1 0 [.ref st, va_rf (snp), .ref hi, .ref bu]) (hO_bu : kO D H bu 11 [.ref vb, .int (kI (0)), .int (kI (kb (ml))), .int (kI ((t.length : Nat) : Int))]) (hA_vb : kAb D H vb cap g) (hv : 0 ≤ v ∧ v ≤ 1000) (hf : i + f = t.length) (hnl : tx_num t mo pl = tx_nl t mo f i v) (locs : List Loc) (hS : va_S (fun q : Nat => q = rd) s.heap H locs) (hm_8 : f < n_8) (ls : Array Slot), lv_has ls 3 [(0, .ref rd), (1, .int (kI (mo))), (2, .int (kI (v)))] → W p l e (headSpec (ws_ yX9_number cX9_number 3 (some .int)) ({ frames := 6, cells := 0, slots := 0, locals := 131 } : Room)).room s m ([.ref rd, .int (kI (mo))] : List Value).toArray below meth c H locs (0) (0) (MQ below (kQi (fun (r : Int) H' => (r = (tx_num t mo pl).1) ∧ (kO D H' rd 8 [.int (kI (((tx_num t mo pl).2 : Nat) : Int)), .int (kI (kb (false))), .ref oa, .int (kI ((mn : Nat) : Int)), .ref x1])) (fun q : Nat => q = rd)) ([.ref rd, .int (kI (mo))] : List Value).toArray s (0) (0) ((fun q : Nat => q = rd))) (F0 m 8 ls []) := by
    intro n_8
    induction n_8 with
    | zero => intro i v f H hO_rd hO_x1 hO_bu hA_vb hv hf hnl locs hS hm_8; exact absurd hm_8 (Nat.not_lt_zero _)
    | succ n_8 ih_8 =>
      intro i v f H hO_rd hO_x1 hO_bu hA_vb hv hf hnl locs hS hm_8 ls hl
      have hcoI := csg_or t i
      have hcrI := hT.cr i
      refine lv_aload_n hx hb dX9_number_8 rfl (lv_at hl 0 rfl) ?_
      refine kx_get (v := .int (kI (kb (false)))) (C := RX9) (T := TX9) (N := 5) hx hb hts in_X9 hown hK hO_rd rfl 1 (by decide) q1543 (fun _ h9 => h9) rfl dX9_number_9 ?_
      refine kx_ifnz (tgt := 69) hx hb dX9_number_12 (by decide) (fun c_12_11 => ?_) (fun c_12_11 => ?_)
      · -- taken at 12
        first | exact absurd c_12_11 (by decide) | exact Bool.noConfusion c_12_11 | (simp at c_12_11; done)
      · -- not taken at 12
        refine lv_iload_n hx hb dX9_number_15 rfl (lv_at hl 2 rfl) ?_
        refine kx_if_le (x := v) (tgt := 69) hx hb dX9_number_16 (by decide) (by omega) (by omega) (fun c_16_12 => ?_) (fun c_16_12 => ?_)
        · -- taken at 16
          have hq9 : tx_num t mo pl = (v, i) := hnl.trans (tx_nl_stop (by rintro ⟨z1, z2, z3⟩; omega))
          have hfin : kO D H rd 8 [.int (kI (((tx_num t mo pl).2 : Nat) : Int)), .int (kI (kb false)), .ref oa, .int (kI ((mn : Nat) : Int)), .ref x1] := by rw [hq9]; exact hO_rd
          refine lv_iload_n hx hb dX9_number_69 rfl (lv_at hl 2 rfl) ?_
          exact kx_iret (z := v) hx hb hr hlk (⟨by rw [hq9], hfin⟩) hS dX9_number_70
        · -- not taken at 16
          refine lv_aload_n hx hb dX9_number_19 rfl (lv_at hl 0 rfl) ?_
          refine kx_ci0 (va_runV (As := []) (rest := []) ⟨hx, hb, hml, hown, hts⟩ (m_sgn l D H rd i false oa mn x1 st snp hi bu vb ml cap g t hO_rd hO_x1 hO_bu hA_vb (by first | assumption | omega) (by first | assumption | omega) (by first | assumption | omega) (by first | assumption | omega) (by first | assumption | omega)) (cwV 0 hts (lw_V q1566 q1568 qs20 q125 q1569) rfl rfl rfl (by decide +kernel) ⟨Nat.le_of_ble_eq_true rfl, Nat.le_of_ble_eq_true rfl⟩) (kx_pv hK hS hB (kx_rc hK hO_rd (C := RX9) (T := TX9) (N := 5) rfl)) rfl rfl hl.1 rfl (lv_room (Nat.le_of_ble_eq_true rfl)) dX9_number_20 ⟨by first | exact Nat.le_of_ble_eq_true rfl | omega | (show _ ≤ _; omega) | (dsimp only [headSpec]; omega), by first | exact Nat.le_of_ble_eq_true rfl | omega | (show _ ≤ _; omega) | (dsimp only [headSpec]; omega)⟩) hS (fun z_16 locs_13 hz_15 hS_14 => ?_)
          subst z_16
          refine kx_bipush hx hb (by decide) dX9_number_23 ?_
          refine kx_icmp_lt (x := csg t i) (y := 48) (tgt := 69) hx hb dX9_number_25 (by decide) (by omega) (by omega) (by omega) (by omega) (fun c_25_17 => ?_) (fun c_25_17 => ?_)
          · -- taken at 25
            have hq9 : tx_num t mo pl = (v, i) := hnl.trans (tx_nl_stop (by rintro ⟨z1, z2, z3⟩; omega))
            have hfin : kO D H rd 8 [.int (kI (((tx_num t mo pl).2 : Nat) : Int)), .int (kI (kb false)), .ref oa, .int (kI ((mn : Nat) : Int)), .ref x1] := by rw [hq9]; exact hO_rd
            refine lv_iload_n hx hb dX9_number_69 rfl (lv_at hl 2 rfl) ?_
            exact kx_iret (z := v) hx hb hr hlk (⟨by rw [hq9], hfin⟩) hS_14 dX9_number_70
          · -- not taken at 25
            refine lv_aload_n hx hb dX9_number_28 rfl (lv_at hl 0 rfl) ?_
            refine kx_ci0 (va_runV (As := []) (rest := []) ⟨hx, hb, hml, hown, hts⟩ (m_sgn l D H rd i false oa mn x1 st snp hi bu vb ml cap g t hO_rd hO_x1 hO_bu hA_vb (by first | assumption | omega) (by first | assumption | omega) (by first | assumption | omega) (by first | assumption | omega) (by first | assumption | omega)) (cwV 0 hts (lw_V q1566 q1568 qs20 q125 q1569) rfl rfl rfl (by decide +kernel) ⟨Nat.le_of_ble_eq_true rfl, Nat.le_of_ble_eq_true rfl⟩) (kx_pv hK hS_14 hB (kx_rc hK hO_rd (C := RX9) (T := TX9) (N := 5) rfl)) rfl rfl hl.1 rfl (lv_room (Nat.le_of_ble_eq_true rfl)) dX9_number_29 ⟨by first | exact Nat.le_of_ble_eq_true rfl | omega | (show _ ≤ _; omega) | (dsimp only [headSpec]; omega), by first | exact Nat.le_of_ble_eq_true rfl | omega | (show _ ≤ _; omega) | (dsimp only [headSpec]; omega)⟩) hS_14 (fun z_21 locs_18 hz_20 hS_19 => ?_)
            subst z_21
            refine kx_bipush hx hb (by decide) dX9_number_32 ?_
            refine kx_icmp_gt (x := csg t i) (y := 57) (tgt := 69) hx hb dX9_number_34 (by decide) (by omega) (by omega) (by omega) (by omega) (fun c_34_22 => ?_) (fun c_34_22 => ?_)
            · -- taken at 34
              have hq9 : tx_num t mo pl = (v, i) := hnl.trans (tx_nl_stop (by rintro ⟨z1, z2, z3⟩; omega))
              have hfin : kO D H rd 8 [.int (kI (((tx_num t mo pl).2 : Nat) : Int)), .int (kI (kb false)), .ref oa, .int (kI ((mn : Nat) : Int)), .ref x1] := by rw [hq9]; exact hO_rd
              refine lv_iload_n hx hb dX9_number_69 rfl (lv_at hl 2 rfl) ?_
              exact kx_iret (z := v) hx hb hr hlk (⟨by rw [hq9], hfin⟩) hS_19 dX9_number_70
            · -- not taken at 34
              refine kx_bipush hx hb (by decide) dX9_number_37 ?_
              refine lv_iload_n hx hb dX9_number_39 rfl (lv_at hl 2 rfl) ?_
              refine kx_imul hx hb dX9_number_40 ?_
              refine lv_aload_n hx hb dX9_number_41 rfl (lv_at hl 0 rfl) ?_
              refine kx_ci0 (va_runV (As := []) (rest := [.int (kI ((10 * v)))]) ⟨hx, hb, hml, hown, hts⟩ (m_sgn l D H rd i false oa mn x1 st snp hi bu vb ml cap g t hO_rd hO_x1 hO_bu hA_vb (by first | assumption | omega) (by first | assumption | omega) (by first | assumption | omega) (by first | assumption | omega) (by first | assumption | omega)) (cwV 0 hts (lw_V q1566 q1568 qs20 q125 q1569) rfl rfl rfl (by decide +kernel) ⟨Nat.le_of_ble_eq_true rfl, Nat.le_of_ble_eq_true rfl⟩) (kx_pv hK hS_19 hB (kx_rc hK hO_rd (C := RX9) (T := TX9) (N := 5) rfl)) rfl rfl hl.1 rfl (lv_room (Nat.le_of_ble_eq_true rfl)) dX9_number_42 ⟨by first | exact Nat.le_of_ble_eq_true rfl | omega | (show _ ≤ _; omega) | (dsimp only [headSpec]; omega), by first | exact Nat.le_of_ble_eq_true rfl | omega | (show _ ≤ _; omega) | (dsimp only [headSpec]; omega)⟩) hS_19 (fun z_26 locs_23 hz_25 hS_24 => ?_)
              subst z_26
              refine kx_iadd hx hb dX9_number_45 ?_
              refine kx_bipush hx hb (by decide) dX9_number_46 ?_
              refine kx_isub hx hb dX9_number_48 ?_
              refine lv_iload_n hx hb dX9_number_49 rfl (lv_at hl 1 rfl) ?_
              refine kx_icmp_gt (x := (((10 * v) + csg t i) - 48)) (y := mo) (tgt := 69) hx hb dX9_number_50 (by decide) (by omega) (by omega) (by omega) (by omega) (fun c_50_27 => ?_) (fun c_50_27 => ?_)
              · -- taken at 50
                have hq9 : tx_num t mo pl = (v, i) := hnl.trans (tx_nl_stop (by rintro ⟨z1, z2, z3⟩; omega))
                have hfin : kO D H rd 8 [.int (kI (((tx_num t mo pl).2 : Nat) : Int)), .int (kI (kb false)), .ref oa, .int (kI ((mn : Nat) : Int)), .ref x1] := by rw [hq9]; exact hO_rd
                refine lv_iload_n hx hb dX9_number_69 rfl (lv_at hl 2 rfl) ?_
                exact kx_iret (z := v) hx hb hr hlk (⟨by rw [hq9], hfin⟩) hS_24 dX9_number_70
              · -- not taken at 50
                refine kx_bipush hx hb (by decide) dX9_number_53 ?_
                refine lv_iload_n hx hb dX9_number_55 rfl (lv_at hl 2 rfl) ?_
                refine kx_imul hx hb dX9_number_56 ?_
                refine lv_aload_n hx hb dX9_number_57 rfl (lv_at hl 0 rfl) ?_
                refine kx_iconst hx hb dX9_number_58 ?_
                refine kx_bipush hx hb (by decide) dX9_number_59 ?_
                refine kx_ci (va_runV (As := [.int (kI (0)), .int (kI (9))]) (rest := [.int (kI ((10 * v)))]) ⟨hx, hb, hml, hown, hts⟩ (m_dig_y l D H rd i oa mn x1 st snp hi bu vb ml cap g t 0 9 hO_rd hO_x1 hO_bu hA_vb (by first | assumption | omega) (by first | assumption | omega) (by first | assumption | omega) (by first | assumption | omega) (by first | assumption | omega) ((by omega)) ((by omega)) bs_rd ((by omega))) (cwV 2 hts (lw_V q1637 q1639 qs22 q125 q1640) rfl rfl rfl (by decide +kernel) ⟨Nat.le_of_ble_eq_true rfl, Nat.le_of_ble_eq_true rfl⟩) (kx_pv hK hS_24 hB (kx_rc hK hO_rd (C := RX9) (T := TX9) (N := 5) rfl)) rfl rfl hl.1 rfl (lv_room (Nat.le_of_ble_eq_true rfl)) dX9_number_61 ⟨by first | exact Nat.le_of_ble_eq_true rfl | omega | (show _ ≤ _; omega) | (dsimp only [headSpec]; omega), by first | exact Nat.le_of_ble_eq_true rfl | omega | (show _ ≤ _; omega) | (dsimp only [headSpec]; omega)⟩) hS_24 (fun q _ h => by have h9 := hS_24.1; (try dsimp only at h); (try dsimp only); (try simp only [kNW] at h); (try simp only [kNW]); omega) (fun q h => by have h9 := hS_24.1; (try dsimp only at h); (try dsimp only); (try simp only [kNW] at h); (try simp only [kNW]); omega) (fun z_33 H_31 locs_28 hz_30 hF_32 hS_29 => ?_)
                have hzf_34 := hF_32.1
                refine W.widen (k := 0) (n := 0) (Nat.le_of_ble_eq_true rfl) (Nat.le_of_ble_eq_true rfl) ?_
                obtain ⟨hv_35, ho_36⟩ := hz_30
                subst z_33
                refine kx_iadd hx hb dX9_number_64 ?_
                refine lv_istore_n (lv' := [(2, .int (kI (((10 * v) + (csg t i - 48))))), (0, .ref rd), (1, .int (kI (mo)))]) hx hb dX9_number_65 rfl hl (by decide) rfl (fun ls hl => ?_)
                refine lv_goto (tgt := 8) hx hb dX9_number_66 (by decide) ?_
                have h_37 := hO_x1.fr hF_32 (fun h => by (try dsimp only at h); (try simp only [kNW] at h); omega)
                have h_38 := hO_bu.fr hF_32 (fun h => by (try dsimp only at h); (try simp only [kNW] at h); omega)
                have h_39 := hA_vb.fr hF_32 (fun h => by (try dsimp only at h); (try simp only [kNW] at h); omega)
                exact ih_8  (i + 1) (((10 * v) + (csg t i - 48))) ((f - 1)) H_31 ho_36 h_37 h_38 h_39 (by first | assumption | omega | (simp_all; done) | grind) (by first | assumption | omega | (simp_all; done) | grind) (by rw [hnl, show f = (f - 1) + 1 by omega, tx_nl, if_pos (by omega), show 10 * v + tsg t i - 48 = 10 * v + (csg t i - 48) by omega, show f - 1 + 1 - 1 = f - 1 by omega]) _ hS_29 (by omega) ls (lv_sub hl [1, 2, 0] rfl)
  have h_40 := hO_x1.fr hF_5 (fun h => by (try dsimp only at h); (try simp only [kNW] at h); omega)
  have h_41 := hO_bu.fr hF_5 (fun h => by (try dsimp only at h); (try simp only [kNW] at h); omega)
  have h_42 := hA_vb.fr hF_5 (fun h => by (try dsimp only at h); (try simp only [kNW] at h); omega)
  exact lp_8_x_10 ((((t.length - (pl + 1)))) + 1) (pl + 1) ((csg t pl - 48)) ((t.length - (pl + 1))) H_4 ho_9 h_40 h_41 h_42 (by first | assumption | omega | (simp_all; done) | grind) (by first | assumption | omega | (simp_all; done) | grind) (by unfold tx_num; rw [show csg t pl - 48 = tsg t pl - 48 by omega]) _ hS_2 (Nat.lt_succ_self _) ls (lv_sub hl [1, 2, 0] rfl)

set_option maxHeartbeats 4000000 in
set_option maxRecDepth 100000 in
theorem m_num_n (l : Launch) (D : kG) (H : Heap) (rd : Nat) (pl : Nat) (w : Bool) (oa : Nat) (mn : Nat) (x1 : Nat) (st : Nat) (snp : Option Nat) (hi : Nat) (bu : Nat) (vb : Nat) (ml : Bool) (cap : Nat) (g : Nat → Int) (t : List Int) (mo : Int) (hO_rd : kO D H rd 8 [.int (kI ((pl : Nat) : Int)), .int (kI (kb (w))), .ref oa, .int (kI ((mn : Nat) : Int)), .ref x1]) (hO_x1 : kO D H x1 0 [.ref st, va_rf (snp), .ref hi, .ref bu]) (hO_bu : kO D H bu 11 [.ref vb, .int (kI (0)), .int (kI (kb (ml))), .int (kI ((t.length : Nat) : Int))]) (hA_vb : kAb D H vb cap g) (hT : MTx g t) (ht60 : t.length ≤ 60) (hcap : t.length ≤ cap) (hc9 : cap ≤ 1000) (hpl : pl ≤ 62) (hmo : 0 ≤ mo ∧ mo ≤ 383) (bs_rd : kBase D ≤ rd) (hno : w = true ∨ ¬ (48 ≤ csg t pl ∧ csg t pl ≤ 57)) : Met l yX9_number (ws_ yX9_number cX9_number 3 (some .int)) ({ frames := 6, cells := 0, slots := 0, locals := 131 } : Room) (kPre D H [.ref rd, .int (kI (mo))]) (kQi (fun (r : Int) H' => (r = (csg t pl - 48)) ∧ (kO D H' rd 8 [.int (kI ((pl : Nat) : Int)), .int (kI (kb (true))), .ref oa, .int (kI ((mn : Nat) : Int)), .ref x1])) (fun q : Nat => q = rd)) (0) (0) ((fun q : Nat => q = rd)) := by
  refine Met.ofW (cc := cX9_number) (maxL := 3) (ret := (some .int)) (by decide) rfl ?_
  intro p e s m args below meth c s₁ B hml hv
  obtain ⟨rfl, hH, hK⟩ := hv
  subst hH
  have hx := B.exec
  have hb := B.bytes
  have hr := B.returns
  have hts := atoms_spec (ws := ws_ yX9_number cX9_number 3 (some .int)) B.pre
  have hts : ∀ w ∈ lw_all, w.before _ s = true := fun w h => hts w (List.mem_cons_of_mem _ h)
  have hown : s.vm.findClass RX9 = some m.cls := findClass_of_methodNamed B.named
  have hlk := B.notSynchronized
  have hS : va_S (fun q : Nat => q = rd) s.heap s.heap [] := va_S.rf
  have hB : ∀ q, (fun q : Nat => q = rd) q → kBase D ≤ q := fun q h => by (try dsimp only at h); (try simp only [kNW] at h); have hks := hK.size; omega
  have hl := lv_entry ([.ref rd, .int (kI (mo))]) (n := 3) (Nat.le_of_ble_eq_true rfl)
  rw [lg_entry_eq]
  generalize (lg_sl ([.ref rd, .int (kI (mo))]) ++ List.replicate (3 - (lg_sl ([.ref rd, .int (kI (mo))])).length) Slot.unset).toArray = ls at hl ⊢
  have hl : lv_has ls 3 [(0, .ref rd), (1, .int (kI (mo)))] := hl
  have hd9 := hK.dis
  have ne_x1_rd : x1 ≠ rd := kO_ne hd9 hO_x1 hO_rd (by decide) (by decide) (by decide)
  have ne_bu_rd : bu ≠ rd := kO_ne hd9 hO_bu hO_rd (by decide) (by decide) (by decide)
  have ne_rd_vb : rd ≠ vb := kOA_ne hd9 hO_rd hA_vb (by decide) (by decide)
  have hltx1 := hO_x1.lt
  have hltrd := hO_rd.lt
  have hltbu := hO_bu.lt
  have hltvb := hA_vb.lt
  have hcoP := csg_or t pl
  have hcrP := hT.cr pl
  refine lv_aload_n hx hb dX9_number_0 rfl (lv_at hl 0 rfl) ?_
  refine kx_iconst hx hb dX9_number_1 ?_
  refine kx_bipush hx hb (by decide) dX9_number_2 ?_
  refine kx_ci (va_runV (As := [.int (kI (0)), .int (kI (9))]) (rest := []) ⟨hx, hb, hml, hown, hts⟩ (m_dig_n l D s.heap rd pl w oa mn x1 st snp hi bu vb ml cap g t 0 9 hO_rd hO_x1 hO_bu hA_vb (by first | assumption | omega) (by first | assumption | omega) (by first | assumption | omega) (by first | assumption | omega) (by first | assumption | omega) ((by omega)) ((by omega)) bs_rd ((by rcases hno with z | z; exact Or.inl z; exact Or.inr (by omega)))) (cwV 2 hts (lw_V q1637 q1639 qs22 q125 q1640) rfl rfl rfl (by decide +kernel) ⟨Nat.le_of_ble_eq_true rfl, Nat.le_of_ble_eq_true rfl⟩) (kx_pv hK hS hB (kx_rc hK hO_rd (C := RX9) (T := TX9) (N := 5) rfl)) rfl rfl hl.1 rfl (lv_room (Nat.le_of_ble_eq_true rfl)) dX9_number_4 ⟨by first | exact Nat.le_of_ble_eq_true rfl | omega | (show _ ≤ _; omega) | (dsimp only [headSpec]; omega), by first | exact Nat.le_of_ble_eq_true rfl | omega | (show _ ≤ _; omega) | (dsimp only [headSpec]; omega)⟩) hS (fun q _ h => by have h9 := hS.1; (try dsimp only at h); (try dsimp only); (try simp only [kNW] at h); (try simp only [kNW]); omega) (fun q h => by have h9 := hS.1; (try dsimp only at h); (try dsimp only); (try simp only [kNW] at h); (try simp only [kNW]); omega) (fun z_6 H_4 locs_1 hz_3 hF_5 hS_2 => ?_)
  have hzf_7 := hF_5.1
  refine W.widen (k := 0) (n := 0) (Nat.le_of_ble_eq_true rfl) (Nat.le_of_ble_eq_true rfl) ?_
  obtain ⟨hv_8, ho_9⟩ := hz_3
  subst z_6
  refine lv_istore_n (lv' := [(2, .int (kI ((csg t pl - 48)))), (0, .ref rd), (1, .int (kI (mo)))]) hx hb dX9_number_7 rfl hl (by decide) rfl (fun ls hl => ?_)
  refine lv_aload_n hx hb dX9_number_8 rfl (lv_at hl 1 rfl) ?_
  refine kx_get (v := .int (kI (kb (true)))) (C := RX9) (T := TX9) (N := 5) hx hb hts in_X9 hown hK ho_9 rfl 1 (by decide) q1543 (fun _ h9 => h9) rfl dX9_number_9 ?_
  refine kx_ifnz (tgt := 69) hx hb dX9_number_12 (by decide) (fun c_12_10 => ?_) (fun c_12_10 => ?_)
  · -- taken at 12
    refine lv_iload_n hx hb dX9_number_69 rfl (lv_at hl 0 rfl) ?_
    exact kx_iret (z := (csg t pl - 48)) hx hb hr hlk (⟨by rfl, ho_9⟩) hS_2 dX9_number_70
  · -- not taken at 12
    first | exact absurd c_12_10 (by decide) | exact Bool.noConfusion c_12_10 | (simp at c_12_10; done)

set_option maxHeartbeats 4000000 in
set_option maxRecDepth 100000 in
theorem m_beg_y (l : Launch) (D : kG) (H : Heap) (rd : Nat) (pl : Nat) (oa : Nat) (mn : Nat) (x1 : Nat) (st : Nat) (snp : Option Nat) (hi : Nat) (bu : Nat) (vb : Nat) (ml : Bool) (cap : Nat) (g : Nat → Int) (t : List Int) (lv : Int) (hO_rd : kO D H rd 8 [.int (kI ((pl : Nat) : Int)), .int (kI (kb (false))), .ref oa, .int (kI ((mn : Nat) : Int)), .ref x1]) (hO_x1 : kO D H x1 0 [.ref st, va_rf (snp), .ref hi, .ref bu]) (hO_bu : kO D H bu 11 [.ref vb, .int (kI (0)), .int (kI (kb (ml))), .int (kI ((t.length : Nat) : Int))]) (hA_vb : kAb D H vb cap g) (hT : MTx g t) (ht60 : t.length ≤ 60) (hcap : t.length ≤ cap) (hc9 : cap ≤ 1000) (hpl : pl ≤ 62) (bs_rd : kBase D ≤ rd) (hcs : csg t pl = 64) (hdg : 48 ≤ csg t (pl + 1) ∧ csg t (pl + 1) ≤ 57) : Met l yX9_beginning (ws_ yX9_beginning cX9_beginning 3 (some (.object "ContourLabels$Order"))) ({ frames := 7, cells := 1, slots := 2, locals := 3100 } : Room) (kPre D H [.ref rd, .int (kI (lv))]) (kQr (fun (r : Nat) H' => (kO D H' rd 8 [.int (kI (((tx_num t 383 (pl + 1)).2 : Nat) : Int)), .int (kI (kb (false))), .ref oa, .int (kI ((mn : Nat) : Int)), .ref x1]) ∧ (kLm D H' r 4 [.int (kI (lv)), .int (kI ((tx_num t 383 (pl + 1)).1))]) ∧ (H.size ≤ r)) (fun q : Nat => q = rd ∨ H.size ≤ q)) (1) (2) ((fun q : Nat => q = rd ∨ H.size ≤ q)) := by
  refine Met.ofW (cc := cX9_beginning) (maxL := 3) (ret := (some (.object "ContourLabels$Order"))) (by decide) rfl ?_
  intro p e s m args below meth c s₁ B hml hv
  obtain ⟨rfl, hH, hK⟩ := hv
  subst hH
  have hx := B.exec
  have hb := B.bytes
  have hr := B.returns
  have hts := atoms_spec (ws := ws_ yX9_beginning cX9_beginning 3 (some (.object "ContourLabels$Order"))) B.pre
  have hts : ∀ w ∈ lw_all, w.before _ s = true := fun w h => hts w (List.mem_cons_of_mem _ h)
  have hown : s.vm.findClass RX9 = some m.cls := findClass_of_methodNamed B.named
  have hlk := B.notSynchronized
  have hS : va_S (fun q : Nat => q = rd ∨ s.heap.size ≤ q) s.heap s.heap [] := va_S.rf
  have hB : ∀ q, (fun q : Nat => q = rd ∨ s.heap.size ≤ q) q → kBase D ≤ q := fun q h => by (try dsimp only at h); (try simp only [kNW] at h); have hks := hK.size; omega
  have hl := lv_entry ([.ref rd, .int (kI (lv))]) (n := 3) (Nat.le_of_ble_eq_true rfl)
  rw [lg_entry_eq]
  generalize (lg_sl ([.ref rd, .int (kI (lv))]) ++ List.replicate (3 - (lg_sl ([.ref rd, .int (kI (lv))])).length) Slot.unset).toArray = ls at hl ⊢
  have hl : lv_has ls 3 [(0, .ref rd), (1, .int (kI (lv)))] := hl
  have hd9 := hK.dis
  have ne_x1_rd : x1 ≠ rd := kO_ne hd9 hO_x1 hO_rd (by decide) (by decide) (by decide)
  have ne_bu_rd : bu ≠ rd := kO_ne hd9 hO_bu hO_rd (by decide) (by decide) (by decide)
  have ne_rd_vb : rd ≠ vb := kOA_ne hd9 hO_rd hA_vb (by decide) (by decide)
  have hltx1 := hO_x1.lt
  have hltrd := hO_rd.lt
  have hltbu := hO_bu.lt
  have hltvb := hA_vb.lt
  have hcoP := csg_or t pl
  have hcrP := hT.cr pl
  refine lv_aload_n hx hb dX9_beginning_0 rfl (lv_at hl 0 rfl) ?_
  refine kx_bipush hx hb (by decide) dX9_beginning_1 ?_
  refine kx_cv (va_runV (As := [.int (kI (64))]) (rest := []) ⟨hx, hb, hml, hown, hts⟩ (m_ned_y l D s.heap rd pl oa mn x1 st snp hi bu vb ml cap g t 64 hO_rd hO_x1 hO_bu hA_vb (by first | assumption | omega) (by first | assumption | omega) (by first | assumption | omega) (by first | assumption | omega) (by first | assumption | omega) ((by omega)) bs_rd hcs) (cwV 1 hts (lw_V q1645 q1647 qs24 q125 q1648) rfl rfl rfl (by decide +kernel) ⟨Nat.le_of_ble_eq_true rfl, Nat.le_of_ble_eq_true rfl⟩) (kx_pv hK hS hB (kx_rc hK hO_rd (C := RX9) (T := TX9) (N := 5) rfl)) rfl rfl hl.1 rfl (lv_room (Nat.le_of_ble_eq_true rfl)) dX9_beginning_3 ⟨by first | exact Nat.le_of_ble_eq_true rfl | omega | (show _ ≤ _; omega) | (dsimp only [headSpec]; omega), by first | exact Nat.le_of_ble_eq_true rfl | omega | (show _ ≤ _; omega) | (dsimp only [headSpec]; omega)⟩) hS (fun q _ h => by have h9 := hS.1; (try dsimp only at h); (try dsimp only); (try simp only [kNW] at h); (try simp only [kNW]); omega) (fun q h => by have h9 := hS.1; (try dsimp only at h); (try dsimp only); (try simp only [kNW] at h); (try simp only [kNW]); omega) (fun H_4 locs_1 hz_3 hF_5 hS_2 => ?_)
  have hzf_7 := hF_5.1
  refine W.widen (k := 0) (n := 0) (Nat.le_of_ble_eq_true rfl) (Nat.le_of_ble_eq_true rfl) ?_
  have ho_8 := hz_3
  refine lv_aload_n hx hb dX9_beginning_6 rfl (lv_at hl 0 rfl) ?_
  refine kx_sipush hx hb (by decide) dX9_beginning_7 ?_
  have h_9 := hO_x1.fr hF_5 (fun h => by (try dsimp only at h); (try simp only [kNW] at h); omega)
  have h_10 := hO_bu.fr hF_5 (fun h => by (try dsimp only at h); (try simp only [kNW] at h); omega)
  have h_11 := hA_vb.fr hF_5 (fun h => by (try dsimp only at h); (try simp only [kNW] at h); omega)
  refine kx_ci (va_runV (As := [.int (kI (383))]) (rest := []) ⟨hx, hb, hml, hown, hts⟩ (m_num_y l D H_4 rd (pl + 1) oa mn x1 st snp hi bu vb ml cap g t 383 ho_8 h_9 h_10 h_11 (by first | assumption | omega) (by first | assumption | omega) (by first | assumption | omega) (by first | assumption | omega) (by first | assumption | omega) ((by omega)) bs_rd hdg) (cwV 1 hts (lw_V q1633 q1635 qs21 q125 q1636) rfl rfl rfl (by decide +kernel) ⟨Nat.le_of_ble_eq_true rfl, Nat.le_of_ble_eq_true rfl⟩) (kx_pv hK hS_2 hB (kx_rc hK ho_8 (C := RX9) (T := TX9) (N := 5) rfl)) rfl rfl hl.1 rfl (lv_room (Nat.le_of_ble_eq_true rfl)) dX9_beginning_10 ⟨by first | exact Nat.le_of_ble_eq_true rfl | omega | (show _ ≤ _; omega) | (dsimp only [headSpec]; omega), by first | exact Nat.le_of_ble_eq_true rfl | omega | (show _ ≤ _; omega) | (dsimp only [headSpec]; omega)⟩) hS_2 (fun q _ h => by have h9 := hS_2.1; (try dsimp only at h); (try dsimp only); (try simp only [kNW] at h); (try simp only [kNW]); omega) (fun q h => by have h9 := hS_2.1; (try dsimp only at h); (try dsimp only); (try simp only [kNW] at h); (try simp only [kNW]); omega) (fun z_17 H_15 locs_12 hz_14 hF_16 hS_13 => ?_)
  have hzf_18 := hF_16.1
  refine W.widen (k := 0) (n := 0) (Nat.le_of_ble_eq_true rfl) (Nat.le_of_ble_eq_true rfl) ?_
  obtain ⟨hv_19, ho_20⟩ := hz_14
  subst z_17
  refine lv_istore_n (lv' := [(2, .int (kI ((tx_num t 383 (pl + 1)).1))), (0, .ref rd), (1, .int (kI (lv)))]) hx hb dX9_beginning_13 rfl hl (by decide) rfl (fun ls hl => ?_)
  refine lv_iload_n hx hb dX9_beginning_14 rfl (lv_at hl 2 rfl) ?_
  refine lv_iload_n hx hb dX9_beginning_15 rfl (lv_at hl 0 rfl) ?_
  refine kx_lam (i := 4) (σ := ls_5) (vals := [.int (kI (lv)), .int (kI ((tx_num t 383 (pl + 1)).1))]) (rest := []) hx hb hml hl.1 hts hK B.named rfl (by decide) rfl lk_5 hS_13 rfl (fun z hz => by have hz : z ∈ [((.int : FieldType), (.int (kI (lv)) : Value)), ((.int : FieldType), (.int (kI ((tx_num t 383 (pl + 1)).1)) : Value))] := hz; simp only [List.mem_cons, List.not_mem_nil, or_false] at hz; rcases hz with rfl | rfl <;> exact ⟨rfl, rfl⟩) (by first | exact Nat.le_of_ble_eq_true rfl | omega | (show _ ≤ _; omega) | (dsimp only [headSpec]; omega)) (by first | exact Nat.le_of_ble_eq_true rfl | omega | (show _ ≤ _; omega) | (dsimp only [headSpec]; omega)) (by first | exact Nat.le_of_ble_eq_true rfl | omega | (show _ ≤ _; omega) | (dsimp only [headSpec]; omega)) dX9_beginning_16 (fun lm_21 H_22 hq_23 hz_24 hL_25 hE_26 hS_27 => ?_)
  have hge_lm_21 : s.heap.size ≤ lm_21 := by rw [hq_23]; exact hS_13.1
  refine W.widen (k := 1) (n := 2) (Nat.le_of_ble_eq_true rfl) (Nat.le_of_ble_eq_true rfl) ?_
  have h_28 := ho_20.ex hE_26
  exact kx_aret (z := lm_21) hx hb hr (by first | exact Or.inl ⟨_, rfl⟩ | exact Or.inr ⟨_, rfl⟩) hlk (⟨h_28, hL_25, by first | assumption | rfl | omega | grind⟩) hS_27 dX9_beginning_21

set_option maxHeartbeats 4000000 in
set_option maxRecDepth 100000 in
theorem m_beg_n1 (l : Launch) (D : kG) (H : Heap) (rd : Nat) (pl : Nat) (w : Bool) (oa : Nat) (mn : Nat) (x1 : Nat) (st : Nat) (snp : Option Nat) (hi : Nat) (bu : Nat) (vb : Nat) (ml : Bool) (cap : Nat) (g : Nat → Int) (t : List Int) (lv : Int) (hO_rd : kO D H rd 8 [.int (kI ((pl : Nat) : Int)), .int (kI (kb (w))), .ref oa, .int (kI ((mn : Nat) : Int)), .ref x1]) (hO_x1 : kO D H x1 0 [.ref st, va_rf (snp), .ref hi, .ref bu]) (hO_bu : kO D H bu 11 [.ref vb, .int (kI (0)), .int (kI (kb (ml))), .int (kI ((t.length : Nat) : Int))]) (hA_vb : kAb D H vb cap g) (hT : MTx g t) (ht60 : t.length ≤ 60) (hcap : t.length ≤ cap) (hc9 : cap ≤ 1000) (hpl : pl ≤ 62) (bs_rd : kBase D ≤ rd) (hno : w = true ∨ csg t pl ≠ 64) : Met l yX9_beginning (ws_ yX9_beginning cX9_beginning 3 (some (.object "ContourLabels$Order"))) ({ frames := 7, cells := 1, slots := 2, locals := 3100 } : Room) (kPre D H [.ref rd, .int (kI (lv))]) (kQr (fun (r : Nat) H' => (kO D H' rd 8 [.int (kI ((pl : Nat) : Int)), .int (kI (kb (true))), .ref oa, .int (kI ((mn : Nat) : Int)), .ref x1]) ∧ (H.size ≤ r)) (fun q : Nat => q = rd ∨ H.size ≤ q)) (1) (2) ((fun q : Nat => q = rd ∨ H.size ≤ q)) := by
  refine Met.ofW (cc := cX9_beginning) (maxL := 3) (ret := (some (.object "ContourLabels$Order"))) (by decide) rfl ?_
  intro p e s m args below meth c s₁ B hml hv
  obtain ⟨rfl, hH, hK⟩ := hv
  subst hH
  have hx := B.exec
  have hb := B.bytes
  have hr := B.returns
  have hts := atoms_spec (ws := ws_ yX9_beginning cX9_beginning 3 (some (.object "ContourLabels$Order"))) B.pre
  have hts : ∀ w ∈ lw_all, w.before _ s = true := fun w h => hts w (List.mem_cons_of_mem _ h)
  have hown : s.vm.findClass RX9 = some m.cls := findClass_of_methodNamed B.named
  have hlk := B.notSynchronized
  have hS : va_S (fun q : Nat => q = rd ∨ s.heap.size ≤ q) s.heap s.heap [] := va_S.rf
  have hB : ∀ q, (fun q : Nat => q = rd ∨ s.heap.size ≤ q) q → kBase D ≤ q := fun q h => by (try dsimp only at h); (try simp only [kNW] at h); have hks := hK.size; omega
  have hl := lv_entry ([.ref rd, .int (kI (lv))]) (n := 3) (Nat.le_of_ble_eq_true rfl)
  rw [lg_entry_eq]
  generalize (lg_sl ([.ref rd, .int (kI (lv))]) ++ List.replicate (3 - (lg_sl ([.ref rd, .int (kI (lv))])).length) Slot.unset).toArray = ls at hl ⊢
  have hl : lv_has ls 3 [(0, .ref rd), (1, .int (kI (lv)))] := hl
  have hd9 := hK.dis
  have ne_x1_rd : x1 ≠ rd := kO_ne hd9 hO_x1 hO_rd (by decide) (by decide) (by decide)
  have ne_bu_rd : bu ≠ rd := kO_ne hd9 hO_bu hO_rd (by decide) (by decide) (by decide)
  have ne_rd_vb : rd ≠ vb := kOA_ne hd9 hO_rd hA_vb (by decide) (by decide)
  have hltx1 := hO_x1.lt
  have hltrd := hO_rd.lt
  have hltbu := hO_bu.lt
  have hltvb := hA_vb.lt
  have hcoP := csg_or t pl
  have hcrP := hT.cr pl
  refine lv_aload_n hx hb dX9_beginning_0 rfl (lv_at hl 0 rfl) ?_
  refine kx_bipush hx hb (by decide) dX9_beginning_1 ?_
  refine kx_cv (va_runV (As := [.int (kI (64))]) (rest := []) ⟨hx, hb, hml, hown, hts⟩ (m_ned_n l D s.heap rd pl w oa mn x1 st snp hi bu vb ml cap g t 64 hO_rd hO_x1 hO_bu hA_vb (by first | assumption | omega) (by first | assumption | omega) (by first | assumption | omega) (by first | assumption | omega) (by first | assumption | omega) ((by omega)) bs_rd hno) (cwV 1 hts (lw_V q1645 q1647 qs24 q125 q1648) rfl rfl rfl (by decide +kernel) ⟨Nat.le_of_ble_eq_true rfl, Nat.le_of_ble_eq_true rfl⟩) (kx_pv hK hS hB (kx_rc hK hO_rd (C := RX9) (T := TX9) (N := 5) rfl)) rfl rfl hl.1 rfl (lv_room (Nat.le_of_ble_eq_true rfl)) dX9_beginning_3 ⟨by first | exact Nat.le_of_ble_eq_true rfl | omega | (show _ ≤ _; omega) | (dsimp only [headSpec]; omega), by first | exact Nat.le_of_ble_eq_true rfl | omega | (show _ ≤ _; omega) | (dsimp only [headSpec]; omega)⟩) hS (fun q _ h => by have h9 := hS.1; (try dsimp only at h); (try dsimp only); (try simp only [kNW] at h); (try simp only [kNW]); omega) (fun q h => by have h9 := hS.1; (try dsimp only at h); (try dsimp only); (try simp only [kNW] at h); (try simp only [kNW]); omega) (fun H_4 locs_1 hz_3 hF_5 hS_2 => ?_)
  have hzf_7 := hF_5.1
  refine W.widen (k := 0) (n := 0) (Nat.le_of_ble_eq_true rfl) (Nat.le_of_ble_eq_true rfl) ?_
  have ho_8 := hz_3
  refine lv_aload_n hx hb dX9_beginning_6 rfl (lv_at hl 0 rfl) ?_
  refine kx_sipush hx hb (by decide) dX9_beginning_7 ?_
  have h_9 := hO_x1.fr hF_5 (fun h => by (try dsimp only at h); (try simp only [kNW] at h); omega)
  have h_10 := hO_bu.fr hF_5 (fun h => by (try dsimp only at h); (try simp only [kNW] at h); omega)
  have h_11 := hA_vb.fr hF_5 (fun h => by (try dsimp only at h); (try simp only [kNW] at h); omega)
  refine kx_ci (va_runV (As := [.int (kI (383))]) (rest := []) ⟨hx, hb, hml, hown, hts⟩ (m_num_n l D H_4 rd pl true oa mn x1 st snp hi bu vb ml cap g t 383 ho_8 h_9 h_10 h_11 (by first | assumption | omega) (by first | assumption | omega) (by first | assumption | omega) (by first | assumption | omega) (by first | assumption | omega) ((by omega)) bs_rd ((Or.inl rfl))) (cwV 1 hts (lw_V q1633 q1635 qs21 q125 q1636) rfl rfl rfl (by decide +kernel) ⟨Nat.le_of_ble_eq_true rfl, Nat.le_of_ble_eq_true rfl⟩) (kx_pv hK hS_2 hB (kx_rc hK ho_8 (C := RX9) (T := TX9) (N := 5) rfl)) rfl rfl hl.1 rfl (lv_room (Nat.le_of_ble_eq_true rfl)) dX9_beginning_10 ⟨by first | exact Nat.le_of_ble_eq_true rfl | omega | (show _ ≤ _; omega) | (dsimp only [headSpec]; omega), by first | exact Nat.le_of_ble_eq_true rfl | omega | (show _ ≤ _; omega) | (dsimp only [headSpec]; omega)⟩) hS_2 (fun q _ h => by have h9 := hS_2.1; (try dsimp only at h); (try dsimp only); (try simp only [kNW] at h); (try simp only [kNW]); omega) (fun q h => by have h9 := hS_2.1; (try dsimp only at h); (try dsimp only); (try simp only [kNW] at h); (try simp only [kNW]); omega) (fun z_17 H_15 locs_12 hz_14 hF_16 hS_13 => ?_)
  have hzf_18 := hF_16.1
  refine W.widen (k := 0) (n := 0) (Nat.le_of_ble_eq_true rfl) (Nat.le_of_ble_eq_true rfl) ?_
  obtain ⟨hv_19, ho_20⟩ := hz_14
  subst z_17
  refine lv_istore_n (lv' := [(2, .int (kI ((csg t pl - 48)))), (0, .ref rd), (1, .int (kI (lv)))]) hx hb dX9_beginning_13 rfl hl (by decide) rfl (fun ls hl => ?_)
  refine lv_iload_n hx hb dX9_beginning_14 rfl (lv_at hl 2 rfl) ?_
  refine lv_iload_n hx hb dX9_beginning_15 rfl (lv_at hl 0 rfl) ?_
  refine kx_lam (i := 4) (σ := ls_5) (vals := [.int (kI (lv)), .int (kI ((csg t pl - 48)))]) (rest := []) hx hb hml hl.1 hts hK B.named rfl (by decide) rfl lk_5 hS_13 rfl (fun z hz => by have hz : z ∈ [((.int : FieldType), (.int (kI (lv)) : Value)), ((.int : FieldType), (.int (kI ((csg t pl - 48))) : Value))] := hz; simp only [List.mem_cons, List.not_mem_nil, or_false] at hz; rcases hz with rfl | rfl <;> exact ⟨rfl, rfl⟩) (by first | exact Nat.le_of_ble_eq_true rfl | omega | (show _ ≤ _; omega) | (dsimp only [headSpec]; omega)) (by first | exact Nat.le_of_ble_eq_true rfl | omega | (show _ ≤ _; omega) | (dsimp only [headSpec]; omega)) (by first | exact Nat.le_of_ble_eq_true rfl | omega | (show _ ≤ _; omega) | (dsimp only [headSpec]; omega)) dX9_beginning_16 (fun lm_21 H_22 hq_23 hz_24 hL_25 hE_26 hS_27 => ?_)
  have hge_lm_21 : s.heap.size ≤ lm_21 := by rw [hq_23]; exact hS_13.1
  refine W.widen (k := 1) (n := 2) (Nat.le_of_ble_eq_true rfl) (Nat.le_of_ble_eq_true rfl) ?_
  have h_28 := ho_20.ex hE_26
  exact kx_aret (z := lm_21) hx hb hr (by first | exact Or.inl ⟨_, rfl⟩ | exact Or.inr ⟨_, rfl⟩) hlk (⟨h_28, by first | assumption | rfl | omega | grind⟩) hS_27 dX9_beginning_21

set_option maxHeartbeats 4000000 in
set_option maxRecDepth 100000 in
theorem m_beg_n2 (l : Launch) (D : kG) (H : Heap) (rd : Nat) (pl : Nat) (oa : Nat) (mn : Nat) (x1 : Nat) (st : Nat) (snp : Option Nat) (hi : Nat) (bu : Nat) (vb : Nat) (ml : Bool) (cap : Nat) (g : Nat → Int) (t : List Int) (lv : Int) (hO_rd : kO D H rd 8 [.int (kI ((pl : Nat) : Int)), .int (kI (kb (false))), .ref oa, .int (kI ((mn : Nat) : Int)), .ref x1]) (hO_x1 : kO D H x1 0 [.ref st, va_rf (snp), .ref hi, .ref bu]) (hO_bu : kO D H bu 11 [.ref vb, .int (kI (0)), .int (kI (kb (ml))), .int (kI ((t.length : Nat) : Int))]) (hA_vb : kAb D H vb cap g) (hT : MTx g t) (ht60 : t.length ≤ 60) (hcap : t.length ≤ cap) (hc9 : cap ≤ 1000) (hpl : pl ≤ 62) (bs_rd : kBase D ≤ rd) (hcs : csg t pl = 64) (hno : ¬ (48 ≤ csg t (pl + 1) ∧ csg t (pl + 1) ≤ 57)) : Met l yX9_beginning (ws_ yX9_beginning cX9_beginning 3 (some (.object "ContourLabels$Order"))) ({ frames := 7, cells := 1, slots := 2, locals := 3100 } : Room) (kPre D H [.ref rd, .int (kI (lv))]) (kQr (fun (r : Nat) H' => (kO D H' rd 8 [.int (kI ((pl + 1 : Nat) : Int)), .int (kI (kb (true))), .ref oa, .int (kI ((mn : Nat) : Int)), .ref x1]) ∧ (H.size ≤ r)) (fun q : Nat => q = rd ∨ H.size ≤ q)) (1) (2) ((fun q : Nat => q = rd ∨ H.size ≤ q)) := by
  refine Met.ofW (cc := cX9_beginning) (maxL := 3) (ret := (some (.object "ContourLabels$Order"))) (by decide) rfl ?_
  intro p e s m args below meth c s₁ B hml hv
  obtain ⟨rfl, hH, hK⟩ := hv
  subst hH
  have hx := B.exec
  have hb := B.bytes
  have hr := B.returns
  have hts := atoms_spec (ws := ws_ yX9_beginning cX9_beginning 3 (some (.object "ContourLabels$Order"))) B.pre
  have hts : ∀ w ∈ lw_all, w.before _ s = true := fun w h => hts w (List.mem_cons_of_mem _ h)
  have hown : s.vm.findClass RX9 = some m.cls := findClass_of_methodNamed B.named
  have hlk := B.notSynchronized
  have hS : va_S (fun q : Nat => q = rd ∨ s.heap.size ≤ q) s.heap s.heap [] := va_S.rf
  have hB : ∀ q, (fun q : Nat => q = rd ∨ s.heap.size ≤ q) q → kBase D ≤ q := fun q h => by (try dsimp only at h); (try simp only [kNW] at h); have hks := hK.size; omega
  have hl := lv_entry ([.ref rd, .int (kI (lv))]) (n := 3) (Nat.le_of_ble_eq_true rfl)
  rw [lg_entry_eq]
  generalize (lg_sl ([.ref rd, .int (kI (lv))]) ++ List.replicate (3 - (lg_sl ([.ref rd, .int (kI (lv))])).length) Slot.unset).toArray = ls at hl ⊢
  have hl : lv_has ls 3 [(0, .ref rd), (1, .int (kI (lv)))] := hl
  have hd9 := hK.dis
  have ne_x1_rd : x1 ≠ rd := kO_ne hd9 hO_x1 hO_rd (by decide) (by decide) (by decide)
  have ne_bu_rd : bu ≠ rd := kO_ne hd9 hO_bu hO_rd (by decide) (by decide) (by decide)
  have ne_rd_vb : rd ≠ vb := kOA_ne hd9 hO_rd hA_vb (by decide) (by decide)
  have hltx1 := hO_x1.lt
  have hltrd := hO_rd.lt
  have hltbu := hO_bu.lt
  have hltvb := hA_vb.lt
  have hcoP := csg_or t pl
  have hcrP := hT.cr pl
  refine lv_aload_n hx hb dX9_beginning_0 rfl (lv_at hl 0 rfl) ?_
  refine kx_bipush hx hb (by decide) dX9_beginning_1 ?_
  refine kx_cv (va_runV (As := [.int (kI (64))]) (rest := []) ⟨hx, hb, hml, hown, hts⟩ (m_ned_y l D s.heap rd pl oa mn x1 st snp hi bu vb ml cap g t 64 hO_rd hO_x1 hO_bu hA_vb (by first | assumption | omega) (by first | assumption | omega) (by first | assumption | omega) (by first | assumption | omega) (by first | assumption | omega) ((by omega)) bs_rd hcs) (cwV 1 hts (lw_V q1645 q1647 qs24 q125 q1648) rfl rfl rfl (by decide +kernel) ⟨Nat.le_of_ble_eq_true rfl, Nat.le_of_ble_eq_true rfl⟩) (kx_pv hK hS hB (kx_rc hK hO_rd (C := RX9) (T := TX9) (N := 5) rfl)) rfl rfl hl.1 rfl (lv_room (Nat.le_of_ble_eq_true rfl)) dX9_beginning_3 ⟨by first | exact Nat.le_of_ble_eq_true rfl | omega | (show _ ≤ _; omega) | (dsimp only [headSpec]; omega), by first | exact Nat.le_of_ble_eq_true rfl | omega | (show _ ≤ _; omega) | (dsimp only [headSpec]; omega)⟩) hS (fun q _ h => by have h9 := hS.1; (try dsimp only at h); (try dsimp only); (try simp only [kNW] at h); (try simp only [kNW]); omega) (fun q h => by have h9 := hS.1; (try dsimp only at h); (try dsimp only); (try simp only [kNW] at h); (try simp only [kNW]); omega) (fun H_4 locs_1 hz_3 hF_5 hS_2 => ?_)
  have hzf_7 := hF_5.1
  refine W.widen (k := 0) (n := 0) (Nat.le_of_ble_eq_true rfl) (Nat.le_of_ble_eq_true rfl) ?_
  have ho_8 := hz_3
  refine lv_aload_n hx hb dX9_beginning_6 rfl (lv_at hl 0 rfl) ?_
  refine kx_sipush hx hb (by decide) dX9_beginning_7 ?_
  have h_9 := hO_x1.fr hF_5 (fun h => by (try dsimp only at h); (try simp only [kNW] at h); omega)
  have h_10 := hO_bu.fr hF_5 (fun h => by (try dsimp only at h); (try simp only [kNW] at h); omega)
  have h_11 := hA_vb.fr hF_5 (fun h => by (try dsimp only at h); (try simp only [kNW] at h); omega)
  refine kx_ci (va_runV (As := [.int (kI (383))]) (rest := []) ⟨hx, hb, hml, hown, hts⟩ (m_num_n l D H_4 rd (pl + 1) false oa mn x1 st snp hi bu vb ml cap g t 383 ho_8 h_9 h_10 h_11 (by first | assumption | omega) (by first | assumption | omega) (by first | assumption | omega) (by first | assumption | omega) (by first | assumption | omega) ((by omega)) bs_rd ((Or.inr hno))) (cwV 1 hts (lw_V q1633 q1635 qs21 q125 q1636) rfl rfl rfl (by decide +kernel) ⟨Nat.le_of_ble_eq_true rfl, Nat.le_of_ble_eq_true rfl⟩) (kx_pv hK hS_2 hB (kx_rc hK ho_8 (C := RX9) (T := TX9) (N := 5) rfl)) rfl rfl hl.1 rfl (lv_room (Nat.le_of_ble_eq_true rfl)) dX9_beginning_10 ⟨by first | exact Nat.le_of_ble_eq_true rfl | omega | (show _ ≤ _; omega) | (dsimp only [headSpec]; omega), by first | exact Nat.le_of_ble_eq_true rfl | omega | (show _ ≤ _; omega) | (dsimp only [headSpec]; omega)⟩) hS_2 (fun q _ h => by have h9 := hS_2.1; (try dsimp only at h); (try dsimp only); (try simp only [kNW] at h); (try simp only [kNW]); omega) (fun q h => by have h9 := hS_2.1; (try dsimp only at h); (try dsimp only); (try simp only [kNW] at h); (try simp only [kNW]); omega) (fun z_17 H_15 locs_12 hz_14 hF_16 hS_13 => ?_)
  have hzf_18 := hF_16.1
  refine W.widen (k := 0) (n := 0) (Nat.le_of_ble_eq_true rfl) (Nat.le_of_ble_eq_true rfl) ?_
  obtain ⟨hv_19, ho_20⟩ := hz_14
  subst z_17
  refine lv_istore_n (lv' := [(2, .int (kI ((csg t (pl + 1) - 48)))), (0, .ref rd), (1, .int (kI (lv)))]) hx hb dX9_beginning_13 rfl hl (by decide) rfl (fun ls hl => ?_)
  refine lv_iload_n hx hb dX9_beginning_14 rfl (lv_at hl 2 rfl) ?_
  refine lv_iload_n hx hb dX9_beginning_15 rfl (lv_at hl 0 rfl) ?_
  refine kx_lam (i := 4) (σ := ls_5) (vals := [.int (kI (lv)), .int (kI ((csg t (pl + 1) - 48)))]) (rest := []) hx hb hml hl.1 hts hK B.named rfl (by decide) rfl lk_5 hS_13 rfl (fun z hz => by have hz : z ∈ [((.int : FieldType), (.int (kI (lv)) : Value)), ((.int : FieldType), (.int (kI ((csg t (pl + 1) - 48))) : Value))] := hz; simp only [List.mem_cons, List.not_mem_nil, or_false] at hz; rcases hz with rfl | rfl <;> exact ⟨rfl, rfl⟩) (by first | exact Nat.le_of_ble_eq_true rfl | omega | (show _ ≤ _; omega) | (dsimp only [headSpec]; omega)) (by first | exact Nat.le_of_ble_eq_true rfl | omega | (show _ ≤ _; omega) | (dsimp only [headSpec]; omega)) (by first | exact Nat.le_of_ble_eq_true rfl | omega | (show _ ≤ _; omega) | (dsimp only [headSpec]; omega)) dX9_beginning_16 (fun lm_21 H_22 hq_23 hz_24 hL_25 hE_26 hS_27 => ?_)
  have hge_lm_21 : s.heap.size ≤ lm_21 := by rw [hq_23]; exact hS_13.1
  refine W.widen (k := 1) (n := 2) (Nat.le_of_ble_eq_true rfl) (Nat.le_of_ble_eq_true rfl) ?_
  have h_28 := ho_20.ex hE_26
  exact kx_aret (z := lm_21) hx hb hr (by first | exact Or.inl ⟨_, rfl⟩ | exact Or.inr ⟨_, rfl⟩) hlk (⟨h_28, by first | assumption | rfl | omega | grind⟩) hS_27 dX9_beginning_21

set_option maxHeartbeats 4000000 in
set_option maxRecDepth 100000 in
theorem m_lab_y (l : Launch) (D : kG) (H : Heap) (rd : Nat) (pl : Nat) (oa : Nat) (mn : Nat) (x1 : Nat) (st : Nat) (snp : Option Nat) (hi : Nat) (bu : Nat) (vb : Nat) (ml : Bool) (cap : Nat) (g : Nat → Int) (t : List Int) (lv : Int) (hO_rd : kO D H rd 8 [.int (kI ((pl : Nat) : Int)), .int (kI (kb (false))), .ref oa, .int (kI ((mn : Nat) : Int)), .ref x1]) (hO_x1 : kO D H x1 0 [.ref st, va_rf (snp), .ref hi, .ref bu]) (hO_bu : kO D H bu 11 [.ref vb, .int (kI (0)), .int (kI (kb (ml))), .int (kI ((t.length : Nat) : Int))]) (hA_vb : kAb D H vb cap g) (hT : MTx g t) (ht60 : t.length ≤ 60) (hcap : t.length ≤ cap) (hc9 : cap ≤ 1000) (hpl : pl ≤ 62) (bs_rd : kBase D ≤ rd) (hcs : csg t pl = 46) (hdg : 48 ≤ csg t (pl + 1) ∧ csg t (pl + 1) ≤ 57) : Met l yX9_labelling (ws_ yX9_labelling cX9_labelling 3 (some (.object "ContourLabels$Order"))) ({ frames := 7, cells := 1, slots := 2, locals := 3100 } : Room) (kPre D H [.ref rd, .int (kI (lv))]) (kQr (fun (r : Nat) H' => (kO D H' rd 8 [.int (kI (((tx_num t 59 (pl + 1)).2 : Nat) : Int)), .int (kI (kb (false))), .ref oa, .int (kI ((mn : Nat) : Int)), .ref x1]) ∧ (kLm D H' r 12 [.int (kI (lv)), .int (kI ((tx_num t 59 (pl + 1)).1))]) ∧ (H.size ≤ r)) (fun q : Nat => q = rd ∨ H.size ≤ q)) (1) (2) ((fun q : Nat => q = rd ∨ H.size ≤ q)) := by
  refine Met.ofW (cc := cX9_labelling) (maxL := 3) (ret := (some (.object "ContourLabels$Order"))) (by decide) rfl ?_
  intro p e s m args below meth c s₁ B hml hv
  obtain ⟨rfl, hH, hK⟩ := hv
  subst hH
  have hx := B.exec
  have hb := B.bytes
  have hr := B.returns
  have hts := atoms_spec (ws := ws_ yX9_labelling cX9_labelling 3 (some (.object "ContourLabels$Order"))) B.pre
  have hts : ∀ w ∈ lw_all, w.before _ s = true := fun w h => hts w (List.mem_cons_of_mem _ h)
  have hown : s.vm.findClass RX9 = some m.cls := findClass_of_methodNamed B.named
  have hlk := B.notSynchronized
  have hS : va_S (fun q : Nat => q = rd ∨ s.heap.size ≤ q) s.heap s.heap [] := va_S.rf
  have hB : ∀ q, (fun q : Nat => q = rd ∨ s.heap.size ≤ q) q → kBase D ≤ q := fun q h => by (try dsimp only at h); (try simp only [kNW] at h); have hks := hK.size; omega
  have hl := lv_entry ([.ref rd, .int (kI (lv))]) (n := 3) (Nat.le_of_ble_eq_true rfl)
  rw [lg_entry_eq]
  generalize (lg_sl ([.ref rd, .int (kI (lv))]) ++ List.replicate (3 - (lg_sl ([.ref rd, .int (kI (lv))])).length) Slot.unset).toArray = ls at hl ⊢
  have hl : lv_has ls 3 [(0, .ref rd), (1, .int (kI (lv)))] := hl
  have hd9 := hK.dis
  have ne_x1_rd : x1 ≠ rd := kO_ne hd9 hO_x1 hO_rd (by decide) (by decide) (by decide)
  have ne_bu_rd : bu ≠ rd := kO_ne hd9 hO_bu hO_rd (by decide) (by decide) (by decide)
  have ne_rd_vb : rd ≠ vb := kOA_ne hd9 hO_rd hA_vb (by decide) (by decide)
  have hltx1 := hO_x1.lt
  have hltrd := hO_rd.lt
  have hltbu := hO_bu.lt
  have hltvb := hA_vb.lt
  have hcoP := csg_or t pl
  have hcrP := hT.cr pl
  refine lv_aload_n hx hb dX9_labelling_0 rfl (lv_at hl 0 rfl) ?_
  refine kx_bipush hx hb (by decide) dX9_labelling_1 ?_
  refine kx_cv (va_runV (As := [.int (kI (46))]) (rest := []) ⟨hx, hb, hml, hown, hts⟩ (m_ned_y l D s.heap rd pl oa mn x1 st snp hi bu vb ml cap g t 46 hO_rd hO_x1 hO_bu hA_vb (by first | assumption | omega) (by first | assumption | omega) (by first | assumption | omega) (by first | assumption | omega) (by first | assumption | omega) ((by omega)) bs_rd hcs) (cwV 1 hts (lw_V q1645 q1647 qs24 q125 q1648) rfl rfl rfl (by decide +kernel) ⟨Nat.le_of_ble_eq_true rfl, Nat.le_of_ble_eq_true rfl⟩) (kx_pv hK hS hB (kx_rc hK hO_rd (C := RX9) (T := TX9) (N := 5) rfl)) rfl rfl hl.1 rfl (lv_room (Nat.le_of_ble_eq_true rfl)) dX9_labelling_3 ⟨by first | exact Nat.le_of_ble_eq_true rfl | omega | (show _ ≤ _; omega) | (dsimp only [headSpec]; omega), by first | exact Nat.le_of_ble_eq_true rfl | omega | (show _ ≤ _; omega) | (dsimp only [headSpec]; omega)⟩) hS (fun q _ h => by have h9 := hS.1; (try dsimp only at h); (try dsimp only); (try simp only [kNW] at h); (try simp only [kNW]); omega) (fun q h => by have h9 := hS.1; (try dsimp only at h); (try dsimp only); (try simp only [kNW] at h); (try simp only [kNW]); omega) (fun H_4 locs_1 hz_3 hF_5 hS_2 => ?_)
  have hzf_7 := hF_5.1
  refine W.widen (k := 0) (n := 0) (Nat.le_of_ble_eq_true rfl) (Nat.le_of_ble_eq_true rfl) ?_
  have ho_8 := hz_3
  refine lv_aload_n hx hb dX9_labelling_6 rfl (lv_at hl 0 rfl) ?_
  refine kx_bipush hx hb (by decide) dX9_labelling_7 ?_
  have h_9 := hO_x1.fr hF_5 (fun h => by (try dsimp only at h); (try simp only [kNW] at h); omega)
  have h_10 := hO_bu.fr hF_5 (fun h => by (try dsimp only at h); (try simp only [kNW] at h); omega)
  have h_11 := hA_vb.fr hF_5 (fun h => by (try dsimp only at h); (try simp only [kNW] at h); omega)
  refine kx_ci (va_runV (As := [.int (kI (59))]) (rest := []) ⟨hx, hb, hml, hown, hts⟩ (m_num_y l D H_4 rd (pl + 1) oa mn x1 st snp hi bu vb ml cap g t 59 ho_8 h_9 h_10 h_11 (by first | assumption | omega) (by first | assumption | omega) (by first | assumption | omega) (by first | assumption | omega) (by first | assumption | omega) ((by omega)) bs_rd hdg) (cwV 1 hts (lw_V q1633 q1635 qs21 q125 q1636) rfl rfl rfl (by decide +kernel) ⟨Nat.le_of_ble_eq_true rfl, Nat.le_of_ble_eq_true rfl⟩) (kx_pv hK hS_2 hB (kx_rc hK ho_8 (C := RX9) (T := TX9) (N := 5) rfl)) rfl rfl hl.1 rfl (lv_room (Nat.le_of_ble_eq_true rfl)) dX9_labelling_9 ⟨by first | exact Nat.le_of_ble_eq_true rfl | omega | (show _ ≤ _; omega) | (dsimp only [headSpec]; omega), by first | exact Nat.le_of_ble_eq_true rfl | omega | (show _ ≤ _; omega) | (dsimp only [headSpec]; omega)⟩) hS_2 (fun q _ h => by have h9 := hS_2.1; (try dsimp only at h); (try dsimp only); (try simp only [kNW] at h); (try simp only [kNW]); omega) (fun q h => by have h9 := hS_2.1; (try dsimp only at h); (try dsimp only); (try simp only [kNW] at h); (try simp only [kNW]); omega) (fun z_17 H_15 locs_12 hz_14 hF_16 hS_13 => ?_)
  have hzf_18 := hF_16.1
  refine W.widen (k := 0) (n := 0) (Nat.le_of_ble_eq_true rfl) (Nat.le_of_ble_eq_true rfl) ?_
  obtain ⟨hv_19, ho_20⟩ := hz_14
  subst z_17
  refine lv_istore_n (lv' := [(2, .int (kI ((tx_num t 59 (pl + 1)).1))), (0, .ref rd), (1, .int (kI (lv)))]) hx hb dX9_labelling_12 rfl hl (by decide) rfl (fun ls hl => ?_)
  refine lv_iload_n hx hb dX9_labelling_13 rfl (lv_at hl 2 rfl) ?_
  refine lv_iload_n hx hb dX9_labelling_14 rfl (lv_at hl 0 rfl) ?_
  refine kx_lam (i := 12) (σ := ls_13) (vals := [.int (kI (lv)), .int (kI ((tx_num t 59 (pl + 1)).1))]) (rest := []) hx hb hml hl.1 hts hK B.named rfl (by decide) rfl lk_13 hS_13 rfl (fun z hz => by have hz : z ∈ [((.int : FieldType), (.int (kI (lv)) : Value)), ((.int : FieldType), (.int (kI ((tx_num t 59 (pl + 1)).1)) : Value))] := hz; simp only [List.mem_cons, List.not_mem_nil, or_false] at hz; rcases hz with rfl | rfl <;> exact ⟨rfl, rfl⟩) (by first | exact Nat.le_of_ble_eq_true rfl | omega | (show _ ≤ _; omega) | (dsimp only [headSpec]; omega)) (by first | exact Nat.le_of_ble_eq_true rfl | omega | (show _ ≤ _; omega) | (dsimp only [headSpec]; omega)) (by first | exact Nat.le_of_ble_eq_true rfl | omega | (show _ ≤ _; omega) | (dsimp only [headSpec]; omega)) dX9_labelling_15 (fun lm_21 H_22 hq_23 hz_24 hL_25 hE_26 hS_27 => ?_)
  have hge_lm_21 : s.heap.size ≤ lm_21 := by rw [hq_23]; exact hS_13.1
  refine W.widen (k := 1) (n := 2) (Nat.le_of_ble_eq_true rfl) (Nat.le_of_ble_eq_true rfl) ?_
  have h_28 := ho_20.ex hE_26
  exact kx_aret (z := lm_21) hx hb hr (by first | exact Or.inl ⟨_, rfl⟩ | exact Or.inr ⟨_, rfl⟩) hlk (⟨h_28, hL_25, by first | assumption | rfl | omega | grind⟩) hS_27 dX9_labelling_20

set_option maxHeartbeats 4000000 in
set_option maxRecDepth 100000 in
theorem m_lab_n1 (l : Launch) (D : kG) (H : Heap) (rd : Nat) (pl : Nat) (w : Bool) (oa : Nat) (mn : Nat) (x1 : Nat) (st : Nat) (snp : Option Nat) (hi : Nat) (bu : Nat) (vb : Nat) (ml : Bool) (cap : Nat) (g : Nat → Int) (t : List Int) (lv : Int) (hO_rd : kO D H rd 8 [.int (kI ((pl : Nat) : Int)), .int (kI (kb (w))), .ref oa, .int (kI ((mn : Nat) : Int)), .ref x1]) (hO_x1 : kO D H x1 0 [.ref st, va_rf (snp), .ref hi, .ref bu]) (hO_bu : kO D H bu 11 [.ref vb, .int (kI (0)), .int (kI (kb (ml))), .int (kI ((t.length : Nat) : Int))]) (hA_vb : kAb D H vb cap g) (hT : MTx g t) (ht60 : t.length ≤ 60) (hcap : t.length ≤ cap) (hc9 : cap ≤ 1000) (hpl : pl ≤ 62) (bs_rd : kBase D ≤ rd) (hno : w = true ∨ csg t pl ≠ 46) : Met l yX9_labelling (ws_ yX9_labelling cX9_labelling 3 (some (.object "ContourLabels$Order"))) ({ frames := 7, cells := 1, slots := 2, locals := 3100 } : Room) (kPre D H [.ref rd, .int (kI (lv))]) (kQr (fun (r : Nat) H' => (kO D H' rd 8 [.int (kI ((pl : Nat) : Int)), .int (kI (kb (true))), .ref oa, .int (kI ((mn : Nat) : Int)), .ref x1]) ∧ (H.size ≤ r)) (fun q : Nat => q = rd ∨ H.size ≤ q)) (1) (2) ((fun q : Nat => q = rd ∨ H.size ≤ q)) := by
  refine Met.ofW (cc := cX9_labelling) (maxL := 3) (ret := (some (.object "ContourLabels$Order"))) (by decide) rfl ?_
  intro p e s m args below meth c s₁ B hml hv
  obtain ⟨rfl, hH, hK⟩ := hv
  subst hH
  have hx := B.exec
  have hb := B.bytes
  have hr := B.returns
  have hts := atoms_spec (ws := ws_ yX9_labelling cX9_labelling 3 (some (.object "ContourLabels$Order"))) B.pre
  have hts : ∀ w ∈ lw_all, w.before _ s = true := fun w h => hts w (List.mem_cons_of_mem _ h)
  have hown : s.vm.findClass RX9 = some m.cls := findClass_of_methodNamed B.named
  have hlk := B.notSynchronized
  have hS : va_S (fun q : Nat => q = rd ∨ s.heap.size ≤ q) s.heap s.heap [] := va_S.rf
  have hB : ∀ q, (fun q : Nat => q = rd ∨ s.heap.size ≤ q) q → kBase D ≤ q := fun q h => by (try dsimp only at h); (try simp only [kNW] at h); have hks := hK.size; omega
  have hl := lv_entry ([.ref rd, .int (kI (lv))]) (n := 3) (Nat.le_of_ble_eq_true rfl)
  rw [lg_entry_eq]
  generalize (lg_sl ([.ref rd, .int (kI (lv))]) ++ List.replicate (3 - (lg_sl ([.ref rd, .int (kI (lv))])).length) Slot.unset).toArray = ls at hl ⊢
  have hl : lv_has ls 3 [(0, .ref rd), (1, .int (kI (lv)))] := hl
  have hd9 := hK.dis
  have ne_x1_rd : x1 ≠ rd := kO_ne hd9 hO_x1 hO_rd (by decide) (by decide) (by decide)
  have ne_bu_rd : bu ≠ rd := kO_ne hd9 hO_bu hO_rd (by decide) (by decide) (by decide)
  have ne_rd_vb : rd ≠ vb := kOA_ne hd9 hO_rd hA_vb (by decide) (by decide)
  have hltx1 := hO_x1.lt
  have hltrd := hO_rd.lt
  have hltbu := hO_bu.lt
  have hltvb := hA_vb.lt
  have hcoP := csg_or t pl
  have hcrP := hT.cr pl
  refine lv_aload_n hx hb dX9_labelling_0 rfl (lv_at hl 0 rfl) ?_
  refine kx_bipush hx hb (by decide) dX9_labelling_1 ?_
  refine kx_cv (va_runV (As := [.int (kI (46))]) (rest := []) ⟨hx, hb, hml, hown, hts⟩ (m_ned_n l D s.heap rd pl w oa mn x1 st snp hi bu vb ml cap g t 46 hO_rd hO_x1 hO_bu hA_vb (by first | assumption | omega) (by first | assumption | omega) (by first | assumption | omega) (by first | assumption | omega) (by first | assumption | omega) ((by omega)) bs_rd hno) (cwV 1 hts (lw_V q1645 q1647 qs24 q125 q1648) rfl rfl rfl (by decide +kernel) ⟨Nat.le_of_ble_eq_true rfl, Nat.le_of_ble_eq_true rfl⟩) (kx_pv hK hS hB (kx_rc hK hO_rd (C := RX9) (T := TX9) (N := 5) rfl)) rfl rfl hl.1 rfl (lv_room (Nat.le_of_ble_eq_true rfl)) dX9_labelling_3 ⟨by first | exact Nat.le_of_ble_eq_true rfl | omega | (show _ ≤ _; omega) | (dsimp only [headSpec]; omega), by first | exact Nat.le_of_ble_eq_true rfl | omega | (show _ ≤ _; omega) | (dsimp only [headSpec]; omega)⟩) hS (fun q _ h => by have h9 := hS.1; (try dsimp only at h); (try dsimp only); (try simp only [kNW] at h); (try simp only [kNW]); omega) (fun q h => by have h9 := hS.1; (try dsimp only at h); (try dsimp only); (try simp only [kNW] at h); (try simp only [kNW]); omega) (fun H_4 locs_1 hz_3 hF_5 hS_2 => ?_)
  have hzf_7 := hF_5.1
  refine W.widen (k := 0) (n := 0) (Nat.le_of_ble_eq_true rfl) (Nat.le_of_ble_eq_true rfl) ?_
  have ho_8 := hz_3
  refine lv_aload_n hx hb dX9_labelling_6 rfl (lv_at hl 0 rfl) ?_
  refine kx_bipush hx hb (by decide) dX9_labelling_7 ?_
  have h_9 := hO_x1.fr hF_5 (fun h => by (try dsimp only at h); (try simp only [kNW] at h); omega)
  have h_10 := hO_bu.fr hF_5 (fun h => by (try dsimp only at h); (try simp only [kNW] at h); omega)
  have h_11 := hA_vb.fr hF_5 (fun h => by (try dsimp only at h); (try simp only [kNW] at h); omega)
  refine kx_ci (va_runV (As := [.int (kI (59))]) (rest := []) ⟨hx, hb, hml, hown, hts⟩ (m_num_n l D H_4 rd pl true oa mn x1 st snp hi bu vb ml cap g t 59 ho_8 h_9 h_10 h_11 (by first | assumption | omega) (by first | assumption | omega) (by first | assumption | omega) (by first | assumption | omega) (by first | assumption | omega) ((by omega)) bs_rd ((Or.inl rfl))) (cwV 1 hts (lw_V q1633 q1635 qs21 q125 q1636) rfl rfl rfl (by decide +kernel) ⟨Nat.le_of_ble_eq_true rfl, Nat.le_of_ble_eq_true rfl⟩) (kx_pv hK hS_2 hB (kx_rc hK ho_8 (C := RX9) (T := TX9) (N := 5) rfl)) rfl rfl hl.1 rfl (lv_room (Nat.le_of_ble_eq_true rfl)) dX9_labelling_9 ⟨by first | exact Nat.le_of_ble_eq_true rfl | omega | (show _ ≤ _; omega) | (dsimp only [headSpec]; omega), by first | exact Nat.le_of_ble_eq_true rfl | omega | (show _ ≤ _; omega) | (dsimp only [headSpec]; omega)⟩) hS_2 (fun q _ h => by have h9 := hS_2.1; (try dsimp only at h); (try dsimp only); (try simp only [kNW] at h); (try simp only [kNW]); omega) (fun q h => by have h9 := hS_2.1; (try dsimp only at h); (try dsimp only); (try simp only [kNW] at h); (try simp only [kNW]); omega) (fun z_17 H_15 locs_12 hz_14 hF_16 hS_13 => ?_)
  have hzf_18 := hF_16.1
  refine W.widen (k := 0) (n := 0) (Nat.le_of_ble_eq_true rfl) (Nat.le_of_ble_eq_true rfl) ?_
  obtain ⟨hv_19, ho_20⟩ := hz_14
  subst z_17
  refine lv_istore_n (lv' := [(2, .int (kI ((csg t pl - 48)))), (0, .ref rd), (1, .int (kI (lv)))]) hx hb dX9_labelling_12 rfl hl (by decide) rfl (fun ls hl => ?_)
  refine lv_iload_n hx hb dX9_labelling_13 rfl (lv_at hl 2 rfl) ?_
  refine lv_iload_n hx hb dX9_labelling_14 rfl (lv_at hl 0 rfl) ?_
  refine kx_lam (i := 12) (σ := ls_13) (vals := [.int (kI (lv)), .int (kI ((csg t pl - 48)))]) (rest := []) hx hb hml hl.1 hts hK B.named rfl (by decide) rfl lk_13 hS_13 rfl (fun z hz => by have hz : z ∈ [((.int : FieldType), (.int (kI (lv)) : Value)), ((.int : FieldType), (.int (kI ((csg t pl - 48))) : Value))] := hz; simp only [List.mem_cons, List.not_mem_nil, or_false] at hz; rcases hz with rfl | rfl <;> exact ⟨rfl, rfl⟩) (by first | exact Nat.le_of_ble_eq_true rfl | omega | (show _ ≤ _; omega) | (dsimp only [headSpec]; omega)) (by first | exact Nat.le_of_ble_eq_true rfl | omega | (show _ ≤ _; omega) | (dsimp only [headSpec]; omega)) (by first | exact Nat.le_of_ble_eq_true rfl | omega | (show _ ≤ _; omega) | (dsimp only [headSpec]; omega)) dX9_labelling_15 (fun lm_21 H_22 hq_23 hz_24 hL_25 hE_26 hS_27 => ?_)
  have hge_lm_21 : s.heap.size ≤ lm_21 := by rw [hq_23]; exact hS_13.1
  refine W.widen (k := 1) (n := 2) (Nat.le_of_ble_eq_true rfl) (Nat.le_of_ble_eq_true rfl) ?_
  have h_28 := ho_20.ex hE_26
  exact kx_aret (z := lm_21) hx hb hr (by first | exact Or.inl ⟨_, rfl⟩ | exact Or.inr ⟨_, rfl⟩) hlk (⟨h_28, by first | assumption | rfl | omega | grind⟩) hS_27 dX9_labelling_20

set_option maxHeartbeats 4000000 in
set_option maxRecDepth 100000 in
theorem m_lab_n2 (l : Launch) (D : kG) (H : Heap) (rd : Nat) (pl : Nat) (oa : Nat) (mn : Nat) (x1 : Nat) (st : Nat) (snp : Option Nat) (hi : Nat) (bu : Nat) (vb : Nat) (ml : Bool) (cap : Nat) (g : Nat → Int) (t : List Int) (lv : Int) (hO_rd : kO D H rd 8 [.int (kI ((pl : Nat) : Int)), .int (kI (kb (false))), .ref oa, .int (kI ((mn : Nat) : Int)), .ref x1]) (hO_x1 : kO D H x1 0 [.ref st, va_rf (snp), .ref hi, .ref bu]) (hO_bu : kO D H bu 11 [.ref vb, .int (kI (0)), .int (kI (kb (ml))), .int (kI ((t.length : Nat) : Int))]) (hA_vb : kAb D H vb cap g) (hT : MTx g t) (ht60 : t.length ≤ 60) (hcap : t.length ≤ cap) (hc9 : cap ≤ 1000) (hpl : pl ≤ 62) (bs_rd : kBase D ≤ rd) (hcs : csg t pl = 46) (hno : ¬ (48 ≤ csg t (pl + 1) ∧ csg t (pl + 1) ≤ 57)) : Met l yX9_labelling (ws_ yX9_labelling cX9_labelling 3 (some (.object "ContourLabels$Order"))) ({ frames := 7, cells := 1, slots := 2, locals := 3100 } : Room) (kPre D H [.ref rd, .int (kI (lv))]) (kQr (fun (r : Nat) H' => (kO D H' rd 8 [.int (kI ((pl + 1 : Nat) : Int)), .int (kI (kb (true))), .ref oa, .int (kI ((mn : Nat) : Int)), .ref x1]) ∧ (H.size ≤ r)) (fun q : Nat => q = rd ∨ H.size ≤ q)) (1) (2) ((fun q : Nat => q = rd ∨ H.size ≤ q)) := by
  refine Met.ofW (cc := cX9_labelling) (maxL := 3) (ret := (some (.object "ContourLabels$Order"))) (by decide) rfl ?_
  intro p e s m args below meth c s₁ B hml hv
  obtain ⟨rfl, hH, hK⟩ := hv
  subst hH
  have hx := B.exec
  have hb := B.bytes
  have hr := B.returns
  have hts := atoms_spec (ws := ws_ yX9_labelling cX9_labelling 3 (some (.object "ContourLabels$Order"))) B.pre
  have hts : ∀ w ∈ lw_all, w.before _ s = true := fun w h => hts w (List.mem_cons_of_mem _ h)
  have hown : s.vm.findClass RX9 = some m.cls := findClass_of_methodNamed B.named
  have hlk := B.notSynchronized
  have hS : va_S (fun q : Nat => q = rd ∨ s.heap.size ≤ q) s.heap s.heap [] := va_S.rf
  have hB : ∀ q, (fun q : Nat => q = rd ∨ s.heap.size ≤ q) q → kBase D ≤ q := fun q h => by (try dsimp only at h); (try simp only [kNW] at h); have hks := hK.size; omega
  have hl := lv_entry ([.ref rd, .int (kI (lv))]) (n := 3) (Nat.le_of_ble_eq_true rfl)
  rw [lg_entry_eq]
  generalize (lg_sl ([.ref rd, .int (kI (lv))]) ++ List.replicate (3 - (lg_sl ([.ref rd, .int (kI (lv))])).length) Slot.unset).toArray = ls at hl ⊢
  have hl : lv_has ls 3 [(0, .ref rd), (1, .int (kI (lv)))] := hl
  have hd9 := hK.dis
  have ne_x1_rd : x1 ≠ rd := kO_ne hd9 hO_x1 hO_rd (by decide) (by decide) (by decide)
  have ne_bu_rd : bu ≠ rd := kO_ne hd9 hO_bu hO_rd (by decide) (by decide) (by decide)
  have ne_rd_vb : rd ≠ vb := kOA_ne hd9 hO_rd hA_vb (by decide) (by decide)
  have hltx1 := hO_x1.lt
  have hltrd := hO_rd.lt
  have hltbu := hO_bu.lt
  have hltvb := hA_vb.lt
  have hcoP := csg_or t pl
  have hcrP := hT.cr pl
  refine lv_aload_n hx hb dX9_labelling_0 rfl (lv_at hl 0 rfl) ?_
  refine kx_bipush hx hb (by decide) dX9_labelling_1 ?_
  refine kx_cv (va_runV (As := [.int (kI (46))]) (rest := []) ⟨hx, hb, hml, hown, hts⟩ (m_ned_y l D s.heap rd pl oa mn x1 st snp hi bu vb ml cap g t 46 hO_rd hO_x1 hO_bu hA_vb (by first | assumption | omega) (by first | assumption | omega) (by first | assumption | omega) (by first | assumption | omega) (by first | assumption | omega) ((by omega)) bs_rd hcs) (cwV 1 hts (lw_V q1645 q1647 qs24 q125 q1648) rfl rfl rfl (by decide +kernel) ⟨Nat.le_of_ble_eq_true rfl, Nat.le_of_ble_eq_true rfl⟩) (kx_pv hK hS hB (kx_rc hK hO_rd (C := RX9) (T := TX9) (N := 5) rfl)) rfl rfl hl.1 rfl (lv_room (Nat.le_of_ble_eq_true rfl)) dX9_labelling_3 ⟨by first | exact Nat.le_of_ble_eq_true rfl | omega | (show _ ≤ _; omega) | (dsimp only [headSpec]; omega), by first | exact Nat.le_of_ble_eq_true rfl | omega | (show _ ≤ _; omega) | (dsimp only [headSpec]; omega)⟩) hS (fun q _ h => by have h9 := hS.1; (try dsimp only at h); (try dsimp only); (try simp only [kNW] at h); (try simp only [kNW]); omega) (fun q h => by have h9 := hS.1; (try dsimp only at h); (try dsimp only); (try simp only [kNW] at h); (try simp only [kNW]); omega) (fun H_4 locs_1 hz_3 hF_5 hS_2 => ?_)
  have hzf_7 := hF_5.1
  refine W.widen (k := 0) (n := 0) (Nat.le_of_ble_eq_true rfl) (Nat.le_of_ble_eq_true rfl) ?_
  have ho_8 := hz_3
  refine lv_aload_n hx hb dX9_labelling_6 rfl (lv_at hl 0 rfl) ?_
  refine kx_bipush hx hb (by decide) dX9_labelling_7 ?_
  have h_9 := hO_x1.fr hF_5 (fun h => by (try dsimp only at h); (try simp only [kNW] at h); omega)
  have h_10 := hO_bu.fr hF_5 (fun h => by (try dsimp only at h); (try simp only [kNW] at h); omega)
  have h_11 := hA_vb.fr hF_5 (fun h => by (try dsimp only at h); (try simp only [kNW] at h); omega)
  refine kx_ci (va_runV (As := [.int (kI (59))]) (rest := []) ⟨hx, hb, hml, hown, hts⟩ (m_num_n l D H_4 rd (pl + 1) false oa mn x1 st snp hi bu vb ml cap g t 59 ho_8 h_9 h_10 h_11 (by first | assumption | omega) (by first | assumption | omega) (by first | assumption | omega) (by first | assumption | omega) (by first | assumption | omega) ((by omega)) bs_rd ((Or.inr hno))) (cwV 1 hts (lw_V q1633 q1635 qs21 q125 q1636) rfl rfl rfl (by decide +kernel) ⟨Nat.le_of_ble_eq_true rfl, Nat.le_of_ble_eq_true rfl⟩) (kx_pv hK hS_2 hB (kx_rc hK ho_8 (C := RX9) (T := TX9) (N := 5) rfl)) rfl rfl hl.1 rfl (lv_room (Nat.le_of_ble_eq_true rfl)) dX9_labelling_9 ⟨by first | exact Nat.le_of_ble_eq_true rfl | omega | (show _ ≤ _; omega) | (dsimp only [headSpec]; omega), by first | exact Nat.le_of_ble_eq_true rfl | omega | (show _ ≤ _; omega) | (dsimp only [headSpec]; omega)⟩) hS_2 (fun q _ h => by have h9 := hS_2.1; (try dsimp only at h); (try dsimp only); (try simp only [kNW] at h); (try simp only [kNW]); omega) (fun q h => by have h9 := hS_2.1; (try dsimp only at h); (try dsimp only); (try simp only [kNW] at h); (try simp only [kNW]); omega) (fun z_17 H_15 locs_12 hz_14 hF_16 hS_13 => ?_)
  have hzf_18 := hF_16.1
  refine W.widen (k := 0) (n := 0) (Nat.le_of_ble_eq_true rfl) (Nat.le_of_ble_eq_true rfl) ?_
  obtain ⟨hv_19, ho_20⟩ := hz_14
  subst z_17
  refine lv_istore_n (lv' := [(2, .int (kI ((csg t (pl + 1) - 48)))), (0, .ref rd), (1, .int (kI (lv)))]) hx hb dX9_labelling_12 rfl hl (by decide) rfl (fun ls hl => ?_)
  refine lv_iload_n hx hb dX9_labelling_13 rfl (lv_at hl 2 rfl) ?_
  refine lv_iload_n hx hb dX9_labelling_14 rfl (lv_at hl 0 rfl) ?_
  refine kx_lam (i := 12) (σ := ls_13) (vals := [.int (kI (lv)), .int (kI ((csg t (pl + 1) - 48)))]) (rest := []) hx hb hml hl.1 hts hK B.named rfl (by decide) rfl lk_13 hS_13 rfl (fun z hz => by have hz : z ∈ [((.int : FieldType), (.int (kI (lv)) : Value)), ((.int : FieldType), (.int (kI ((csg t (pl + 1) - 48))) : Value))] := hz; simp only [List.mem_cons, List.not_mem_nil, or_false] at hz; rcases hz with rfl | rfl <;> exact ⟨rfl, rfl⟩) (by first | exact Nat.le_of_ble_eq_true rfl | omega | (show _ ≤ _; omega) | (dsimp only [headSpec]; omega)) (by first | exact Nat.le_of_ble_eq_true rfl | omega | (show _ ≤ _; omega) | (dsimp only [headSpec]; omega)) (by first | exact Nat.le_of_ble_eq_true rfl | omega | (show _ ≤ _; omega) | (dsimp only [headSpec]; omega)) dX9_labelling_15 (fun lm_21 H_22 hq_23 hz_24 hL_25 hE_26 hS_27 => ?_)
  have hge_lm_21 : s.heap.size ≤ lm_21 := by rw [hq_23]; exact hS_13.1
  refine W.widen (k := 1) (n := 2) (Nat.le_of_ble_eq_true rfl) (Nat.le_of_ble_eq_true rfl) ?_
  have h_28 := ho_20.ex hE_26
  exact kx_aret (z := lm_21) hx hb hr (by first | exact Or.inl ⟨_, rfl⟩ | exact Or.inr ⟨_, rfl⟩) hlk (⟨h_28, by first | assumption | rfl | omega | grind⟩) hS_27 dX9_labelling_20

set_option maxHeartbeats 4000000 in
set_option maxRecDepth 100000 in
theorem m_X9_wiping (l : Launch) (D : kG) (H : Heap) (rd : Nat) (lv : Int) : Met l yX9_wiping (ws_ yX9_wiping cX9_wiping 2 (some (.object "ContourLabels$Order"))) ({ frames := 0, cells := 1, slots := 1, locals := 3100 } : Room) (kPre D H [.ref rd, .int (kI (lv))]) (kQr (fun (r : Nat) H' => (kLm D H' r 11 [.int (kI (lv))]) ∧ (H.size ≤ r)) (kNW H)) (1) (1) ((kNW H)) := by
  refine Met.ofW (cc := cX9_wiping) (maxL := 2) (ret := (some (.object "ContourLabels$Order"))) (by decide) rfl ?_
  intro p e s m args below meth c s₁ B hml hv
  obtain ⟨rfl, hH, hK⟩ := hv
  subst hH
  have hx := B.exec
  have hb := B.bytes
  have hr := B.returns
  have hts := atoms_spec (ws := ws_ yX9_wiping cX9_wiping 2 (some (.object "ContourLabels$Order"))) B.pre
  have hts : ∀ w ∈ lw_all, w.before _ s = true := fun w h => hts w (List.mem_cons_of_mem _ h)
  have hown : s.vm.findClass RX9 = some m.cls := findClass_of_methodNamed B.named
  have hlk := B.notSynchronized
  have hS : va_S (kNW s.heap) s.heap s.heap [] := va_S.rf
  have hB : ∀ q, (kNW s.heap) q → kBase D ≤ q := fun q h => Nat.le_trans hK.size h
  have hl := lv_entry ([.ref rd, .int (kI (lv))]) (n := 2) (Nat.le_of_ble_eq_true rfl)
  rw [lg_entry_eq]
  generalize (lg_sl ([.ref rd, .int (kI (lv))]) ++ List.replicate (2 - (lg_sl ([.ref rd, .int (kI (lv))])).length) Slot.unset).toArray = ls at hl ⊢
  have hl : lv_has ls 2 [(0, .ref rd), (1, .int (kI (lv)))] := hl
  refine lv_iload_n hx hb dX9_wiping_0 rfl (lv_at hl 1 rfl) ?_
  refine kx_lam (i := 11) (σ := ls_12) (vals := [.int (kI (lv))]) (rest := []) hx hb hml hl.1 hts hK B.named rfl (by decide) rfl lk_12 hS rfl (fun z hz => by have hz : z ∈ [((.int : FieldType), (.int (kI (lv)) : Value))] := hz; simp only [List.mem_cons, List.not_mem_nil, or_false] at hz; rcases hz with rfl <;> exact ⟨rfl, rfl⟩) (by first | exact Nat.le_of_ble_eq_true rfl | omega | (show _ ≤ _; omega) | (dsimp only [headSpec]; omega)) (by first | exact Nat.le_of_ble_eq_true rfl | omega | (show _ ≤ _; omega) | (dsimp only [headSpec]; omega)) (by first | exact Nat.le_of_ble_eq_true rfl | omega | (show _ ≤ _; omega) | (dsimp only [headSpec]; omega)) dX9_wiping_1 (fun lm_1 H_2 hq_3 hz_4 hL_5 hE_6 hS_7 => ?_)
  have hge_lm_1 : s.heap.size ≤ lm_1 := by rw [hq_3]; exact hS.1
  refine W.widen (k := 1) (n := 1) (Nat.le_of_ble_eq_true rfl) (Nat.le_of_ble_eq_true rfl) ?_
  exact kx_aret (z := lm_1) hx hb hr (by first | exact Or.inl ⟨_, rfl⟩ | exact Or.inr ⟨_, rfl⟩) hlk (⟨hL_5, by first | assumption | rfl | omega | grind⟩) hS_7 dX9_wiping_6

set_option maxHeartbeats 4000000 in
set_option maxRecDepth 100000 in
theorem m_X9_unlabelling (l : Launch) (D : kG) (H : Heap) (rd : Nat) (lv : Int) : Met l yX9_unlabelling (ws_ yX9_unlabelling cX9_unlabelling 2 (some (.object "ContourLabels$Order"))) ({ frames := 0, cells := 1, slots := 1, locals := 3100 } : Room) (kPre D H [.ref rd, .int (kI (lv))]) (kQr (fun (r : Nat) H' => (kLm D H' r 13 [.int (kI (lv))]) ∧ (H.size ≤ r)) (kNW H)) (1) (1) ((kNW H)) := by
  refine Met.ofW (cc := cX9_unlabelling) (maxL := 2) (ret := (some (.object "ContourLabels$Order"))) (by decide) rfl ?_
  intro p e s m args below meth c s₁ B hml hv
  obtain ⟨rfl, hH, hK⟩ := hv
  subst hH
  have hx := B.exec
  have hb := B.bytes
  have hr := B.returns
  have hts := atoms_spec (ws := ws_ yX9_unlabelling cX9_unlabelling 2 (some (.object "ContourLabels$Order"))) B.pre
  have hts : ∀ w ∈ lw_all, w.before _ s = true := fun w h => hts w (List.mem_cons_of_mem _ h)
  have hown : s.vm.findClass RX9 = some m.cls := findClass_of_methodNamed B.named
  have hlk := B.notSynchronized
  have hS : va_S (kNW s.heap) s.heap s.heap [] := va_S.rf
  have hB : ∀ q, (kNW s.heap) q → kBase D ≤ q := fun q h => Nat.le_trans hK.size h
  have hl := lv_entry ([.ref rd, .int (kI (lv))]) (n := 2) (Nat.le_of_ble_eq_true rfl)
  rw [lg_entry_eq]
  generalize (lg_sl ([.ref rd, .int (kI (lv))]) ++ List.replicate (2 - (lg_sl ([.ref rd, .int (kI (lv))])).length) Slot.unset).toArray = ls at hl ⊢
  have hl : lv_has ls 2 [(0, .ref rd), (1, .int (kI (lv)))] := hl
  refine lv_iload_n hx hb dX9_unlabelling_0 rfl (lv_at hl 1 rfl) ?_
  refine kx_lam (i := 13) (σ := ls_14) (vals := [.int (kI (lv))]) (rest := []) hx hb hml hl.1 hts hK B.named rfl (by decide) rfl lk_14 hS rfl (fun z hz => by have hz : z ∈ [((.int : FieldType), (.int (kI (lv)) : Value))] := hz; simp only [List.mem_cons, List.not_mem_nil, or_false] at hz; rcases hz with rfl <;> exact ⟨rfl, rfl⟩) (by first | exact Nat.le_of_ble_eq_true rfl | omega | (show _ ≤ _; omega) | (dsimp only [headSpec]; omega)) (by first | exact Nat.le_of_ble_eq_true rfl | omega | (show _ ≤ _; omega) | (dsimp only [headSpec]; omega)) (by first | exact Nat.le_of_ble_eq_true rfl | omega | (show _ ≤ _; omega) | (dsimp only [headSpec]; omega)) dX9_unlabelling_1 (fun lm_1 H_2 hq_3 hz_4 hL_5 hE_6 hS_7 => ?_)
  have hge_lm_1 : s.heap.size ≤ lm_1 := by rw [hq_3]; exact hS.1
  refine W.widen (k := 1) (n := 1) (Nat.le_of_ble_eq_true rfl) (Nat.le_of_ble_eq_true rfl) ?_
  exact kx_aret (z := lm_1) hx hb hr (by first | exact Or.inl ⟨_, rfl⟩ | exact Or.inr ⟨_, rfl⟩) hlk (⟨hL_5, by first | assumption | rfl | omega | grind⟩) hS_7 dX9_unlabelling_6

set_option maxHeartbeats 4000000 in
set_option maxRecDepth 100000 in
theorem m_X9_labellingBest (l : Launch) (D : kG) (H : Heap) (rd : Nat) (lv : Int) : Met l yX9_labellingBest (ws_ yX9_labellingBest cX9_labellingBest 2 (some (.object "ContourLabels$Order"))) ({ frames := 0, cells := 1, slots := 1, locals := 3100 } : Room) (kPre D H [.ref rd, .int (kI (lv))]) (kQr (fun (r : Nat) H' => (kLm D H' r 14 [.int (kI (lv))]) ∧ (H.size ≤ r)) (kNW H)) (1) (1) ((kNW H)) := by
  refine Met.ofW (cc := cX9_labellingBest) (maxL := 2) (ret := (some (.object "ContourLabels$Order"))) (by decide) rfl ?_
  intro p e s m args below meth c s₁ B hml hv
  obtain ⟨rfl, hH, hK⟩ := hv
  subst hH
  have hx := B.exec
  have hb := B.bytes
  have hr := B.returns
  have hts := atoms_spec (ws := ws_ yX9_labellingBest cX9_labellingBest 2 (some (.object "ContourLabels$Order"))) B.pre
  have hts : ∀ w ∈ lw_all, w.before _ s = true := fun w h => hts w (List.mem_cons_of_mem _ h)
  have hown : s.vm.findClass RX9 = some m.cls := findClass_of_methodNamed B.named
  have hlk := B.notSynchronized
  have hS : va_S (kNW s.heap) s.heap s.heap [] := va_S.rf
  have hB : ∀ q, (kNW s.heap) q → kBase D ≤ q := fun q h => Nat.le_trans hK.size h
  have hl := lv_entry ([.ref rd, .int (kI (lv))]) (n := 2) (Nat.le_of_ble_eq_true rfl)
  rw [lg_entry_eq]
  generalize (lg_sl ([.ref rd, .int (kI (lv))]) ++ List.replicate (2 - (lg_sl ([.ref rd, .int (kI (lv))])).length) Slot.unset).toArray = ls at hl ⊢
  have hl : lv_has ls 2 [(0, .ref rd), (1, .int (kI (lv)))] := hl
  refine lv_iload_n hx hb dX9_labellingBest_0 rfl (lv_at hl 1 rfl) ?_
  refine kx_lam (i := 14) (σ := ls_15) (vals := [.int (kI (lv))]) (rest := []) hx hb hml hl.1 hts hK B.named rfl (by decide) rfl lk_15 hS rfl (fun z hz => by have hz : z ∈ [((.int : FieldType), (.int (kI (lv)) : Value))] := hz; simp only [List.mem_cons, List.not_mem_nil, or_false] at hz; rcases hz with rfl <;> exact ⟨rfl, rfl⟩) (by first | exact Nat.le_of_ble_eq_true rfl | omega | (show _ ≤ _; omega) | (dsimp only [headSpec]; omega)) (by first | exact Nat.le_of_ble_eq_true rfl | omega | (show _ ≤ _; omega) | (dsimp only [headSpec]; omega)) (by first | exact Nat.le_of_ble_eq_true rfl | omega | (show _ ≤ _; omega) | (dsimp only [headSpec]; omega)) dX9_labellingBest_1 (fun lm_1 H_2 hq_3 hz_4 hL_5 hE_6 hS_7 => ?_)
  have hge_lm_1 : s.heap.size ≤ lm_1 := by rw [hq_3]; exact hS.1
  refine W.widen (k := 1) (n := 1) (Nat.le_of_ble_eq_true rfl) (Nat.le_of_ble_eq_true rfl) ?_
  exact kx_aret (z := lm_1) hx hb hr (by first | exact Or.inl ⟨_, rfl⟩ | exact Or.inr ⟨_, rfl⟩) hlk (⟨hL_5, by first | assumption | rfl | omega | grind⟩) hS_7 dX9_labellingBest_6

set_option maxHeartbeats 4000000 in
set_option maxRecDepth 100000 in
theorem m_X9_gapping (l : Launch) (D : kG) (H : Heap) (rd : Nat) (lv : Int) : Met l yX9_gapping (ws_ yX9_gapping cX9_gapping 2 (some (.object "ContourLabels$Order"))) ({ frames := 0, cells := 1, slots := 1, locals := 3100 } : Room) (kPre D H [.ref rd, .int (kI (lv))]) (kQr (fun (r : Nat) H' => (kLm D H' r 16 [.int (kI (lv))]) ∧ (H.size ≤ r)) (kNW H)) (1) (1) ((kNW H)) := by
  refine Met.ofW (cc := cX9_gapping) (maxL := 2) (ret := (some (.object "ContourLabels$Order"))) (by decide) rfl ?_
  intro p e s m args below meth c s₁ B hml hv
  obtain ⟨rfl, hH, hK⟩ := hv
  subst hH
  have hx := B.exec
  have hb := B.bytes
  have hr := B.returns
  have hts := atoms_spec (ws := ws_ yX9_gapping cX9_gapping 2 (some (.object "ContourLabels$Order"))) B.pre
  have hts : ∀ w ∈ lw_all, w.before _ s = true := fun w h => hts w (List.mem_cons_of_mem _ h)
  have hown : s.vm.findClass RX9 = some m.cls := findClass_of_methodNamed B.named
  have hlk := B.notSynchronized
  have hS : va_S (kNW s.heap) s.heap s.heap [] := va_S.rf
  have hB : ∀ q, (kNW s.heap) q → kBase D ≤ q := fun q h => Nat.le_trans hK.size h
  have hl := lv_entry ([.ref rd, .int (kI (lv))]) (n := 2) (Nat.le_of_ble_eq_true rfl)
  rw [lg_entry_eq]
  generalize (lg_sl ([.ref rd, .int (kI (lv))]) ++ List.replicate (2 - (lg_sl ([.ref rd, .int (kI (lv))])).length) Slot.unset).toArray = ls at hl ⊢
  have hl : lv_has ls 2 [(0, .ref rd), (1, .int (kI (lv)))] := hl
  refine lv_iload_n hx hb dX9_gapping_0 rfl (lv_at hl 1 rfl) ?_
  refine kx_lam (i := 16) (σ := ls_17) (vals := [.int (kI (lv))]) (rest := []) hx hb hml hl.1 hts hK B.named rfl (by decide) rfl lk_17 hS rfl (fun z hz => by have hz : z ∈ [((.int : FieldType), (.int (kI (lv)) : Value))] := hz; simp only [List.mem_cons, List.not_mem_nil, or_false] at hz; rcases hz with rfl <;> exact ⟨rfl, rfl⟩) (by first | exact Nat.le_of_ble_eq_true rfl | omega | (show _ ≤ _; omega) | (dsimp only [headSpec]; omega)) (by first | exact Nat.le_of_ble_eq_true rfl | omega | (show _ ≤ _; omega) | (dsimp only [headSpec]; omega)) (by first | exact Nat.le_of_ble_eq_true rfl | omega | (show _ ≤ _; omega) | (dsimp only [headSpec]; omega)) dX9_gapping_1 (fun lm_1 H_2 hq_3 hz_4 hL_5 hE_6 hS_7 => ?_)
  have hge_lm_1 : s.heap.size ≤ lm_1 := by rw [hq_3]; exact hS.1
  refine W.widen (k := 1) (n := 1) (Nat.le_of_ble_eq_true rfl) (Nat.le_of_ble_eq_true rfl) ?_
  exact kx_aret (z := lm_1) hx hb hr (by first | exact Or.inl ⟨_, rfl⟩ | exact Or.inr ⟨_, rfl⟩) hlk (⟨hL_5, by first | assumption | rfl | omega | grind⟩) hS_7 dX9_gapping_6

set_option maxHeartbeats 4000000 in
set_option maxRecDepth 100000 in
theorem m_stp_y (l : Launch) (D : kG) (H : Heap) (rd : Nat) (oa : Nat) (mn : Nat) (x1 : Nat) (st : Nat) (snp : Option Nat) (hi : Nat) (bu : Nat) (vb : Nat) (ml : Bool) (cap : Nat) (g : Nat → Int) (t : List Int) (p9 : Nat) (d : Int) (hO_rd : kO D H rd 8 [.int (kI ((p9 + 1 : Nat) : Int)), .int (kI (kb (false))), .ref oa, .int (kI ((mn : Nat) : Int)), .ref x1]) (hO_x1 : kO D H x1 0 [.ref st, va_rf (snp), .ref hi, .ref bu]) (hO_bu : kO D H bu 11 [.ref vb, .int (kI (0)), .int (kI (kb (ml))), .int (kI ((t.length : Nat) : Int))]) (hA_vb : kAb D H vb cap g) (hT : MTx g t) (ht60 : t.length ≤ 60) (hcap : t.length ≤ cap) (hc9 : cap ≤ 1000) (bs_rd : kBase D ≤ rd) (hp9 : p9 ≤ 61) (hd : d = csg t p9 - 48) (hdg : 48 ≤ csg t p9 ∧ csg t p9 ≤ 55) : Met l yX9_stepping (ws_ yX9_stepping cX9_stepping 5 (some (.object "ContourLabels$Order"))) ({ frames := 6, cells := 2, slots := 22, locals := 3100 } : Room) (kPre D H [.ref rd, .int (kI (d))]) (kQr (fun (r : Nat) H' => ∃ (ar : Nat) (gs : Nat → Int), (kO D H' rd 8 [.int (kI ((p9 + tx_cnt t p9 20 : Nat) : Int)), .int (kI (kb (false))), .ref oa, .int (kI ((mn : Nat) : Int)), .ref x1]) ∧ (kLm D H' r 5 [.int (kI ((tx_cnt t p9 20 : Nat) : Int)), .ref ar]) ∧ (kAi D H' ar 20 gs) ∧ (H.size ≤ r ∧ H.size ≤ ar) ∧ (∀ j, j < tx_cnt t p9 20 → gs j = tsg t (p9 + j) - 48)) (fun q : Nat => q = rd ∨ H.size ≤ q)) (2) (22) ((fun q : Nat => q = rd ∨ H.size ≤ q)) := by
  refine Met.ofW (cc := cX9_stepping) (maxL := 5) (ret := (some (.object "ContourLabels$Order"))) (by decide) rfl ?_
  intro p e s m args below meth c s₁ B hml hv
  obtain ⟨rfl, hH, hK⟩ := hv
  subst hH
  have hx := B.exec
  have hb := B.bytes
  have hr := B.returns
  have hts := atoms_spec (ws := ws_ yX9_stepping cX9_stepping 5 (some (.object "ContourLabels$Order"))) B.pre
  have hts : ∀ w ∈ lw_all, w.before _ s = true := fun w h => hts w (List.mem_cons_of_mem _ h)
  have hown : s.vm.findClass RX9 = some m.cls := findClass_of_methodNamed B.named
  have hlk := B.notSynchronized
  have hS : va_S (fun q : Nat => q = rd ∨ s.heap.size ≤ q) s.heap s.heap [] := va_S.rf
  have hB : ∀ q, (fun q : Nat => q = rd ∨ s.heap.size ≤ q) q → kBase D ≤ q := fun q h => by (try dsimp only at h); (try simp only [kNW] at h); have hks := hK.size; omega
  have hl := lv_entry ([.ref rd, .int (kI (d))]) (n := 5) (Nat.le_of_ble_eq_true rfl)
  rw [lg_entry_eq]
  generalize (lg_sl ([.ref rd, .int (kI (d))]) ++ List.replicate (5 - (lg_sl ([.ref rd, .int (kI (d))])).length) Slot.unset).toArray = ls at hl ⊢
  have hl : lv_has ls 5 [(0, .ref rd), (1, .int (kI (d)))] := hl
  have hd9 := hK.dis
  have ne_x1_rd : x1 ≠ rd := kO_ne hd9 hO_x1 hO_rd (by decide) (by decide) (by decide)
  have ne_bu_rd : bu ≠ rd := kO_ne hd9 hO_bu hO_rd (by decide) (by decide) (by decide)
  have ne_rd_vb : rd ≠ vb := kOA_ne hd9 hO_rd hA_vb (by decide) (by decide)
  have hltx1 := hO_x1.lt
  have hltrd := hO_rd.lt
  have hltbu := hO_bu.lt
  have hltvb := hA_vb.lt
  have hcoQ := csg_or t p9
  have hcrQ := hT.cr p9
  refine kx_bipush hx hb (by decide) dX9_stepping_0 ?_
  refine kx_newa (atype := .int) (ty := .int) (t := 0) (a0 := (20, .inl (fun j => kI ((fun _ => 0 : Nat → Int) j)))) (N' := 20) hx hb hts q332 rfl hK rfl (fun _ h => by cases h) hS (by first | rfl | omega) (by omega) (fun cA => rfl) (by first | decide | (simp only [componentBytes]; omega)) (by first | exact Nat.le_of_ble_eq_true rfl | omega | (show _ ≤ _; omega) | (dsimp only [headSpec]; omega)) (by first | exact Nat.le_of_ble_eq_true rfl | omega | (show _ ≤ _; omega) | (dsimp only [headSpec]; omega)) dX9_stepping_2 (fun ar H_1 hq_2 hz_3 hA_4 hE_5 hS_6 => ?_)
  have hge_ar : s.heap.size ≤ ar := by rw [hq_2]; exact hS.1
  refine W.widen (k := 1) (n := 20) (Nat.le_of_ble_eq_true rfl) (Nat.le_of_ble_eq_true rfl) ?_
  refine lv_astore_n (lv' := [(2, .ref ar), (0, .ref rd), (1, .int (kI (d)))]) hx hb dX9_stepping_4 rfl hl (by decide) rfl (fun ls hl => ?_)
  refine kx_iconst hx hb dX9_stepping_5 ?_
  refine lv_istore_n (lv' := [(3, .int (kI (1))), (2, .ref ar), (0, .ref rd), (1, .int (kI (d)))]) hx hb dX9_stepping_6 rfl hl (by decide) rfl (fun ls hl => ?_)
  refine lv_aload_n hx hb dX9_stepping_7 rfl (lv_at hl 1 rfl) ?_
  refine kx_iconst hx hb dX9_stepping_8 ?_
  refine lv_iload_n hx hb dX9_stepping_9 rfl (lv_at hl 3 rfl) ?_
  refine kx_iast (i := 0) (x := d) hx hb hK hA_4 hS_6 (Or.inr hge_ar) 0 (rfl) (by omega) (by omega) dX9_stepping_10 (fun H_9 locs_10 hA_8 hU_7 hS_11 => ?_)
  have hzu_12 := hU_7.1
  have lp_11_x_13 : ∀ (n_11 : Nat) (k : Nat) (gs : Nat → Int) (H : Heap) (hO_rd : kO D H rd 8 [.int (kI ((p9 + k : Nat) : Int)), .int (kI (kb (false))), .ref oa, .int (kI ((mn : Nat) : Int)), .ref x1]) (hO_x1 : kO D H x1 0 [.ref st, va_rf (snp), .ref hi, .ref bu]) (hO_bu : kO D H bu 11 [.ref vb, .int (kI (0)), .int (kI (kb (ml))), .int (kI ((t.length : Nat) : Int))]) (hA_vb : kAb D H vb cap g) (hA_ar : kAi D H ar 20 gs) (hk : 1 ≤ k ∧ k ≤ 20) (hpk : p9 + k ≤ t.length) (hcnt : tx_cnt t p9 20 = k + tx_cnt t (p9 + k) (20 - k)) (hgs : ∀ j, j < k → gs j = tsg t (p9 + j) - 48) (locs : List Loc) (hS : va_S (fun q : Nat => q = rd ∨ s.heap.size ≤ q) s.heap H locs) (hm_11 : 20 - k < n_11) (ls : Array Slot), lv_has ls 5 [(0, .ref rd), (1, .int (kI (d))), (2, .ref ar), (3, .int (kI ((k : Nat) : Int)))] → W p l e (headSpec (ws_ yX9_stepping cX9_stepping 5 (some (.object "ContourLabels$Order"))) ({ frames := 6, cells := 2, slots := 22, locals := 3100 } : Room)).room s m ([.ref rd, .int (kI (d))] : List Value).toArray below meth c H locs (1) (20) (MQ below (kQr (fun (r : Nat) H' => ∃ (ar : Nat) (gs : Nat → Int), (kO D H' rd 8 [.int (kI ((p9 + tx_cnt t p9 20 : Nat) : Int)), .int (kI (kb (false))), .ref oa, .int (kI ((mn : Nat) : Int)), .ref x1]) ∧ (kLm D H' r 5 [.int (kI ((tx_cnt t p9 20 : Nat) : Int)), .ref ar]) ∧ (kAi D H' ar 20 gs) ∧ (s.heap.size ≤ r ∧ s.heap.size ≤ ar) ∧ (∀ j, j < tx_cnt t p9 20 → gs j = tsg t (p9 + j) - 48)) (fun q : Nat => q = rd ∨ s.heap.size ≤ q)) ([.ref rd, .int (kI (d))] : List Value).toArray s (2) (22) ((fun q : Nat => q = rd ∨ s.heap.size ≤ q))) (F0 m 11 ls []) := by
    intro n_11
    induction n_11 with
    | zero => intro k gs H hO_rd hO_x1 hO_bu hA_vb hA_ar hk hpk hcnt hgs locs hS hm_11; exact absurd hm_11 (Nat.not_lt_zero _)
    | succ n_11 ih_11 =>
      intro k gs H hO_rd hO_x1 hO_bu hA_vb hA_ar hk hpk hcnt hgs locs hS hm_11 ls hl
      have hcoI := csg_or t (p9 + k)
      have hcrI := hT.cr (p9 + k)
      refine lv_aload_n hx hb dX9_stepping_11 rfl (lv_at hl 0 rfl) ?_
      refine kx_get (v := .int (kI (kb (false)))) (C := RX9) (T := TX9) (N := 5) hx hb hts in_X9 hown hK hO_rd rfl 1 (by decide) q1543 (fun _ h9 => h9) rfl dX9_stepping_12 ?_
      refine kx_ifnz (tgt := 58) hx hb dX9_stepping_15 (by decide) (fun c_15_14 => ?_) (fun c_15_14 => ?_)
      · -- taken at 15
        first | exact absurd c_15_14 (by decide) | exact Bool.noConfusion c_15_14 | (simp at c_15_14; done)
      · -- not taken at 15
        refine lv_iload_n hx hb dX9_stepping_18 rfl (lv_at hl 3 rfl) ?_
        refine kx_bipush hx hb (by decide) dX9_stepping_19 ?_
        refine kx_icmp_ge (x := ((k : Nat) : Int)) (y := 20) (tgt := 58) hx hb dX9_stepping_21 (by decide) (by omega) (by omega) (by omega) (by omega) (fun c_21_15 => ?_) (fun c_21_15 => ?_)
        · -- taken at 21
          refine lv_iload_n hx hb dX9_stepping_58 rfl (lv_at hl 3 rfl) ?_
          refine lv_istore (lv' := [(4, .int (kI ((k : Nat) : Int))), (0, .ref rd), (1, .int (kI (d))), (2, .ref ar), (3, .int (kI ((k : Nat) : Int)))]) hx hb dX9_stepping_59 hl (by decide) rfl (fun ls hl => ?_)
          refine lv_iload hx hb dX9_stepping_61 (lv_at hl 0 rfl) ?_
          refine lv_aload_n hx hb dX9_stepping_63 rfl (lv_at hl 3 rfl) ?_
          refine kx_lam (i := 5) (σ := ls_6) (vals := [.int (kI ((k : Nat) : Int)), .ref ar]) (rest := []) hx hb hml hl.1 hts hK B.named rfl (by decide) rfl lk_6 hS rfl (fun z hz => by have hz : z ∈ [((.int : FieldType), (.int (kI ((k : Nat) : Int)) : Value)), ((.array .int : FieldType), (.ref ar : Value))] := hz; simp only [List.mem_cons, List.not_mem_nil, or_false] at hz; rcases hz with rfl | rfl <;> exact ⟨rfl, rfl⟩) (by first | exact Nat.le_of_ble_eq_true rfl | omega | (show _ ≤ _; omega) | (dsimp only [headSpec]; omega)) (by first | exact Nat.le_of_ble_eq_true rfl | omega | (show _ ≤ _; omega) | (dsimp only [headSpec]; omega)) (by first | exact Nat.le_of_ble_eq_true rfl | omega | (show _ ≤ _; omega) | (dsimp only [headSpec]; omega)) dX9_stepping_64 (fun lm_16 H_17 hq_18 hz_19 hL_20 hE_21 hS_22 => ?_)
          have hge_lm_16 : s.heap.size ≤ lm_16 := by rw [hq_18]; exact hS.1
          refine W.widen (k := 2) (n := 22) (Nat.le_of_ble_eq_true rfl) (Nat.le_of_ble_eq_true rfl) ?_
          have h_23 := hO_rd.ex hE_21
          have hk8 : tx_cnt t p9 20 = k := hcnt.trans (by rw [tx_cnt_e (by omega)]; omega)
          have hfin : kO D H_17 rd 8 [.int (kI ((p9 + tx_cnt t p9 20 : Nat) : Int)), .int (kI (kb false)), .ref oa, .int (kI ((mn : Nat) : Int)), .ref x1] := by rw [hk8]; exact h_23
          have hfl9 : kLm D H_17 lm_16 5 [.int (kI ((tx_cnt t p9 20 : Nat) : Int)), .ref ar] := by rw [hk8]; exact hL_20
          have h_24 := hA_ar.ex hE_21
          exact kx_aret (z := lm_16) hx hb hr (by first | exact Or.inl ⟨_, rfl⟩ | exact Or.inr ⟨_, rfl⟩) hlk (⟨ar, gs, hfin, hfl9, h_24, by first | assumption | rfl | omega | grind, by rw [hk8]; exact hgs⟩) hS_22 dX9_stepping_69
        · -- not taken at 21
          refine lv_aload_n hx hb dX9_stepping_24 rfl (lv_at hl 0 rfl) ?_
          refine kx_ci0 (va_runV (As := []) (rest := []) ⟨hx, hb, hml, hown, hts⟩ (m_sgn l D H rd (p9 + k) false oa mn x1 st snp hi bu vb ml cap g t hO_rd hO_x1 hO_bu hA_vb (by first | assumption | omega) (by first | assumption | omega) (by first | assumption | omega) (by first | assumption | omega) (by first | assumption | omega)) (cwV 0 hts (lw_V q1566 q1568 qs20 q125 q1569) rfl rfl rfl (by decide +kernel) ⟨Nat.le_of_ble_eq_true rfl, Nat.le_of_ble_eq_true rfl⟩) (kx_pv hK hS hB (kx_rc hK hO_rd (C := RX9) (T := TX9) (N := 5) rfl)) rfl rfl hl.1 rfl (lv_room (Nat.le_of_ble_eq_true rfl)) dX9_stepping_25 ⟨by first | exact Nat.le_of_ble_eq_true rfl | omega | (show _ ≤ _; omega) | (dsimp only [headSpec]; omega), by first | exact Nat.le_of_ble_eq_true rfl | omega | (show _ ≤ _; omega) | (dsimp only [headSpec]; omega)⟩) hS (fun z_28 locs_25 hz_27 hS_26 => ?_)
          subst z_28
          refine kx_bipush hx hb (by decide) dX9_stepping_28 ?_
          refine kx_icmp_lt (x := csg t (p9 + k)) (y := 48) (tgt := 58) hx hb dX9_stepping_30 (by decide) (by omega) (by omega) (by omega) (by omega) (fun c_30_29 => ?_) (fun c_30_29 => ?_)
          · -- taken at 30
            refine lv_iload_n hx hb dX9_stepping_58 rfl (lv_at hl 3 rfl) ?_
            refine lv_istore (lv' := [(4, .int (kI ((k : Nat) : Int))), (0, .ref rd), (1, .int (kI (d))), (2, .ref ar), (3, .int (kI ((k : Nat) : Int)))]) hx hb dX9_stepping_59 hl (by decide) rfl (fun ls hl => ?_)
            refine lv_iload hx hb dX9_stepping_61 (lv_at hl 0 rfl) ?_
            refine lv_aload_n hx hb dX9_stepping_63 rfl (lv_at hl 3 rfl) ?_
            refine kx_lam (i := 5) (σ := ls_6) (vals := [.int (kI ((k : Nat) : Int)), .ref ar]) (rest := []) hx hb hml hl.1 hts hK B.named rfl (by decide) rfl lk_6 hS_26 rfl (fun z hz => by have hz : z ∈ [((.int : FieldType), (.int (kI ((k : Nat) : Int)) : Value)), ((.array .int : FieldType), (.ref ar : Value))] := hz; simp only [List.mem_cons, List.not_mem_nil, or_false] at hz; rcases hz with rfl | rfl <;> exact ⟨rfl, rfl⟩) (by first | exact Nat.le_of_ble_eq_true rfl | omega | (show _ ≤ _; omega) | (dsimp only [headSpec]; omega)) (by first | exact Nat.le_of_ble_eq_true rfl | omega | (show _ ≤ _; omega) | (dsimp only [headSpec]; omega)) (by first | exact Nat.le_of_ble_eq_true rfl | omega | (show _ ≤ _; omega) | (dsimp only [headSpec]; omega)) dX9_stepping_64 (fun lm_30 H_31 hq_32 hz_33 hL_34 hE_35 hS_36 => ?_)
            have hge_lm_30 : s.heap.size ≤ lm_30 := by rw [hq_32]; exact hS_26.1
            refine W.widen (k := 2) (n := 22) (Nat.le_of_ble_eq_true rfl) (Nat.le_of_ble_eq_true rfl) ?_
            have h_37 := hO_rd.ex hE_35
            have hk8 : tx_cnt t p9 20 = k := hcnt.trans (by rw [tx_cnt_e (by omega)]; omega)
            have hfin : kO D H_31 rd 8 [.int (kI ((p9 + tx_cnt t p9 20 : Nat) : Int)), .int (kI (kb false)), .ref oa, .int (kI ((mn : Nat) : Int)), .ref x1] := by rw [hk8]; exact h_37
            have hfl9 : kLm D H_31 lm_30 5 [.int (kI ((tx_cnt t p9 20 : Nat) : Int)), .ref ar] := by rw [hk8]; exact hL_34
            have h_38 := hA_ar.ex hE_35
            exact kx_aret (z := lm_30) hx hb hr (by first | exact Or.inl ⟨_, rfl⟩ | exact Or.inr ⟨_, rfl⟩) hlk (⟨ar, gs, hfin, hfl9, h_38, by first | assumption | rfl | omega | grind, by rw [hk8]; exact hgs⟩) hS_36 dX9_stepping_69
          · -- not taken at 30
            refine lv_aload_n hx hb dX9_stepping_33 rfl (lv_at hl 0 rfl) ?_
            refine kx_ci0 (va_runV (As := []) (rest := []) ⟨hx, hb, hml, hown, hts⟩ (m_sgn l D H rd (p9 + k) false oa mn x1 st snp hi bu vb ml cap g t hO_rd hO_x1 hO_bu hA_vb (by first | assumption | omega) (by first | assumption | omega) (by first | assumption | omega) (by first | assumption | omega) (by first | assumption | omega)) (cwV 0 hts (lw_V q1566 q1568 qs20 q125 q1569) rfl rfl rfl (by decide +kernel) ⟨Nat.le_of_ble_eq_true rfl, Nat.le_of_ble_eq_true rfl⟩) (kx_pv hK hS_26 hB (kx_rc hK hO_rd (C := RX9) (T := TX9) (N := 5) rfl)) rfl rfl hl.1 rfl (lv_room (Nat.le_of_ble_eq_true rfl)) dX9_stepping_34 ⟨by first | exact Nat.le_of_ble_eq_true rfl | omega | (show _ ≤ _; omega) | (dsimp only [headSpec]; omega), by first | exact Nat.le_of_ble_eq_true rfl | omega | (show _ ≤ _; omega) | (dsimp only [headSpec]; omega)⟩) hS_26 (fun z_42 locs_39 hz_41 hS_40 => ?_)
            subst z_42
            refine kx_bipush hx hb (by decide) dX9_stepping_37 ?_
            refine kx_icmp_ge (x := csg t (p9 + k)) (y := 56) (tgt := 58) hx hb dX9_stepping_39 (by decide) (by omega) (by omega) (by omega) (by omega) (fun c_39_43 => ?_) (fun c_39_43 => ?_)
            · -- taken at 39
              refine lv_iload_n hx hb dX9_stepping_58 rfl (lv_at hl 3 rfl) ?_
              refine lv_istore (lv' := [(4, .int (kI ((k : Nat) : Int))), (0, .ref rd), (1, .int (kI (d))), (2, .ref ar), (3, .int (kI ((k : Nat) : Int)))]) hx hb dX9_stepping_59 hl (by decide) rfl (fun ls hl => ?_)
              refine lv_iload hx hb dX9_stepping_61 (lv_at hl 0 rfl) ?_
              refine lv_aload_n hx hb dX9_stepping_63 rfl (lv_at hl 3 rfl) ?_
              refine kx_lam (i := 5) (σ := ls_6) (vals := [.int (kI ((k : Nat) : Int)), .ref ar]) (rest := []) hx hb hml hl.1 hts hK B.named rfl (by decide) rfl lk_6 hS_40 rfl (fun z hz => by have hz : z ∈ [((.int : FieldType), (.int (kI ((k : Nat) : Int)) : Value)), ((.array .int : FieldType), (.ref ar : Value))] := hz; simp only [List.mem_cons, List.not_mem_nil, or_false] at hz; rcases hz with rfl | rfl <;> exact ⟨rfl, rfl⟩) (by first | exact Nat.le_of_ble_eq_true rfl | omega | (show _ ≤ _; omega) | (dsimp only [headSpec]; omega)) (by first | exact Nat.le_of_ble_eq_true rfl | omega | (show _ ≤ _; omega) | (dsimp only [headSpec]; omega)) (by first | exact Nat.le_of_ble_eq_true rfl | omega | (show _ ≤ _; omega) | (dsimp only [headSpec]; omega)) dX9_stepping_64 (fun lm_44 H_45 hq_46 hz_47 hL_48 hE_49 hS_50 => ?_)
              have hge_lm_44 : s.heap.size ≤ lm_44 := by rw [hq_46]; exact hS_40.1
              refine W.widen (k := 2) (n := 22) (Nat.le_of_ble_eq_true rfl) (Nat.le_of_ble_eq_true rfl) ?_
              have h_51 := hO_rd.ex hE_49
              have hk8 : tx_cnt t p9 20 = k := hcnt.trans (by rw [tx_cnt_e (by omega)]; omega)
              have hfin : kO D H_45 rd 8 [.int (kI ((p9 + tx_cnt t p9 20 : Nat) : Int)), .int (kI (kb false)), .ref oa, .int (kI ((mn : Nat) : Int)), .ref x1] := by rw [hk8]; exact h_51
              have hfl9 : kLm D H_45 lm_44 5 [.int (kI ((tx_cnt t p9 20 : Nat) : Int)), .ref ar] := by rw [hk8]; exact hL_48
              have h_52 := hA_ar.ex hE_49
              exact kx_aret (z := lm_44) hx hb hr (by first | exact Or.inl ⟨_, rfl⟩ | exact Or.inr ⟨_, rfl⟩) hlk (⟨ar, gs, hfin, hfl9, h_52, by first | assumption | rfl | omega | grind, by rw [hk8]; exact hgs⟩) hS_50 dX9_stepping_69
            · -- not taken at 39
              refine lv_aload_n hx hb dX9_stepping_42 rfl (lv_at hl 2 rfl) ?_
              refine lv_iload_n hx hb dX9_stepping_43 rfl (lv_at hl 3 rfl) ?_
              refine lv_aload_n hx hb dX9_stepping_44 rfl (lv_at hl 0 rfl) ?_
              refine kx_iconst hx hb dX9_stepping_45 ?_
              refine kx_bipush hx hb (by decide) dX9_stepping_46 ?_
              refine kx_ci (va_runV (As := [.int (kI (0)), .int (kI (7))]) (rest := [.int (kI ((k : Nat) : Int)), .ref ar]) ⟨hx, hb, hml, hown, hts⟩ (m_dig_y l D H rd (p9 + k) oa mn x1 st snp hi bu vb ml cap g t 0 7 hO_rd hO_x1 hO_bu hA_vb (by first | assumption | omega) (by first | assumption | omega) (by first | assumption | omega) (by first | assumption | omega) (by first | assumption | omega) ((by omega)) ((by omega)) bs_rd ((by omega))) (cwV 2 hts (lw_V q1637 q1639 qs22 q125 q1640) rfl rfl rfl (by decide +kernel) ⟨Nat.le_of_ble_eq_true rfl, Nat.le_of_ble_eq_true rfl⟩) (kx_pv hK hS_40 hB (kx_rc hK hO_rd (C := RX9) (T := TX9) (N := 5) rfl)) rfl rfl hl.1 rfl (lv_room (Nat.le_of_ble_eq_true rfl)) dX9_stepping_48 ⟨by first | exact Nat.le_of_ble_eq_true rfl | omega | (show _ ≤ _; omega) | (dsimp only [headSpec]; omega), by first | exact Nat.le_of_ble_eq_true rfl | omega | (show _ ≤ _; omega) | (dsimp only [headSpec]; omega)⟩) hS_40 (fun q _ h => by have h9 := hS_40.1; (try dsimp only at h); (try dsimp only); (try simp only [kNW] at h); (try simp only [kNW]); omega) (fun q h => by have h9 := hS_40.1; (try dsimp only at h); (try dsimp only); (try simp only [kNW] at h); (try simp only [kNW]); omega) (fun z_58 H_56 locs_53 hz_55 hF_57 hS_54 => ?_)
              have hzf_59 := hF_57.1
              refine W.widen (k := 1) (n := 20) (Nat.le_of_ble_eq_true rfl) (Nat.le_of_ble_eq_true rfl) ?_
              obtain ⟨hv_60, ho_61⟩ := hz_55
              subst z_58
              have h_62 := hA_ar.fr hF_57 (fun h => by (try dsimp only at h); (try simp only [kNW] at h); omega)
              refine kx_iast (i := ((k : Nat) : Int)) (x := (csg t (p9 + k) - 48)) hx hb hK h_62 hS_54 (Or.inr hge_ar) k (rfl) (by omega) (by omega) dX9_stepping_51 (fun H_65 locs_66 hA_64 hU_63 hS_67 => ?_)
              have hzu_68 := hU_63.1
              refine lv_iinc (v := kI (((k + 1 : Nat) : Int))) (lv' := [(3, .int (kI ((k + 1 : Nat) : Int))), (0, .ref rd), (1, .int (kI (d))), (2, .ref ar)]) hx hb dX9_stepping_52 hl (k := 3) rfl (kI_incN _ _) (by decide) rfl (fun ls hl => ?_)
              refine lv_goto (tgt := 11) hx hb dX9_stepping_55 (by decide) ?_
              have h_69 := ho_61.up hU_63 (by first | assumption | exact Ne.symm (by assumption)  | omega | (have h9 := ho_61.lt; omega))
              have h_70 := hO_x1.fr hF_57 (fun h => by (try dsimp only at h); (try simp only [kNW] at h); omega)
              have h_71 := h_70.up hU_63 (by first | assumption | exact Ne.symm (by assumption)  | omega | (have h9 := h_70.lt; omega))
              have h_72 := hO_bu.fr hF_57 (fun h => by (try dsimp only at h); (try simp only [kNW] at h); omega)
              have h_73 := h_72.up hU_63 (by first | assumption | exact Ne.symm (by assumption)  | omega | (have h9 := h_72.lt; omega))
              have h_74 := hA_vb.fr hF_57 (fun h => by (try dsimp only at h); (try simp only [kNW] at h); omega)
              have h_75 := h_74.up hU_63 (by first | assumption | exact Ne.symm (by assumption)  | omega | (have h9 := h_74.lt; omega))
              exact ih_11  ((k + 1)) (kup gs k ((csg t (p9 + k) - 48))) H_65 h_69 h_71 h_73 h_75 hA_64 (by first | assumption | omega | (simp_all; done) | grind) (by omega) (by rw [hcnt, show 20 - k = (20 - (k + 1)) + 1 by omega, tx_cnt_s (by omega)]; show _ = _ + tx_cnt t (p9 + k + 1) _; omega) (fun j hj => by by_cases e9 : j = k; (rw [e9, kup_self]; omega); (rw [kup_ne e9]; exact hgs j (by omega))) _ hS_67 (by omega) ls (lv_sub hl [1, 2, 3, 0] rfl)
  have h_76 := hO_rd.ex hE_5
  have h_77 := h_76.up hU_7 (by first | assumption | exact Ne.symm (by assumption)  | omega | (have h9 := h_76.lt; omega))
  have h_78 := hO_x1.ex hE_5
  have h_79 := h_78.up hU_7 (by first | assumption | exact Ne.symm (by assumption)  | omega | (have h9 := h_78.lt; omega))
  have h_80 := hO_bu.ex hE_5
  have h_81 := h_80.up hU_7 (by first | assumption | exact Ne.symm (by assumption)  | omega | (have h9 := h_80.lt; omega))
  have h_82 := hA_vb.ex hE_5
  have h_83 := h_82.up hU_7 (by first | assumption | exact Ne.symm (by assumption)  | omega | (have h9 := h_82.lt; omega))
  exact lp_11_x_13 (20 - 1 + 1) 1 (kup ((fun _ => 0)) 0 d) H_9 h_77 h_79 h_81 h_83 hA_8 (by first | assumption | omega | (simp_all; done) | grind) (by omega) (by rw [tx_cnt_s (by omega)]) (fun j hj => by rw [show j = 0 by omega]; show kup _ 0 d 0 = _; rw [kup_self, hd]; show _ = tsg t p9 - 48; omega) _ hS_11 (Nat.lt_succ_self _) ls (lv_sub hl [2, 3, 1, 0] rfl)

set_option maxHeartbeats 4000000 in
set_option maxRecDepth 100000 in
theorem m_stp_n (l : Launch) (D : kG) (H : Heap) (rd : Nat) (pl : Nat) (oa : Nat) (mn : Nat) (x1 : Nat) (st : Nat) (snp : Option Nat) (hi : Nat) (bu : Nat) (vb : Nat) (ml : Bool) (cap : Nat) (g : Nat → Int) (t : List Int) (d : Int) (hO_rd : kO D H rd 8 [.int (kI ((pl : Nat) : Int)), .int (kI (kb (true))), .ref oa, .int (kI ((mn : Nat) : Int)), .ref x1]) (hO_x1 : kO D H x1 0 [.ref st, va_rf (snp), .ref hi, .ref bu]) (hO_bu : kO D H bu 11 [.ref vb, .int (kI (0)), .int (kI (kb (ml))), .int (kI ((t.length : Nat) : Int))]) (hA_vb : kAb D H vb cap g) (hT : MTx g t) (ht60 : t.length ≤ 60) (hcap : t.length ≤ cap) (hc9 : cap ≤ 1000) (hpl : pl ≤ 62) (bs_rd : kBase D ≤ rd) : Met l yX9_stepping (ws_ yX9_stepping cX9_stepping 5 (some (.object "ContourLabels$Order"))) ({ frames := 0, cells := 2, slots := 22, locals := 3100 } : Room) (kPre D H [.ref rd, .int (kI (d))]) (kQr (fun (r : Nat) H' => (kO D H' rd 8 [.int (kI ((pl : Nat) : Int)), .int (kI (kb (true))), .ref oa, .int (kI ((mn : Nat) : Int)), .ref x1]) ∧ (H.size ≤ r)) (fun q : Nat => q = rd ∨ H.size ≤ q)) (2) (22) ((fun q : Nat => q = rd ∨ H.size ≤ q)) := by
  refine Met.ofW (cc := cX9_stepping) (maxL := 5) (ret := (some (.object "ContourLabels$Order"))) (by decide) rfl ?_
  intro p e s m args below meth c s₁ B hml hv
  obtain ⟨rfl, hH, hK⟩ := hv
  subst hH
  have hx := B.exec
  have hb := B.bytes
  have hr := B.returns
  have hts := atoms_spec (ws := ws_ yX9_stepping cX9_stepping 5 (some (.object "ContourLabels$Order"))) B.pre
  have hts : ∀ w ∈ lw_all, w.before _ s = true := fun w h => hts w (List.mem_cons_of_mem _ h)
  have hown : s.vm.findClass RX9 = some m.cls := findClass_of_methodNamed B.named
  have hlk := B.notSynchronized
  have hS : va_S (fun q : Nat => q = rd ∨ s.heap.size ≤ q) s.heap s.heap [] := va_S.rf
  have hB : ∀ q, (fun q : Nat => q = rd ∨ s.heap.size ≤ q) q → kBase D ≤ q := fun q h => by (try dsimp only at h); (try simp only [kNW] at h); have hks := hK.size; omega
  have hl := lv_entry ([.ref rd, .int (kI (d))]) (n := 5) (Nat.le_of_ble_eq_true rfl)
  rw [lg_entry_eq]
  generalize (lg_sl ([.ref rd, .int (kI (d))]) ++ List.replicate (5 - (lg_sl ([.ref rd, .int (kI (d))])).length) Slot.unset).toArray = ls at hl ⊢
  have hl : lv_has ls 5 [(0, .ref rd), (1, .int (kI (d)))] := hl
  have hd9 := hK.dis
  have ne_x1_rd : x1 ≠ rd := kO_ne hd9 hO_x1 hO_rd (by decide) (by decide) (by decide)
  have ne_bu_rd : bu ≠ rd := kO_ne hd9 hO_bu hO_rd (by decide) (by decide) (by decide)
  have ne_rd_vb : rd ≠ vb := kOA_ne hd9 hO_rd hA_vb (by decide) (by decide)
  have hltx1 := hO_x1.lt
  have hltrd := hO_rd.lt
  have hltbu := hO_bu.lt
  have hltvb := hA_vb.lt
  have hcoP := csg_or t pl
  have hcrP := hT.cr pl
  refine kx_bipush hx hb (by decide) dX9_stepping_0 ?_
  refine kx_newa (atype := .int) (ty := .int) (t := 0) (a0 := (20, .inl (fun j => kI ((fun _ => 0 : Nat → Int) j)))) (N' := 20) hx hb hts q332 rfl hK rfl (fun _ h => by cases h) hS (by first | rfl | omega) (by omega) (fun cA => rfl) (by first | decide | (simp only [componentBytes]; omega)) (by first | exact Nat.le_of_ble_eq_true rfl | omega | (show _ ≤ _; omega) | (dsimp only [headSpec]; omega)) (by first | exact Nat.le_of_ble_eq_true rfl | omega | (show _ ≤ _; omega) | (dsimp only [headSpec]; omega)) dX9_stepping_2 (fun ar H_1 hq_2 hz_3 hA_4 hE_5 hS_6 => ?_)
  have hge_ar : s.heap.size ≤ ar := by rw [hq_2]; exact hS.1
  refine W.widen (k := 1) (n := 20) (Nat.le_of_ble_eq_true rfl) (Nat.le_of_ble_eq_true rfl) ?_
  refine lv_astore_n (lv' := [(2, .ref ar), (0, .ref rd), (1, .int (kI (d)))]) hx hb dX9_stepping_4 rfl hl (by decide) rfl (fun ls hl => ?_)
  refine kx_iconst hx hb dX9_stepping_5 ?_
  refine lv_istore_n (lv' := [(3, .int (kI (1))), (2, .ref ar), (0, .ref rd), (1, .int (kI (d)))]) hx hb dX9_stepping_6 rfl hl (by decide) rfl (fun ls hl => ?_)
  refine lv_aload_n hx hb dX9_stepping_7 rfl (lv_at hl 1 rfl) ?_
  refine kx_iconst hx hb dX9_stepping_8 ?_
  refine lv_iload_n hx hb dX9_stepping_9 rfl (lv_at hl 3 rfl) ?_
  refine kx_iast (i := 0) (x := d) hx hb hK hA_4 hS_6 (Or.inr hge_ar) 0 (rfl) (by omega) (by omega) dX9_stepping_10 (fun H_9 locs_10 hA_8 hU_7 hS_11 => ?_)
  have hzu_12 := hU_7.1
  refine lv_aload_n hx hb dX9_stepping_11 rfl (lv_at hl 2 rfl) ?_
  have h_13 := hO_rd.ex hE_5
  have h_14 := h_13.up hU_7 (by first | assumption | exact Ne.symm (by assumption)  | omega | (have h9 := h_13.lt; omega))
  refine kx_get (v := .int (kI (kb (true)))) (C := RX9) (T := TX9) (N := 5) hx hb hts in_X9 hown hK h_14 rfl 1 (by decide) q1543 (fun _ h9 => h9) rfl dX9_stepping_12 ?_
  refine kx_ifnz (tgt := 58) hx hb dX9_stepping_15 (by decide) (fun c_15_15 => ?_) (fun c_15_15 => ?_)
  · -- taken at 15
    refine lv_iload_n hx hb dX9_stepping_58 rfl (lv_at hl 0 rfl) ?_
    refine lv_istore (lv' := [(4, .int (kI (1))), (3, .int (kI (1))), (2, .ref ar), (0, .ref rd), (1, .int (kI (d)))]) hx hb dX9_stepping_59 hl (by decide) rfl (fun ls hl => ?_)
    refine lv_iload hx hb dX9_stepping_61 (lv_at hl 0 rfl) ?_
    refine lv_aload_n hx hb dX9_stepping_63 rfl (lv_at hl 2 rfl) ?_
    refine kx_lam (i := 5) (σ := ls_6) (vals := [.int (kI (1)), .ref ar]) (rest := []) hx hb hml hl.1 hts hK B.named rfl (by decide) rfl lk_6 hS_11 rfl (fun z hz => by have hz : z ∈ [((.int : FieldType), (.int (kI (1)) : Value)), ((.array .int : FieldType), (.ref ar : Value))] := hz; simp only [List.mem_cons, List.not_mem_nil, or_false] at hz; rcases hz with rfl | rfl <;> exact ⟨rfl, rfl⟩) (by first | exact Nat.le_of_ble_eq_true rfl | omega | (show _ ≤ _; omega) | (dsimp only [headSpec]; omega)) (by first | exact Nat.le_of_ble_eq_true rfl | omega | (show _ ≤ _; omega) | (dsimp only [headSpec]; omega)) (by first | exact Nat.le_of_ble_eq_true rfl | omega | (show _ ≤ _; omega) | (dsimp only [headSpec]; omega)) dX9_stepping_64 (fun lm_16 H_17 hq_18 hz_19 hL_20 hE_21 hS_22 => ?_)
    have hge_lm_16 : s.heap.size ≤ lm_16 := by rw [hq_18]; exact hS_11.1
    refine W.widen (k := 2) (n := 22) (Nat.le_of_ble_eq_true rfl) (Nat.le_of_ble_eq_true rfl) ?_
    have h_23 := h_14.ex hE_21
    exact kx_aret (z := lm_16) hx hb hr (by first | exact Or.inl ⟨_, rfl⟩ | exact Or.inr ⟨_, rfl⟩) hlk (⟨h_23, by first | assumption | rfl | omega | grind⟩) hS_22 dX9_stepping_69
  · -- not taken at 15
    first | exact absurd c_15_15 (by decide) | exact Bool.noConfusion c_15_15 | (simp at c_15_15; done)

