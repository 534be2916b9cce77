/-! MATH 15: lengths, as doubles -/
def fv64 (x : UInt64) : FP.Core.Datum := FP.Core.decode FP.Core.b64 x.toNat
/-- a double that is not below zero, and a number -/
def dpos (x : UInt64) : Prop := x.toNat ≤ 9218868437227405312
def fpos (d : FP.Core.Datum) : Prop := (∃ c q, d = .fin false c q) ∨ d = .inf false
theorem dpos.v {x : UInt64} (h : dpos x) : fpos (fv64 x) := by
  unfold dpos at h
  unfold fv64 fpos FP.Core.decode
  have h1 : FP.Core.fieldS FP.Core.b64 x.toNat = false := by
    unfold FP.Core.fieldS
    rw [show FP.Core.b64.tails = 4503599627370496 from rfl, show FP.Core.b64.exps = 2048 from rfl]
    rw [show x.toNat / 4503599627370496 / 2048 = 0 by omega]
    rfl
  rw [h1]
  split
  · rename_i q
    split
    · exact Or.inr rfl
    · rename_i q2
      exfalso
      apply q2
      unfold FP.Core.fieldE at q
      unfold FP.Core.fieldT
      rw [show FP.Core.b64.tails = 4503599627370496 from rfl] at *
      rw [show FP.Core.b64.exps = 2048 from rfl] at q
      omega
  · split
    · exact Or.inl ⟨_, _, rfl⟩
    · exact Or.inl ⟨_, _, rfl⟩
theorem enc_fin {c : Nat} {q : Int} (hc : c < 9007199254740992) (hq : q ≤ 971) : FP.Core.encode FP.Core.b64 (.fin false c q) ≤ 9218868437227405312 := by
  unfold FP.Core.encode
  dsimp only
  rw [show FP.Core.b64.tails = 4503599627370496 from rfl, show FP.Core.b64.qmin = -1074 from rfl]
  unfold FP.Core.assemble
  rw [show FP.Core.b64.tails = 4503599627370496 from rfl, show FP.Core.b64.exps = 2048 from rfl, show Bool.toNat false = 0 from rfl]
  split <;> omega
theorem enc_inf : FP.Core.encode FP.Core.b64 (.inf false) ≤ 9218868437227405312 := by decide
theorem enc_bound {c : Nat} {q : Int} (hc : c < 9007199254740992) : FP.Core.encode FP.Core.b64 (FP.Core.bound FP.Core.b64 false c q) ≤ 9218868437227405312 := by
  unfold FP.Core.bound
  rw [show FP.Core.b64.qmax = 971 from rfl]
  split
  · rename_i h
    exact enc_fin hc h
  · exact enc_inf
theorem dpos_round {d : FP.Core.Datum} (h : fpos d) : FP.Core.encode FP.Core.b64 (FP.Core.round FP.Core.b64 d) ≤ 9218868437227405312 := by
  rcases h with ⟨c, q, rfl⟩ | rfl
  · unfold FP.Core.round FP.Core.roundRatio
    dsimp only
    split
    · exact enc_fin (by omega) (by decide)
    · unfold FP.Core.roundAt FP.Core.settle
      rw [show FP.Core.b64.tails = 4503599627370496 from rfl, show 2 ^ FP.Core.b64.p = 9007199254740992 from rfl]
      split
      · rename_i h
        exact enc_bound h
      · exact enc_bound (by omega)
  · exact enc_inf
theorem dpos_of {d : FP.Core.Datum} (h : fpos d) : dpos (UInt64.ofNat (FP.Core.encode FP.Core.b64 (FP.Core.round FP.Core.b64 d))) := by
  have h1 := dpos_round h
  unfold dpos
  rw [UInt64.toNat_ofNat_of_lt' (by show _ < 2 ^ 64; omega)]
  exact h1
theorem dpos_add {x y : UInt64} (hx : dpos x) (hy : dpos y) : dpos (FP.dadd x y) := by
  show dpos (UInt64.ofNat (FP.Core.encode FP.Core.b64 (FP.Core.round FP.Core.b64 (FP.Core.exactSum (fv64 x) (fv64 y)))))
  apply dpos_of
  rcases hx.v with ⟨c, q, hx⟩ | hx <;> rcases hy.v with ⟨d, r, hy⟩ | hy <;> rw [hx, hy]
  · refine Or.inl ⟨(FP.Core.sumUnits false c q false d r (min q r)).natAbs, min q r, ?_⟩
    unfold FP.Core.exactSum
    dsimp only
    rw [show FP.Core.sumSign false false (FP.Core.sumUnits false c q false d r (min q r)) = false from ?_]
    unfold FP.Core.sumSign
    split
    · rfl
    · apply decide_eq_false
      unfold FP.Core.sumUnits FP.Core.signed
      simp only [Bool.false_eq_true, if_false]
      omega
  · exact Or.inr rfl
  · exact Or.inr rfl
  · exact Or.inr rfl
theorem dpos_mul {x y : UInt64} (hx : dpos x) {d : Nat} {r : Int} (hy : fv64 y = .fin false (d + 1) r) : dpos (FP.dmul x y) := by
  show dpos (UInt64.ofNat (FP.Core.encode FP.Core.b64 (FP.Core.round FP.Core.b64 (FP.Core.exactProduct (fv64 x) (fv64 y)))))
  apply dpos_of
  rcases hx.v with ⟨c, q, hx⟩ | hx <;> rw [hx, hy]
  · exact Or.inl ⟨_, _, rfl⟩
  · refine Or.inr ?_
    unfold FP.Core.exactProduct
    dsimp only
    rw [if_neg (by omega)]
    rfl
theorem dpos_i2d {k : Int} (h0 : 0 ≤ k) (h1 : k < 2147483648) : dpos (FP.i2d (kI k)) := by
  show dpos (UInt64.ofNat (FP.Core.encode FP.Core.b64 (FP.Core.round FP.Core.b64 (FP.Core.ofInt (kI k).toInt))))
  apply dpos_of
  refine Or.inl ⟨(kI k).toInt.natAbs, 0, ?_⟩
  unfold FP.Core.ofInt
  rw [decide_eq_false (by rw [kI_toInt (by omega) (by omega)]; omega)]
theorem dpos_0 : dpos FP.dconst0 := by unfold dpos; decide
theorem dpos_1 : dpos FP.dconst1 := by unfold dpos; decide
theorem dval_r2 : fv64 4609047870845172685 = .fin false (6369051672525772 + 1) (-52) := by decide
theorem dpos_r2 : dpos 4609047870845172685 := by unfold dpos; decide
theorem dpos.n {x : UInt64} (h : dpos x) : vf_n64 x := by
  unfold dpos at h
  unfold vf_n64
  rw [UInt64.le_iff_toNat_le, UInt64.toNat_and]
  rw [show (0x7fffffffffffffff : UInt64).toNat = 2 ^ 63 - 1 from rfl, Nat.and_two_pow_sub_one_eq_mod, show (0x7ff0000000000000 : UInt64).toNat = 9218868437227405312 from rfl]
  omega
theorem dpos.cmp {x : UInt64} (h : dpos x) : FP.dcmp x x = some .eq := by
  show FP.Core.order (fv64 x) (fv64 x) = some .eq
  rcases h.v with ⟨c, q, h⟩ | h <;> rw [h]
  · unfold FP.Core.order
    simp
  · rfl
/-- the length by steps up to a place; the length by kinds -/
def ln_lenTo (L : Ln) : Nat → UInt64
  | 0 => FP.dconst0
  | k + 1 => FP.dadd (ln_lenTo L k) (if ln_d L k % 2 = 1 then 4609047870845172685 else FP.dconst1)
def ln_lenS (L : Ln) : UInt64 := ln_lenTo L (ln_n L)
def ln_lenK (L : Ln) : UInt64 := FP.dadd (FP.i2d (kI ((ln_n L : Int) - ln_sl L))) (FP.dmul (FP.i2d (kI (ln_sl L))) 4609047870845172685)
theorem ln_lenTo_pos (L : Ln) : ∀ k, dpos (ln_lenTo L k) := by
  intro k
  induction k with
  | zero => exact dpos_0
  | succ k ih =>
    rw [ln_lenTo]
    apply dpos_add ih
    split
    · exact dpos_r2
    · exact dpos_1
theorem ln_lenK_pos {L : Ln} (h0 : 0 ≤ ln_sl L) (h1 : ln_sl L ≤ ln_n L) (h2 : ln_n L ≤ 60) : dpos (ln_lenK L) := dpos_add (dpos_i2d (by omega) (by omega)) (dpos_mul (dpos_i2d (by omega) (by omega)) dval_r2)
theorem ln_slTo_rng (L : Ln) : ∀ k : Nat, 0 ≤ ln_slTo L k ∧ ln_slTo L k ≤ k := by
  intro k
  induction k with
  | zero => simp [ln_slTo]
  | succ k ih => rw [ln_slTo]; omega
theorem ln_sl_rng (L : Ln) : 0 ≤ ln_sl L ∧ ln_sl L ≤ ln_n L := ln_slTo_rng L _
set_option maxHeartbeats 4000000 in
set_option maxRecDepth 100000 in
theorem m_X3_lengthByKinds (l : Launch) (D : kG) (H : Heap) (a : Nat) (ra : Nat) (sa : Nat) (ka : Nat) (ta : Nat) (sn : Nat) (ik : Bool) (tn : Nat) (th : Int) (sp : Int) (iw : Bool) (le : Int) (fi : Int) (se : Int) (g : Nat → Int) (S : Ls) (gap : Int) (ln : Nat) (hO_a : kO D H a 2 [.ref ra, .ref sa, .int (kI ((sn : Nat) : Int)), .ref ka, .int (kI (kb (ik))), .ref ta, .int (kI ((tn : Nat) : Int)), .int (kI (th)), .int (kI (sp)), .int (kI (kb (iw))), .int (kI (le)), .int (kI (fi)), .int (kI (se))]) (hA_ra : kAi D H ra 514 g) (hM : MRow g S gap) (hok : LsOK S gap) (ne_a_ra : a ≠ ra) (bs_a : kBase D ≤ a) (hln : ln < S.length) : Met l yX3_lengthByKinds (ws_ yX3_lengthByKinds cX3_lengthByKinds 2 (some .double)) ({ frames := 3, cells := 0, slots := 0, locals := 64 } : Room) (kPre D H [.ref a, .int (kI ((ln : Nat) : Int))]) (kQd (fun (r : UInt64) H' => (r = ln_lenK (st_ln S ln)) ∧ (kO D H' a 2 [.ref ra, .ref sa, .int (kI ((sn : Nat) : Int)), .ref ka, .int (kI (kb (ik))), .ref ta, .int (kI ((tn : Nat) : Int)), .int (kI (0)), .int (kI (sp)), .int (kI (kb (iw))), .int (kI (le)), .int (kI (fi)), .int (kI (se))])) (fun q : Nat => q = a)) (0) (0) ((fun q : Nat => q = a)) := by
  refine Met.ofW (cc := cX3_lengthByKinds) (maxL := 2) (ret := (some .double)) (by decide) rfl ?_
  intro p e s m args below meth c s₁ B hml hv
  obtain ⟨rfl, hH, hK⟩ := hv
  subst hH
  have hx := B.exec
  have hb := B.bytes
  have hr := B.returns
  have hts := atoms_spec (ws := ws_ yX3_lengthByKinds cX3_lengthByKinds 2 (some .double)) B.pre
  have hts : ∀ w ∈ lw_all, w.before _ s = true := fun w h => hts w (List.mem_cons_of_mem _ h)
  have hown : s.vm.findClass RX3 = some m.cls := findClass_of_methodNamed B.named
  have hlk := B.notSynchronized
  have hS : va_S (fun q : Nat => q = a) s.heap s.heap [] := va_S.rf
  have hB : ∀ q, (fun q : Nat => q = a) q → kBase D ≤ q := fun q h => by (try dsimp only at h); (try simp only [kNW] at h); have hks := hK.size; omega
  have hl := lv_entry ([.ref a, .int (kI ((ln : Nat) : Int))]) (n := 2) (Nat.le_of_ble_eq_true rfl)
  rw [lg_entry_eq]
  generalize (lg_sl ([.ref a, .int (kI ((ln : Nat) : Int))]) ++ List.replicate (2 - (lg_sl ([.ref a, .int (kI ((ln : Nat) : Int))])).length) Slot.unset).toArray = ls at hl ⊢
  have hl : lv_has ls 2 [(0, .ref a), (1, .int (kI ((ln : Nat) : Int)))] := hl
  have hL := hok.ln hln
  have hL60 := hL.n
  have hL8 := hok.1
  have hsl0 := ln_sl_rng (st_ln S ln)
  refine lv_aload_n hx hb dX3_lengthByKinds_0 rfl (lv_at hl 0 rfl) ?_
  refine lv_iload_n hx hb dX3_lengthByKinds_1 rfl (lv_at hl 1 rfl) ?_
  refine kx_cb (va_runV (As := [.int (kI ((ln : Nat) : Int))]) (rest := []) ⟨hx, hb, hml, hown, hts⟩ (m_X3_knows l D s.heap a ra sa ka ta sn ik tn th sp iw le fi se g S gap ln hO_a hA_ra (by first | assumption | omega) (by first | assumption | omega) (by first | assumption | omega) (by first | assumption | omega) (by first | assumption | omega)) (cwV 1 hts (lw_V q2479 q2481 qs66 q89 q2482) rfl rfl rfl (by decide +kernel) ⟨Nat.le_of_ble_eq_true rfl, Nat.le_of_ble_eq_true rfl⟩) (kx_pv hK hS hB (kx_rc hK hO_a (C := RX3) (T := TX3) (N := 13) rfl)) rfl rfl hl.1 rfl (lv_room (Nat.le_of_ble_eq_true rfl)) dX3_lengthByKinds_2 ⟨by first | exact Nat.le_of_ble_eq_true rfl | omega | (show _ ≤ _; omega) | (dsimp only [headSpec]; omega), by first | exact Nat.le_of_ble_eq_true rfl | omega | (show _ ≤ _; omega) | (dsimp only [headSpec]; omega)⟩) hS (fun q _ h => by (try dsimp only at h); (try dsimp only); (try simp only [kNW] at h); (try simp only [kNW]); omega) (fun q h => by (try dsimp only at h); (try dsimp only); (try simp only [kNW] at h); (try simp only [kNW]); omega) (fun z_6 H_4 locs_1 hz_3 hF_5 hS_2 => ?_)
  have hzf_7 := hF_5.1
  refine W.widen (k := 0) (n := 0) (Nat.le_of_ble_eq_true rfl) (Nat.le_of_ble_eq_true rfl) ?_
  obtain ⟨hv_8, ho_9⟩ := hz_3
  subst z_6
  refine kx_ifz (tgt := 35) hx hb dX3_lengthByKinds_5 (by decide) (fun c_5_10 => ?_) (fun c_5_10 => ?_)
  · -- taken at 5
    exact absurd c_5_10 (by decide)
  · -- not taken at 5
    refine lv_aload_n hx hb dX3_lengthByKinds_8 rfl (lv_at hl 0 rfl) ?_
    refine lv_iload_n hx hb dX3_lengthByKinds_9 rfl (lv_at hl 1 rfl) ?_
    refine kx_iconst hx hb dX3_lengthByKinds_10 ?_
    have h_11 := hA_ra.fr hF_5 (fun h => by (try dsimp only at h); (try simp only [kNW] at h); omega)
    refine kx_ci0 (va_runV (As := [.int (kI ((ln : Nat) : Int)), .int (kI (2))]) (rest := []) ⟨hx, hb, hml, hown, hts⟩ (of_n l D H_4 a ([.ref ra, .ref sa, .int (kI ((sn : Nat) : Int)), .ref ka, .int (kI (kb (ik))), .ref ta, .int (kI ((tn : Nat) : Int)), .int (kI (0)), .int (kI (sp)), .int (kI (kb (iw))), .int (kI (le)), .int (kI (fi)), .int (kI (se))]) ra g S gap ln ho_9 rfl h_11 (by first | assumption | omega) (by first | assumption | omega) (by first | assumption | omega)) (cwV 2 hts (lw_V q2304 q2306 qs40 q89 q2307) rfl rfl rfl (by decide +kernel) ⟨Nat.le_of_ble_eq_true rfl, Nat.le_of_ble_eq_true rfl⟩) (kx_pv hK hS_2 hB (kx_rc hK ho_9 (C := RX3) (T := TX3) (N := 13) rfl)) rfl rfl hl.1 rfl (lv_room (Nat.le_of_ble_eq_true rfl)) dX3_lengthByKinds_11 ⟨by first | exact Nat.le_of_ble_eq_true rfl | omega | (show _ ≤ _; omega) | (dsimp only [headSpec]; omega), by first | exact Nat.le_of_ble_eq_true rfl | omega | (show _ ≤ _; omega) | (dsimp only [headSpec]; omega)⟩) hS_2 (fun z_15 locs_12 hz_14 hS_13 => ?_)
    subst z_15
    refine lv_aload_n hx hb dX3_lengthByKinds_14 rfl (lv_at hl 0 rfl) ?_
    refine lv_iload_n hx hb dX3_lengthByKinds_15 rfl (lv_at hl 1 rfl) ?_
    refine kx_ci0 (va_runV (As := [.int (kI ((ln : Nat) : Int))]) (rest := [.int (kI ((ln_n (st_ln S ln) : Nat) : Int))]) ⟨hx, hb, hml, hown, hts⟩ (m_X3_slanting l D H_4 a ([.ref ra, .ref sa, .int (kI ((sn : Nat) : Int)), .ref ka, .int (kI (kb (ik))), .ref ta, .int (kI ((tn : Nat) : Int)), .int (kI (0)), .int (kI (sp)), .int (kI (kb (iw))), .int (kI (le)), .int (kI (fi)), .int (kI (se))]) ra g S gap ln ho_9 rfl h_11 (by first | assumption | omega) (by first | assumption | omega) (by first | assumption | omega)) (cwV 1 hts (lw_V q2495 q2497 qs67 q89 q2498) rfl rfl rfl (by decide +kernel) ⟨Nat.le_of_ble_eq_true rfl, Nat.le_of_ble_eq_true rfl⟩) (kx_pv hK hS_13 hB (kx_rc hK ho_9 (C := RX3) (T := TX3) (N := 13) rfl)) rfl rfl hl.1 rfl (lv_room (Nat.le_of_ble_eq_true rfl)) dX3_lengthByKinds_16 ⟨by first | exact Nat.le_of_ble_eq_true rfl | omega | (show _ ≤ _; omega) | (dsimp only [headSpec]; omega), by first | exact Nat.le_of_ble_eq_true rfl | omega | (show _ ≤ _; omega) | (dsimp only [headSpec]; omega)⟩) hS_13 (fun z_19 locs_16 hz_18 hS_17 => ?_)
    subst z_19
    refine kx_isub hx hb dX3_lengthByKinds_19 ?_
    refine lv_i2d hx hb dX3_lengthByKinds_20 ?_
    refine lv_aload_n hx hb dX3_lengthByKinds_21 rfl (lv_at hl 0 rfl) ?_
    refine lv_iload_n hx hb dX3_lengthByKinds_22 rfl (lv_at hl 1 rfl) ?_
    refine kx_ci0 (va_runV (As := [.int (kI ((ln : Nat) : Int))]) (rest := [.double (FP.i2d (kI ((((ln_n (st_ln S ln) : Nat) : Int) - ln_sl (st_ln S ln)))))]) ⟨hx, hb, hml, hown, hts⟩ (m_X3_slanting l D H_4 a ([.ref ra, .ref sa, .int (kI ((sn : Nat) : Int)), .ref ka, .int (kI (kb (ik))), .ref ta, .int (kI ((tn : Nat) : Int)), .int (kI (0)), .int (kI (sp)), .int (kI (kb (iw))), .int (kI (le)), .int (kI (fi)), .int (kI (se))]) ra g S gap ln ho_9 rfl h_11 (by first | assumption | omega) (by first | assumption | omega) (by first | assumption | omega)) (cwV 1 hts (lw_V q2495 q2497 qs67 q89 q2498) rfl rfl rfl (by decide +kernel) ⟨Nat.le_of_ble_eq_true rfl, Nat.le_of_ble_eq_true rfl⟩) (kx_pv hK hS_17 hB (kx_rc hK ho_9 (C := RX3) (T := TX3) (N := 13) rfl)) rfl rfl hl.1 rfl (lv_room (Nat.le_of_ble_eq_true rfl)) dX3_lengthByKinds_23 ⟨by first | exact Nat.le_of_ble_eq_true rfl | omega | (show _ ≤ _; omega) | (dsimp only [headSpec]; omega), by first | exact Nat.le_of_ble_eq_true rfl | omega | (show _ ≤ _; omega) | (dsimp only [headSpec]; omega)⟩) hS_17 (fun z_23 locs_20 hz_22 hS_21 => ?_)
    subst z_23
    refine lv_i2d hx hb dX3_lengthByKinds_26 ?_
    refine lv_ldc2d hx hb hown (hts _ q2499) dX3_lengthByKinds_27 ?_
    refine lv_dmul hx hb dX3_lengthByKinds_30 ((dpos_mul (dpos_i2d (by omega) (by omega)) dval_r2).n) ?_
    refine lv_dadd hx hb dX3_lengthByKinds_31 ((dpos_add (dpos_i2d (by omega) (by omega)) (dpos_mul (dpos_i2d (by omega) (by omega)) dval_r2)).n) ?_
    refine lv_goto (tgt := 36) hx hb dX3_lengthByKinds_32 (by decide) ?_
    exact kx_dret (z := FP.dadd (FP.i2d (kI ((((ln_n (st_ln S ln) : Nat) : Int) - ln_sl (st_ln S ln))))) (FP.dmul (FP.i2d (kI (ln_sl (st_ln S ln)))) 4609047870845172685)) hx hb hr hlk (⟨by rfl, ho_9⟩) hS_21 dX3_lengthByKinds_36

set_option maxHeartbeats 4000000 in
set_option maxRecDepth 100000 in
theorem m_X3_lengthByKinds_no (l : Launch) (D : kG) (H : Heap) (a : Nat) (ra : Nat) (sa : Nat) (ka : Nat) (ta : Nat) (sn : Nat) (ik : Bool) (tn : Nat) (th : Int) (sp : Int) (iw : Bool) (le : Int) (fi : Int) (se : Int) (g : Nat → Int) (S : Ls) (gap : Int) (x : Int) (hO_a : kO D H a 2 [.ref ra, .ref sa, .int (kI ((sn : Nat) : Int)), .ref ka, .int (kI (kb (ik))), .ref ta, .int (kI ((tn : Nat) : Int)), .int (kI (th)), .int (kI (sp)), .int (kI (kb (iw))), .int (kI (le)), .int (kI (fi)), .int (kI (se))]) (hA_ra : kAi D H ra 514 g) (hM : MRow g S gap) (hok : LsOK S gap) (ne_a_ra : a ≠ ra) (bs_a : kBase D ≤ a) (hr_x : -2147483648 ≤ x ∧ x ≤ 2147483647) (hno : ¬ (0 ≤ x ∧ x < S.length)) : Met l yX3_lengthByKinds (ws_ yX3_lengthByKinds cX3_lengthByKinds 2 (some .double)) ({ frames := 3, cells := 0, slots := 0, locals := 64 } : Room) (kPre D H [.ref a, .int (kI (x))]) (kQd (fun (r : UInt64) H' => (r = FP.dconst0) ∧ (kO D H' a 2 [.ref ra, .ref sa, .int (kI ((sn : Nat) : Int)), .ref ka, .int (kI (kb (ik))), .ref ta, .int (kI ((tn : Nat) : Int)), .int (kI (1)), .int (kI (sp)), .int (kI (kb (iw))), .int (kI (le)), .int (kI (fi)), .int (kI (se))])) (fun q : Nat => q = a)) (0) (0) ((fun q : Nat => q = a)) := by
  refine Met.ofW (cc := cX3_lengthByKinds) (maxL := 2) (ret := (some .double)) (by decide) rfl ?_
  intro p e s m args below meth c s₁ B hml hv
  obtain ⟨rfl, hH, hK⟩ := hv
  subst hH
  have hx := B.exec
  have hb := B.bytes
  have hr := B.returns
  have hts := atoms_spec (ws := ws_ yX3_lengthByKinds cX3_lengthByKinds 2 (some .double)) B.pre
  have hts : ∀ w ∈ lw_all, w.before _ s = true := fun w h => hts w (List.mem_cons_of_mem _ h)
  have hown : s.vm.findClass RX3 = some m.cls := findClass_of_methodNamed B.named
  have hlk := B.notSynchronized
  have hS : va_S (fun q : Nat => q = a) s.heap s.heap [] := va_S.rf
  have hB : ∀ q, (fun q : Nat => q = a) q → kBase D ≤ q := fun q h => by (try dsimp only at h); (try simp only [kNW] at h); have hks := hK.size; omega
  have hl := lv_entry ([.ref a, .int (kI (x))]) (n := 2) (Nat.le_of_ble_eq_true rfl)
  rw [lg_entry_eq]
  generalize (lg_sl ([.ref a, .int (kI (x))]) ++ List.replicate (2 - (lg_sl ([.ref a, .int (kI (x))])).length) Slot.unset).toArray = ls at hl ⊢
  have hl : lv_has ls 2 [(0, .ref a), (1, .int (kI (x)))] := hl
  have hL8 := hok.1
  have hlen := hM.len
  refine lv_aload_n hx hb dX3_lengthByKinds_0 rfl (lv_at hl 0 rfl) ?_
  refine lv_iload_n hx hb dX3_lengthByKinds_1 rfl (lv_at hl 1 rfl) ?_
  refine kx_cb (va_runV (As := [.int (kI (x))]) (rest := []) ⟨hx, hb, hml, hown, hts⟩ (m_X3_knows_no l D s.heap a ra sa ka ta sn ik tn th sp iw le fi se g S gap x hO_a hA_ra (by first | assumption | omega) (by first | assumption | omega) (by first | assumption | omega) (by first | assumption | omega) (by first | assumption | omega) (by first | assumption | omega)) (cwV 1 hts (lw_V q2479 q2481 qs66 q89 q2482) rfl rfl rfl (by decide +kernel) ⟨Nat.le_of_ble_eq_true rfl, Nat.le_of_ble_eq_true rfl⟩) (kx_pv hK hS hB (kx_rc hK hO_a (C := RX3) (T := TX3) (N := 13) rfl)) rfl rfl hl.1 rfl (lv_room (Nat.le_of_ble_eq_true rfl)) dX3_lengthByKinds_2 ⟨by first | exact Nat.le_of_ble_eq_true rfl | omega | (show _ ≤ _; omega) | (dsimp only [headSpec]; omega), by first | exact Nat.le_of_ble_eq_true rfl | omega | (show _ ≤ _; omega) | (dsimp only [headSpec]; omega)⟩) hS (fun q _ h => by (try dsimp only at h); (try dsimp only); (try simp only [kNW] at h); (try simp only [kNW]); omega) (fun q h => by (try dsimp only at h); (try dsimp only); (try simp only [kNW] at h); (try simp only [kNW]); omega) (fun z_6 H_4 locs_1 hz_3 hF_5 hS_2 => ?_)
  have hzf_7 := hF_5.1
  refine W.widen (k := 0) (n := 0) (Nat.le_of_ble_eq_true rfl) (Nat.le_of_ble_eq_true rfl) ?_
  obtain ⟨hv_8, ho_9⟩ := hz_3
  subst z_6
  refine kx_ifz (tgt := 35) hx hb dX3_lengthByKinds_5 (by decide) (fun c_5_10 => ?_) (fun c_5_10 => ?_)
  · -- taken at 5
    refine lv_dconst0 hx hb dX3_lengthByKinds_35 ?_
    exact kx_dret (z := FP.dconst0) hx hb hr hlk (⟨by rfl, ho_9⟩) hS_2 dX3_lengthByKinds_36
  · -- not taken at 5
    exact absurd c_5_10 (by decide)

set_option maxHeartbeats 4000000 in
set_option maxRecDepth 100000 in
theorem m_X3_lengthBySteps (l : Launch) (D : kG) (H : Heap) (a : Nat) (ra : Nat) (sa : Nat) (ka : Nat) (ta : Nat) (sn : Nat) (ik : Bool) (tn : Nat) (th : Int) (sp : Int) (iw : Bool) (le : Int) (fi : Int) (se : Int) (g : Nat → Int) (S : Ls) (gap : Int) (ln : Nat) (hO_a : kO D H a 2 [.ref ra, .ref sa, .int (kI ((sn : Nat) : Int)), .ref ka, .int (kI (kb (ik))), .ref ta, .int (kI ((tn : Nat) : Int)), .int (kI (th)), .int (kI (sp)), .int (kI (kb (iw))), .int (kI (le)), .int (kI (fi)), .int (kI (se))]) (hA_ra : kAi D H ra 514 g) (hM : MRow g S gap) (hok : LsOK S gap) (ne_a_ra : a ≠ ra) (bs_a : kBase D ≤ a) (hln : ln < S.length) : Met l yX3_lengthBySteps (ws_ yX3_lengthBySteps cX3_lengthBySteps 6 (some .double)) ({ frames := 3, cells := 0, slots := 0, locals := 64 } : Room) (kPre D H [.ref a, .int (kI ((ln : Nat) : Int))]) (kQd (fun (r : UInt64) H' => (r = ln_lenS (st_ln S ln)) ∧ (kO D H' a 2 [.ref ra, .ref sa, .int (kI ((sn : Nat) : Int)), .ref ka, .int (kI (kb (ik))), .ref ta, .int (kI ((tn : Nat) : Int)), .int (kI (0)), .int (kI (sp)), .int (kI (kb (iw))), .int (kI (le)), .int (kI (fi)), .int (kI (se))])) (fun q : Nat => q = a)) (0) (0) ((fun q : Nat => q = a)) := by
  refine Met.ofW (cc := cX3_lengthBySteps) (maxL := 6) (ret := (some .double)) (by decide) rfl ?_
  intro p e s m args below meth c s₁ B hml hv
  obtain ⟨rfl, hH, hK⟩ := hv
  subst hH
  have hx := B.exec
  have hb := B.bytes
  have hr := B.returns
  have hts := atoms_spec (ws := ws_ yX3_lengthBySteps cX3_lengthBySteps 6 (some .double)) B.pre
  have hts : ∀ w ∈ lw_all, w.before _ s = true := fun w h => hts w (List.mem_cons_of_mem _ h)
  have hown : s.vm.findClass RX3 = some m.cls := findClass_of_methodNamed B.named
  have hlk := B.notSynchronized
  have hS : va_S (fun q : Nat => q = a) s.heap s.heap [] := va_S.rf
  have hB : ∀ q, (fun q : Nat => q = a) q → kBase D ≤ q := fun q h => by (try dsimp only at h); (try simp only [kNW] at h); have hks := hK.size; omega
  have hl := lv_entry ([.ref a, .int (kI ((ln : Nat) : Int))]) (n := 6) (Nat.le_of_ble_eq_true rfl)
  rw [lg_entry_eq]
  generalize (lg_sl ([.ref a, .int (kI ((ln : Nat) : Int))]) ++ List.replicate (6 - (lg_sl ([.ref a, .int (kI ((ln : Nat) : Int))])).length) Slot.unset).toArray = ls at hl ⊢
  have hl : lv_has ls 6 [(0, .ref a), (1, .int (kI ((ln : Nat) : Int)))] := hl
  have hL := hok.ln hln
  have hL60 := hL.n
  have hL8 := hok.1
  refine lv_dconst0 hx hb dX3_lengthBySteps_0 ?_
  refine lv_dstore_n (lv' := [(2, .double (FP.dconst0)), (0, .ref a), (1, .int (kI ((ln : Nat) : Int)))]) hx hb dX3_lengthBySteps_1 rfl hl (by decide) rfl (fun ls hl => ?_)
  refine lv_aload_n hx hb dX3_lengthBySteps_2 rfl (lv_at hl 1 rfl) ?_
  refine lv_iload_n hx hb dX3_lengthBySteps_3 rfl (lv_at hl 2 rfl) ?_
  refine kx_cb (va_runV (As := [.int (kI ((ln : Nat) : Int))]) (rest := []) ⟨hx, hb, hml, hown, hts⟩ (m_X3_knows l D s.heap a ra sa ka ta sn ik tn th sp iw le fi se g S gap ln hO_a hA_ra (by first | assumption | omega) (by first | assumption | omega) (by first | assumption | omega) (by first | assumption | omega) (by first | assumption | omega)) (cwV 1 hts (lw_V q2479 q2481 qs66 q89 q2482) rfl rfl rfl (by decide +kernel) ⟨Nat.le_of_ble_eq_true rfl, Nat.le_of_ble_eq_true rfl⟩) (kx_pv hK hS hB (kx_rc hK hO_a (C := RX3) (T := TX3) (N := 13) rfl)) rfl rfl hl.1 rfl (lv_room (Nat.le_of_ble_eq_true rfl)) dX3_lengthBySteps_4 ⟨by first | exact Nat.le_of_ble_eq_true rfl | omega | (show _ ≤ _; omega) | (dsimp only [headSpec]; omega), by first | exact Nat.le_of_ble_eq_true rfl | omega | (show _ ≤ _; omega) | (dsimp only [headSpec]; omega)⟩) hS (fun q _ h => by (try dsimp only at h); (try dsimp only); (try simp only [kNW] at h); (try simp only [kNW]); omega) (fun q h => by (try dsimp only at h); (try dsimp only); (try simp only [kNW] at h); (try simp only [kNW]); omega) (fun z_6 H_4 locs_1 hz_3 hF_5 hS_2 => ?_)
  have hzf_7 := hF_5.1
  refine W.widen (k := 0) (n := 0) (Nat.le_of_ble_eq_true rfl) (Nat.le_of_ble_eq_true rfl) ?_
  obtain ⟨hv_8, ho_9⟩ := hz_3
  subst z_6
  refine lv_istore (lv' := [(4, .int (kI (kb (true)))), (2, .double (FP.dconst0)), (0, .ref a), (1, .int (kI ((ln : Nat) : Int)))]) hx hb dX3_lengthBySteps_7 hl (by decide) rfl (fun ls hl => ?_)
  refine kx_iconst hx hb dX3_lengthBySteps_9 ?_
  refine lv_istore (lv' := [(5, .int (kI (0))), (4, .int (kI (kb (true)))), (2, .double (FP.dconst0)), (0, .ref a), (1, .int (kI ((ln : Nat) : Int)))]) hx hb dX3_lengthBySteps_10 hl (by decide) rfl (fun ls hl => ?_)
  have lp_12_x_10 : ∀ (n_12 : Nat) (k : Nat) (sm : UInt64) (H : Heap) (hO_a : kO D H a 2 [.ref ra, .ref sa, .int (kI ((sn : Nat) : Int)), .ref ka, .int (kI (kb (ik))), .ref ta, .int (kI ((tn : Nat) : Int)), .int (kI (0)), .int (kI (sp)), .int (kI (kb (iw))), .int (kI (le)), .int (kI (fi)), .int (kI (se))]) (hA_ra : kAi D H ra 514 g) (hk : k ≤ ln_n (st_ln S ln)) (hsm : sm = ln_lenTo (st_ln S ln) k) (locs : List Loc) (hS : va_S (fun q : Nat => q = a) s.heap H locs) (hm_12 : ln_n (st_ln S ln) - k < n_12) (ls : Array Slot), lv_has ls 6 [(0, .ref a), (1, .int (kI ((ln : Nat) : Int))), (2, .double (sm)), (4, .int (kI (kb (true)))), (5, .int (kI ((k : Nat) : Int)))] → W p l e (headSpec (ws_ yX3_lengthBySteps cX3_lengthBySteps 6 (some .double)) ({ frames := 3, cells := 0, slots := 0, locals := 64 } : Room)).room s m ([.ref a, .int (kI ((ln : Nat) : Int))] : List Value).toArray below meth c H locs (0) (0) (MQ below (kQd (fun (r : UInt64) H' => (r = ln_lenS (st_ln S ln)) ∧ (kO D H' a 2 [.ref ra, .ref sa, .int (kI ((sn : Nat) : Int)), .ref ka, .int (kI (kb (ik))), .ref ta, .int (kI ((tn : Nat) : Int)), .int (kI (0)), .int (kI (sp)), .int (kI (kb (iw))), .int (kI (le)), .int (kI (fi)), .int (kI (se))])) (fun q : Nat => q = a)) ([.ref a, .int (kI ((ln : Nat) : Int))] : List Value).toArray s (0) (0) ((fun q : Nat => q = a))) (F0 m 12 ls []) := by
    intro n_12
    induction n_12 with
    | zero => intro k sm H hO_a hA_ra hk hsm locs hS hm_12; exact absurd hm_12 (Nat.not_lt_zero _)
    | succ n_12 ih_12 =>
      intro k sm H hO_a hA_ra hk hsm locs hS hm_12 ls hl
      refine lv_iload hx hb dX3_lengthBySteps_12 (lv_at hl 4 rfl) ?_
      refine lv_iload hx hb dX3_lengthBySteps_14 (lv_at hl 3 rfl) ?_
      refine kx_ifz (tgt := 28) hx hb dX3_lengthBySteps_16 (by decide) (fun c_16_11 => ?_) (fun c_16_11 => ?_)
      · -- taken at 16
        exact absurd c_16_11 (by decide)
      · -- not taken at 16
        refine lv_aload_n hx hb dX3_lengthBySteps_19 rfl (lv_at hl 0 rfl) ?_
        refine lv_iload_n hx hb dX3_lengthBySteps_20 rfl (lv_at hl 1 rfl) ?_
        refine kx_iconst hx hb dX3_lengthBySteps_21 ?_
        refine kx_ci0 (va_runV (As := [.int (kI ((ln : Nat) : Int)), .int (kI (2))]) (rest := [.int (kI ((k : Nat) : Int))]) ⟨hx, hb, hml, hown, hts⟩ (of_n l D H a ([.ref ra, .ref sa, .int (kI ((sn : Nat) : Int)), .ref ka, .int (kI (kb (ik))), .ref ta, .int (kI ((tn : Nat) : Int)), .int (kI (0)), .int (kI (sp)), .int (kI (kb (iw))), .int (kI (le)), .int (kI (fi)), .int (kI (se))]) ra g S gap ln hO_a rfl hA_ra (by first | assumption | omega) (by first | assumption | omega) (by first | assumption | omega)) (cwV 2 hts (lw_V q2304 q2306 qs40 q89 q2307) rfl rfl rfl (by decide +kernel) ⟨Nat.le_of_ble_eq_true rfl, Nat.le_of_ble_eq_true rfl⟩) (kx_pv hK hS hB (kx_rc hK hO_a (C := RX3) (T := TX3) (N := 13) rfl)) rfl rfl hl.1 rfl (lv_room (Nat.le_of_ble_eq_true rfl)) dX3_lengthBySteps_22 ⟨by first | exact Nat.le_of_ble_eq_true rfl | omega | (show _ ≤ _; omega) | (dsimp only [headSpec]; omega), by first | exact Nat.le_of_ble_eq_true rfl | omega | (show _ ≤ _; omega) | (dsimp only [headSpec]; omega)⟩) hS (fun z_15 locs_12 hz_14 hS_13 => ?_)
        subst z_15
        refine lv_goto (tgt := 29) hx hb dX3_lengthBySteps_25 (by decide) ?_
        refine kx_icmp_ge (x := ((k : Nat) : Int)) (y := ((ln_n (st_ln S ln) : Nat) : Int)) (tgt := 63) hx hb dX3_lengthBySteps_29 (by decide) (by omega) (by omega) (by omega) (by omega) (fun c_29_16 => ?_) (fun c_29_16 => ?_)
        · -- taken at 29
          refine lv_dload_n hx hb dX3_lengthBySteps_63 rfl (lv_at hl 2 rfl) ?_
          exact kx_dret (z := sm) hx hb hr hlk (⟨by rw [hsm, ln_lenS, show k = ln_n (st_ln S ln) by omega], hO_a⟩) hS_13 dX3_lengthBySteps_64
        · -- not taken at 29
          have hd := hL.d (k := k) (by omega)
          refine lv_dload_n hx hb dX3_lengthBySteps_32 rfl (lv_at hl 2 rfl) ?_
          refine lv_aload_n hx hb dX3_lengthBySteps_33 rfl (lv_at hl 0 rfl) ?_
          refine lv_iload_n hx hb dX3_lengthBySteps_34 rfl (lv_at hl 1 rfl) ?_
          refine kx_iconst hx hb dX3_lengthBySteps_35 ?_
          refine lv_iload hx hb dX3_lengthBySteps_36 (lv_at hl 4 rfl) ?_
          refine kx_iadd hx hb dX3_lengthBySteps_38 ?_
          refine kx_ci0 (va_runV (As := [.int (kI ((ln : Nat) : Int)), .int (kI ((4 + ((k : Nat) : Int))))]) (rest := [.double (sm)]) ⟨hx, hb, hml, hown, hts⟩ (of_d l D H a ([.ref ra, .ref sa, .int (kI ((sn : Nat) : Int)), .ref ka, .int (kI (kb (ik))), .ref ta, .int (kI ((tn : Nat) : Int)), .int (kI (0)), .int (kI (sp)), .int (kI (kb (iw))), .int (kI (le)), .int (kI (fi)), .int (kI (se))]) ra g S gap ln ((4 + ((k : Nat) : Int))) k hO_a rfl hA_ra (by first | assumption | omega) (by first | assumption | omega) (by first | assumption | omega) (by first | assumption | omega) (by first | assumption | omega)) (cwV 2 hts (lw_V q2304 q2306 qs40 q89 q2307) rfl rfl rfl (by decide +kernel) ⟨Nat.le_of_ble_eq_true rfl, Nat.le_of_ble_eq_true rfl⟩) (kx_pv hK hS_13 hB (kx_rc hK hO_a (C := RX3) (T := TX3) (N := 13) rfl)) rfl rfl hl.1 rfl (lv_room (Nat.le_of_ble_eq_true rfl)) dX3_lengthBySteps_39 ⟨by first | exact Nat.le_of_ble_eq_true rfl | omega | (show _ ≤ _; omega) | (dsimp only [headSpec]; omega), by first | exact Nat.le_of_ble_eq_true rfl | omega | (show _ ≤ _; omega) | (dsimp only [headSpec]; omega)⟩) hS_13 (fun z_20 locs_17 hz_19 hS_18 => ?_)
          subst z_20
          refine kx_iconst hx hb dX3_lengthBySteps_42 ?_
          refine kx_irem (x := ln_d (st_ln S ln) k) (y := 2) hx hb (by omega) (by omega) (by omega) (by omega) dX3_lengthBySteps_43 ?_
          refine kx_iconst hx hb dX3_lengthBySteps_44 ?_
          refine kx_icmp_ne (x := (ln_d (st_ln S ln) k % 2)) (y := 1) (tgt := 54) hx hb dX3_lengthBySteps_45 (by decide) (by omega) (by omega) (by omega) (by omega) (fun c_45_21 => ?_) (fun c_45_21 => ?_)
          · -- taken at 45
            refine lv_dconst1 hx hb dX3_lengthBySteps_54 ?_
            refine lv_dadd hx hb dX3_lengthBySteps_55 ((dpos_add (by rw [hsm]; exact ln_lenTo_pos _ _) (by first | exact dpos_r2 | exact dpos_1)).n) ?_
            refine lv_dstore_n (lv' := [(2, .double (FP.dadd sm FP.dconst1)), (0, .ref a), (1, .int (kI ((ln : Nat) : Int))), (4, .int (kI (kb (true)))), (5, .int (kI ((k : Nat) : Int)))]) hx hb dX3_lengthBySteps_56 rfl hl (by decide) rfl (fun ls hl => ?_)
            refine lv_iinc (v := kI (((k + 1 : Nat) : Int))) (lv' := [(5, .int (kI ((k + 1 : Nat) : Int))), (2, .double (FP.dadd sm FP.dconst1)), (0, .ref a), (1, .int (kI ((ln : Nat) : Int))), (4, .int (kI (kb (true))))]) hx hb dX3_lengthBySteps_57 hl (k := 4) rfl (kI_incN _ _) (by decide) rfl (fun ls hl => ?_)
            refine lv_goto (tgt := 12) hx hb dX3_lengthBySteps_60 (by decide) ?_
            exact ih_12  (k + 1) (FP.dadd sm FP.dconst1) H hO_a hA_ra (by first | assumption | omega | (simp_all; done) | grind) (by rw [ln_lenTo, ← hsm]; first | (rw [if_pos (by omega)]; done) | (rw [if_neg (by omega)]; done)) _ hS_18 (by omega) ls (lv_sub hl [2, 3, 1, 4, 0] rfl)
          · -- not taken at 45
            refine lv_ldc2d hx hb hown (hts _ q2499) dX3_lengthBySteps_48 ?_
            refine lv_goto (tgt := 55) hx hb dX3_lengthBySteps_51 (by decide) ?_
            refine lv_dadd hx hb dX3_lengthBySteps_55 ((dpos_add (by rw [hsm]; exact ln_lenTo_pos _ _) (by first | exact dpos_r2 | exact dpos_1)).n) ?_
            refine lv_dstore_n (lv' := [(2, .double (FP.dadd sm 4609047870845172685)), (0, .ref a), (1, .int (kI ((ln : Nat) : Int))), (4, .int (kI (kb (true)))), (5, .int (kI ((k : Nat) : Int)))]) hx hb dX3_lengthBySteps_56 rfl hl (by decide) rfl (fun ls hl => ?_)
            refine lv_iinc (v := kI (((k + 1 : Nat) : Int))) (lv' := [(5, .int (kI ((k + 1 : Nat) : Int))), (2, .double (FP.dadd sm 4609047870845172685)), (0, .ref a), (1, .int (kI ((ln : Nat) : Int))), (4, .int (kI (kb (true))))]) hx hb dX3_lengthBySteps_57 hl (k := 4) rfl (kI_incN _ _) (by decide) rfl (fun ls hl => ?_)
            refine lv_goto (tgt := 12) hx hb dX3_lengthBySteps_60 (by decide) ?_
            exact ih_12  (k + 1) (FP.dadd sm 4609047870845172685) H hO_a hA_ra (by first | assumption | omega | (simp_all; done) | grind) (by rw [ln_lenTo, ← hsm]; first | (rw [if_pos (by omega)]; done) | (rw [if_neg (by omega)]; done)) _ hS_18 (by omega) ls (lv_sub hl [2, 3, 1, 4, 0] rfl)
  have h_22 := hA_ra.fr hF_5 (fun h => by (try dsimp only at h); (try simp only [kNW] at h); omega)
  exact lp_12_x_10 (ln_n (st_ln S ln) - 0 + 1) 0 FP.dconst0 H_4 ho_9 h_22 (by first | assumption | omega | (simp_all; done) | grind) (rfl) _ hS_2 (Nat.lt_succ_self _) ls (lv_sub hl [3, 4, 2, 1, 0] rfl)

set_option maxHeartbeats 4000000 in
set_option maxRecDepth 100000 in
theorem m_X3_lengthBySteps_no (l : Launch) (D : kG) (H : Heap) (a : Nat) (ra : Nat) (sa : Nat) (ka : Nat) (ta : Nat) (sn : Nat) (ik : Bool) (tn : Nat) (th : Int) (sp : Int) (iw : Bool) (le : Int) (fi : Int) (se : Int) (g : Nat → Int) (S : Ls) (gap : Int) (x : Int) (hO_a : kO D H a 2 [.ref ra, .ref sa, .int (kI ((sn : Nat) : Int)), .ref ka, .int (kI (kb (ik))), .ref ta, .int (kI ((tn : Nat) : Int)), .int (kI (th)), .int (kI (sp)), .int (kI (kb (iw))), .int (kI (le)), .int (kI (fi)), .int (kI (se))]) (hA_ra : kAi D H ra 514 g) (hM : MRow g S gap) (hok : LsOK S gap) (ne_a_ra : a ≠ ra) (bs_a : kBase D ≤ a) (hr_x : -2147483648 ≤ x ∧ x ≤ 2147483647) (hno : ¬ (0 ≤ x ∧ x < S.length)) : Met l yX3_lengthBySteps (ws_ yX3_lengthBySteps cX3_lengthBySteps 6 (some .double)) ({ frames := 3, cells := 0, slots := 0, locals := 64 } : Room) (kPre D H [.ref a, .int (kI (x))]) (kQd (fun (r : UInt64) H' => (r = FP.dconst0) ∧ (kO D H' a 2 [.ref ra, .ref sa, .int (kI ((sn : Nat) : Int)), .ref ka, .int (kI (kb (ik))), .ref ta, .int (kI ((tn : Nat) : Int)), .int (kI (1)), .int (kI (sp)), .int (kI (kb (iw))), .int (kI (le)), .int (kI (fi)), .int (kI (se))])) (fun q : Nat => q = a)) (0) (0) ((fun q : Nat => q = a)) := by
  refine Met.ofW (cc := cX3_lengthBySteps) (maxL := 6) (ret := (some .double)) (by decide) rfl ?_
  intro p e s m args below meth c s₁ B hml hv
  obtain ⟨rfl, hH, hK⟩ := hv
  subst hH
  have hx := B.exec
  have hb := B.bytes
  have hr := B.returns
  have hts := atoms_spec (ws := ws_ yX3_lengthBySteps cX3_lengthBySteps 6 (some .double)) B.pre
  have hts : ∀ w ∈ lw_all, w.before _ s = true := fun w h => hts w (List.mem_cons_of_mem _ h)
  have hown : s.vm.findClass RX3 = some m.cls := findClass_of_methodNamed B.named
  have hlk := B.notSynchronized
  have hS : va_S (fun q : Nat => q = a) s.heap s.heap [] := va_S.rf
  have hB : ∀ q, (fun q : Nat => q = a) q → kBase D ≤ q := fun q h => by (try dsimp only at h); (try simp only [kNW] at h); have hks := hK.size; omega
  have hl := lv_entry ([.ref a, .int (kI (x))]) (n := 6) (Nat.le_of_ble_eq_true rfl)
  rw [lg_entry_eq]
  generalize (lg_sl ([.ref a, .int (kI (x))]) ++ List.replicate (6 - (lg_sl ([.ref a, .int (kI (x))])).length) Slot.unset).toArray = ls at hl ⊢
  have hl : lv_has ls 6 [(0, .ref a), (1, .int (kI (x)))] := hl
  have hL8 := hok.1
  have hlen := hM.len
  refine lv_dconst0 hx hb dX3_lengthBySteps_0 ?_
  refine lv_dstore_n (lv' := [(2, .double (FP.dconst0)), (0, .ref a), (1, .int (kI (x)))]) hx hb dX3_lengthBySteps_1 rfl hl (by decide) rfl (fun ls hl => ?_)
  refine lv_aload_n hx hb dX3_lengthBySteps_2 rfl (lv_at hl 1 rfl) ?_
  refine lv_iload_n hx hb dX3_lengthBySteps_3 rfl (lv_at hl 2 rfl) ?_
  refine kx_cb (va_runV (As := [.int (kI (x))]) (rest := []) ⟨hx, hb, hml, hown, hts⟩ (m_X3_knows_no l D s.heap a ra sa ka ta sn ik tn th sp iw le fi se g S gap x hO_a hA_ra (by first | assumption | omega) (by first | assumption | omega) (by first | assumption | omega) (by first | assumption | omega) (by first | assumption | omega) (by first | assumption | omega)) (cwV 1 hts (lw_V q2479 q2481 qs66 q89 q2482) rfl rfl rfl (by decide +kernel) ⟨Nat.le_of_ble_eq_true rfl, Nat.le_of_ble_eq_true rfl⟩) (kx_pv hK hS hB (kx_rc hK hO_a (C := RX3) (T := TX3) (N := 13) rfl)) rfl rfl hl.1 rfl (lv_room (Nat.le_of_ble_eq_true rfl)) dX3_lengthBySteps_4 ⟨by first | exact Nat.le_of_ble_eq_true rfl | omega | (show _ ≤ _; omega) | (dsimp only [headSpec]; omega), by first | exact Nat.le_of_ble_eq_true rfl | omega | (show _ ≤ _; omega) | (dsimp only [headSpec]; omega)⟩) hS (fun q _ h => by (try dsimp only at h); (try dsimp only); (try simp only [kNW] at h); (try simp only [kNW]); omega) (fun q h => by (try dsimp only at h); (try dsimp only); (try simp only [kNW] at h); (try simp only [kNW]); omega) (fun z_6 H_4 locs_1 hz_3 hF_5 hS_2 => ?_)
  have hzf_7 := hF_5.1
  refine W.widen (k := 0) (n := 0) (Nat.le_of_ble_eq_true rfl) (Nat.le_of_ble_eq_true rfl) ?_
  obtain ⟨hv_8, ho_9⟩ := hz_3
  subst z_6
  refine lv_istore (lv' := [(4, .int (kI (kb (false)))), (2, .double (FP.dconst0)), (0, .ref a), (1, .int (kI (x)))]) hx hb dX3_lengthBySteps_7 hl (by decide) rfl (fun ls hl => ?_)
  refine kx_iconst hx hb dX3_lengthBySteps_9 ?_
  refine lv_istore (lv' := [(5, .int (kI (0))), (4, .int (kI (kb (false)))), (2, .double (FP.dconst0)), (0, .ref a), (1, .int (kI (x)))]) hx hb dX3_lengthBySteps_10 hl (by decide) rfl (fun ls hl => ?_)
  refine lv_iload hx hb dX3_lengthBySteps_12 (lv_at hl 0 rfl) ?_
  refine lv_iload hx hb dX3_lengthBySteps_14 (lv_at hl 1 rfl) ?_
  refine kx_ifz (tgt := 28) hx hb dX3_lengthBySteps_16 (by decide) (fun c_16_10 => ?_) (fun c_16_10 => ?_)
  · -- taken at 16
    refine kx_iconst hx hb dX3_lengthBySteps_28 ?_
    refine kx_icmp_ge (x := 0) (y := 0) (tgt := 63) hx hb dX3_lengthBySteps_29 (by decide) (by omega) (by omega) (by omega) (by omega) (fun c_29_11 => ?_) (fun c_29_11 => ?_)
    · -- taken at 29
      refine lv_dload_n hx hb dX3_lengthBySteps_63 rfl (lv_at hl 2 rfl) ?_
      exact kx_dret (z := FP.dconst0) hx hb hr hlk (⟨by rfl, ho_9⟩) hS_2 dX3_lengthBySteps_64
    · -- not taken at 29
      exfalso; omega
  · -- not taken at 16
    exact absurd c_16_10 (by decide)

