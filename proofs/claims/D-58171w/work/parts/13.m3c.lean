/-! MATH 3: ranges; the rays -/
theorem turn_rng {a b : Int} (ha : 0 ≤ a ∧ a ≤ 7) (hb : 0 ≤ b ∧ b ≤ 7) : 0 ≤ turn a b ∧ turn a b ≤ 4 := by
  unfold turn
  split <;> split <;> omega
theorem ln_bend_rng {L : Ln} (h : LnOK L) {k : Nat} (hk : k ≤ ln_n L) : 0 ≤ ln_bend L k ∧ ln_bend L k ≤ 4 := by
  unfold ln_bend
  split
  · exact turn_rng (h.d (by omega)) (h.d (by omega))
  · split
    · rename_i q
      have := ln_cl_pos q
      exact turn_rng (h.d (by omega)) (h.d (by omega))
    · omega
theorem ln_bendsTo_rng {L : Ln} (h : LnOK L) (p : Int) : ∀ j : Nat, 0 ≤ ln_bendsTo L p j ∧ ln_bendsTo L p j ≤ 4 * j := by
  intro j
  induction j with
  | zero => simp [ln_bendsTo]
  | succ j ih =>
    rw [ln_bendsTo]
    split
    · have := ln_bend_rng h (k := (p - 1 + j).toNat) (by omega)
      omega
    · omega
theorem ln_bends_rng {L : Ln} (h : LnOK L) (p : Int) : 0 ≤ ln_bends L p ∧ ln_bends L p ≤ 20 := by
  have h1 := ln_bendsTo_rng h p (ln_size L + 2)
  have h2 := ln_size_23 L
  unfold ln_bends
  omega
theorem far_rng {a b : Int} (ha : 0 ≤ a ∧ a ≤ 383) (hb : 0 ≤ b ∧ b ≤ 383) : 0 ≤ far a b ∧ far a b ≤ 23 := by
  unfold far apart
  split <;> split <;> omega
theorem btIn_rng {L M : Ln} (hM : LnOK M) {x acc : Int} (hx : 0 ≤ x ∧ x ≤ 383) (ha : 0 ≤ acc ∧ acc ≤ 99) (q : Nat) : ∀ j : Nat, q + j ≤ ln_n M + 1 → 0 ≤ btIn x M q acc j ∧ btIn x M q acc j ≤ 99 := by
  intro j
  induction j with
  | zero => intro _; exact ha
  | succ j ih =>
    intro h
    have h1 := ih (by omega)
    have h2 := far_rng hx (hM.pos (k := q + j) (by omega))
    rw [btIn, lesser]
    split <;> omega
theorem btOut_rng {L M : Ln} (hL : LnOK L) (hM : LnOK M) (p q : Nat) (hq : q + ln_size M ≤ ln_n M + 1) : ∀ i : Nat, p + i ≤ ln_n L + 1 → 0 ≤ btOut L p M q i ∧ btOut L p M q i ≤ 99 := by
  intro i
  induction i with
  | zero => intro _; simp [btOut]
  | succ i ih =>
    intro h
    rw [btOut]
    exact btIn_rng (L := L) hM (hL.pos (by omega)) (ih (by omega)) q _ hq
theorem between_rng {L M : Ln} (hL : LnOK L) (hM : LnOK M) {p q : Nat} (hp : p + ln_size L ≤ ln_n L + 1) (hq : q + ln_size M ≤ ln_n M + 1) : 0 ≤ between L p M q ∧ between L p M q ≤ 99 := btOut_rng hL hM p q hq _ hp
theorem lb_place {L : Ln} (h : LnOK L) (q : ln_lb L ≠ -1) : (ln_lb L).toNat + ln_size L ≤ ln_n L + 1 ∧ 0 ≤ ln_lb L ∧ ln_lb L ≤ 60 := by
  have h1 := h.lb
  have h2 := h1.2 q
  have h3 := h.lbr
  omega
theorem lesser_rng {a b : Int} (ha : 0 ≤ a ∧ a ≤ 99) (hb : 0 ≤ b ∧ b ≤ 99) : 0 ≤ lesser a b ∧ lesser a b ≤ 99 := by
  unfold lesser
  split <;> omega
theorem st_freeTo_rng {S : Ls} {gap : Int} (hok : LsOK S gap) {l p : Nat} (hl : l < S.length) (hp : p + ln_size (st_ln S l) ≤ ln_n (st_ln S l) + 1) : ∀ o : Nat, o ≤ S.length → 0 ≤ st_freeTo S l p o ∧ st_freeTo S l p o ≤ 99 := by
  intro o
  induction o with
  | zero => intro _; simp [st_freeTo]
  | succ o ih =>
    intro h
    have h1 := ih (by omega)
    rw [st_freeTo]
    refine lesser_rng ?_ h1
    split
    · rename_i z; exact between_rng (hok.ln hl) (hok.ln (by omega)) hp (lb_place (hok.ln (by omega)) z.2).1
    · omega
theorem st_free_rng {S : Ls} {gap : Int} (hok : LsOK S gap) {l p : Nat} (hl : l < S.length) (hp : p + ln_size (st_ln S l) ≤ ln_n (st_ln S l) + 1) : 0 ≤ st_free S l p ∧ st_free S l p ≤ 99 := st_freeTo_rng hok hl hp _ (Nat.le_refl _)
theorem ln_isPlace_le {L : Ln} {p : Nat} (h : ln_isPlace L p = true) : p + ln_size L ≤ ln_n L + 1 := by
  unfold ln_isPlace ln_last at h
  have h := of_decide_eq_true h
  split at h <;> omega
theorem st_whyL_place {S : Ls} {gap : Int} {l p : Nat} (h : st_whyL S gap l p = 0) : ln_isPlace (st_ln S l) p = true := by
  unfold st_whyL at h
  split at h
  · omega
  · rename_i z; simpa using z
def ln_up (L : Ln) (k : Nat) : Int := if ln_pos L k / 24 < ln_pos L (k + 1) / 24 then ln_pos L k else ln_pos L (k + 1)
def ln_ray (L : Ln) (p : Int) (k : Nat) : Bool := (decide (ln_pos L k / 24 ≠ ln_pos L (k + 1) / 24) && decide (ln_up L k / 24 = p / 24)) && decide (p % 24 < ln_up L k % 24)
def ln_rayTo (L : Ln) (p : Int) : Nat → Bool
  | 0 => false
  | k + 1 => Bool.xor (ln_rayTo L p k) (ln_ray L p k)
def st_cont (S : Ls) (l : Nat) (p : Int) : Bool := (ln_cl (st_ln S l) && decide (st_owner S p ≠ (l : Int))) && ln_rayTo (st_ln S l) p (ln_n (st_ln S l))
def st_roundTo (S : Ls) (l : Nat) : Nat → Int
  | 0 => -1
  | j + 1 => if st_cont S j (ln_bg (st_ln S l)) = true ∧ (st_roundTo S l j = -1 ∨ st_cont S (st_roundTo S l j).toNat (ln_bg (st_ln S j)) = true) then (j : Int) else st_roundTo S l j
def st_round (S : Ls) (l : Nat) : Int := st_roundTo S l S.length
theorem st_roundTo_rng (S : Ls) (l : Nat) : ∀ j : Nat, -1 ≤ st_roundTo S l j ∧ st_roundTo S l j < j := by
  intro j
  induction j with
  | zero => simp [st_roundTo]
  | succ j ih => rw [st_roundTo]; split <;> omega
def ln_slTo (L : Ln) : Nat → Int
  | 0 => 0
  | k + 1 => ln_slTo L k + ln_d L k % 2
def ln_sl (L : Ln) : Int := ln_slTo L (ln_n L)
theorem st_whyL_rng (S : Ls) (gap : Int) (l p : Nat) : 0 ≤ st_whyL S gap l p ∧ st_whyL S gap l p ≤ 4 := by
  unfold st_whyL
  split
  · omega
  · split
    · omega
    · split
      · omega
      · split <;> omega
def ln_lo (L : Ln) (k : Nat) : Int := if ln_pos L k < ln_pos L (k + 1) then ln_pos L k else ln_pos L (k + 1)
theorem ln_lo_up {L : Ln} {k : Nat} (h : ln_pos L k / 24 ≠ ln_pos L (k + 1) / 24) : ln_lo L k = ln_up L k := by
  unfold ln_lo ln_up
  split <;> split <;> omega
theorem ray_t {L : Ln} {q : Int} {k : Nat} (h : ln_pos L k / 24 ≠ ln_pos L (k + 1) / 24) (h2 : ln_lo L k / 24 = q / 24) (h3 : q % 24 < ln_lo L k % 24) : ln_ray L q k = true := by
  rw [ln_lo_up h] at h2 h3
  simp [ln_ray, h, h2, h3]
theorem ray_f1 {L : Ln} {q : Int} {k : Nat} (h : ln_pos L k / 24 = ln_pos L (k + 1) / 24) : ln_ray L q k = false := by
  simp [ln_ray, h]
theorem ray_f2 {L : Ln} {q : Int} {k : Nat} (h : ln_pos L k / 24 ≠ ln_pos L (k + 1) / 24) (h2 : ¬ ln_lo L k / 24 = q / 24) : ln_ray L q k = false := by
  rw [ln_lo_up h] at h2
  simp [ln_ray, h2]
theorem ray_f3 {L : Ln} {q : Int} {k : Nat} (h : ln_pos L k / 24 ≠ ln_pos L (k + 1) / 24) (h3 : ¬ q % 24 < ln_lo L k % 24) : ln_ray L q k = false := by
  rw [ln_lo_up h] at h3
  simp [ln_ray, h3]
set_option maxHeartbeats 4000000 in
set_option maxRecDepth 100000 in
theorem m_X3_between (l : Launch) (D : kG) (H : Heap) (a : Nat) (fs : List Value) (ra : Nat) (g : Nat → Int) (S : Ls) (gap : Int) (ln : Nat) (pl : Nat) (om : Nat) (q : Nat) (hO_a : kO D H a 2 fs) (hf_a_0 : fs[0]? = some (.ref ra)) (hA_ra : kAi D H ra 514 g) (hM : MRow g S gap) (hok : LsOK S gap) (hln : ln < S.length) (hom : om < S.length) (hp : pl + ln_size (st_ln S ln) ≤ ln_n (st_ln S ln) + 1) (hq : q + ln_size (st_ln S om) ≤ ln_n (st_ln S om) + 1) : Met l yX3_between (ws_ yX3_between cX3_between 9 (some .int)) ({ frames := 3, cells := 0, slots := 0, locals := 66 } : Room) (kPre D H [.ref a, .int (kI ((ln : Nat) : Int)), .int (kI ((pl : Nat) : Int)), .int (kI ((om : Nat) : Int)), .int (kI ((q : Nat) : Int))]) (kQi (fun (r : Int) H' => H' = H ∧ r = between (st_ln S ln) pl (st_ln S om) q) kNO) (0) (0) (kNO) := by
  refine Met.ofW (cc := cX3_between) (maxL := 9) (ret := (some .int)) (by decide) rfl ?_
  intro p e s m args below meth c s₁ B hml hv
  obtain ⟨rfl, hH, hK⟩ := hv
  subst hH
  have hx := B.exec
  have hb := B.bytes
  have hr := B.returns
  have hts := atoms_spec (ws := ws_ yX3_between cX3_between 9 (some .int)) B.pre
  have hts : ∀ w ∈ lw_all, w.before _ s = true := fun w h => hts w (List.mem_cons_of_mem _ h)
  have hown : s.vm.findClass RX3 = some m.cls := findClass_of_methodNamed B.named
  have hlk := B.notSynchronized
  have hS : va_S kNO s.heap s.heap [] := va_S.rf
  have hB : ∀ q, kNO q → kBase D ≤ q := fun _ h => h.elim
  have hl := lv_entry ([.ref a, .int (kI ((ln : Nat) : Int)), .int (kI ((pl : Nat) : Int)), .int (kI ((om : Nat) : Int)), .int (kI ((q : Nat) : Int))]) (n := 9) (Nat.le_of_ble_eq_true rfl)
  rw [lg_entry_eq]
  generalize (lg_sl ([.ref a, .int (kI ((ln : Nat) : Int)), .int (kI ((pl : Nat) : Int)), .int (kI ((om : Nat) : Int)), .int (kI ((q : Nat) : Int))]) ++ List.replicate (9 - (lg_sl ([.ref a, .int (kI ((ln : Nat) : Int)), .int (kI ((pl : Nat) : Int)), .int (kI ((om : Nat) : Int)), .int (kI ((q : Nat) : Int))])).length) Slot.unset).toArray = ls at hl ⊢
  have hl : lv_has ls 9 [(0, .ref a), (1, .int (kI ((ln : Nat) : Int))), (2, .int (kI ((pl : Nat) : Int))), (3, .int (kI ((om : Nat) : Int))), (4, .int (kI ((q : Nat) : Int)))] := hl
  have hL := hok.ln hln
  have hL60 := hL.n
  have hL8 := hok.1
  have hO := hok.ln hom
  have hsz := ln_size_23 (st_ln S ln)
  have hsz2 := ln_size_23 (st_ln S om)
  have hO60 := hO.n
  refine kx_bipush hx hb (by decide) dX3_between_0 ?_
  refine lv_istore (lv' := [(5, .int (kI (99))), (0, .ref a), (1, .int (kI ((ln : Nat) : Int))), (2, .int (kI ((pl : Nat) : Int))), (3, .int (kI ((om : Nat) : Int))), (4, .int (kI ((q : Nat) : Int)))]) hx hb dX3_between_2 hl (by decide) rfl (fun ls hl => ?_)
  refine lv_iload_n hx hb dX3_between_4 rfl (lv_at hl 3 rfl) ?_
  refine lv_istore (lv' := [(6, .int (kI ((pl : Nat) : Int))), (5, .int (kI (99))), (0, .ref a), (1, .int (kI ((ln : Nat) : Int))), (2, .int (kI ((pl : Nat) : Int))), (3, .int (kI ((om : Nat) : Int))), (4, .int (kI ((q : Nat) : Int)))]) hx hb dX3_between_5 hl (by decide) rfl (fun ls hl => ?_)
  have lp_7_x_1 : ∀ (n_7 : Nat) (i : Nat) (lst : Int) (hi : i ≤ ln_size (st_ln S ln)) (hlst : lst = btOut (st_ln S ln) pl (st_ln S om) q i) (hlr : 0 ≤ lst ∧ lst ≤ 99) (locs : List Loc) (hS : va_S kNO s.heap s.heap locs) (hm_7 : ln_size (st_ln S ln) - i < n_7) (ls : Array Slot), lv_has ls 9 [(0, .ref a), (1, .int (kI ((ln : Nat) : Int))), (2, .int (kI ((pl : Nat) : Int))), (3, .int (kI ((om : Nat) : Int))), (4, .int (kI ((q : Nat) : Int))), (5, .int (kI (lst))), (6, .int (kI ((pl + i : Nat) : Int)))] → W p l e (headSpec (ws_ yX3_between cX3_between 9 (some .int)) ({ frames := 3, cells := 0, slots := 0, locals := 66 } : Room)).room s m ([.ref a, .int (kI ((ln : Nat) : Int)), .int (kI ((pl : Nat) : Int)), .int (kI ((om : Nat) : Int)), .int (kI ((q : Nat) : Int))] : List Value).toArray below meth c s.heap locs (0) (0) (MQ below (kQi (fun (r : Int) H' => H' = s.heap ∧ r = between (st_ln S ln) pl (st_ln S om) q) kNO) ([.ref a, .int (kI ((ln : Nat) : Int)), .int (kI ((pl : Nat) : Int)), .int (kI ((om : Nat) : Int)), .int (kI ((q : Nat) : Int))] : List Value).toArray s (0) (0) (kNO)) (F0 m 7 ls []) := by
    intro n_7
    induction n_7 with
    | zero => intro i lst hi hlst hlr locs hS hm_7; exact absurd hm_7 (Nat.not_lt_zero _)
    | succ n_7 ih_7 =>
      intro i lst hi hlst hlr locs hS hm_7 ls hl
      refine lv_iload hx hb dX3_between_7 (lv_at hl 6 rfl) ?_
      refine lv_iload_n hx hb dX3_between_9 rfl (lv_at hl 2 rfl) ?_
      refine lv_aload_n hx hb dX3_between_10 rfl (lv_at hl 0 rfl) ?_
      refine lv_iload_n hx hb dX3_between_11 rfl (lv_at hl 1 rfl) ?_
      refine kx_ci0 (va_runV (As := [.int (kI ((ln : Nat) : Int))]) (rest := [.int (kI ((pl : Nat) : Int)), .int (kI ((pl + i : Nat) : Int))]) ⟨hx, hb, hml, hown, hts⟩ (m_X3_size l D s.heap a fs ra g S gap ln hO_a hf_a_0 hA_ra (by first | assumption | omega) (by first | assumption | omega) (by first | assumption | omega)) (cwV 1 hts (lw_V q2349 q2351 qs49 q89 q2352) rfl rfl rfl (by decide +kernel) ⟨Nat.le_of_ble_eq_true rfl, Nat.le_of_ble_eq_true rfl⟩) (kx_pv hK hS hB (kx_rc hK hO_a (C := RX3) (T := TX3) (N := 13) rfl)) rfl rfl hl.1 rfl (lv_room (Nat.le_of_ble_eq_true rfl)) dX3_between_12 ⟨by first | exact Nat.le_of_ble_eq_true rfl | omega | (show _ ≤ _; omega) | (dsimp only [headSpec]; omega), by first | exact Nat.le_of_ble_eq_true rfl | omega | (show _ ≤ _; omega) | (dsimp only [headSpec]; omega)⟩) hS (fun z_5 locs_2 hz_4 hS_3 => ?_)
      subst z_5
      refine kx_iadd hx hb dX3_between_15 ?_
      refine kx_icmp_ge (x := ((pl + i : Nat) : Int)) (y := (((pl : Nat) : Int) + ((ln_size (st_ln S ln) : Nat) : Int))) (tgt := 84) hx hb dX3_between_16 (by decide) (by omega) (by omega) (by omega) (by omega) (fun c_16_6 => ?_) (fun c_16_6 => ?_)
      · -- taken at 16
        refine lv_iload hx hb dX3_between_84 (lv_at hl 5 rfl) ?_
        exact kx_iret (z := lst) hx hb hr hlk (⟨rfl, by rw [hlst, between, show i = ln_size (st_ln S ln) by omega]⟩) hS_3 dX3_between_86
      · -- not taken at 16
        have hpa := hL.pos (k := pl + i) (by omega)
        refine lv_iload hx hb dX3_between_19 (lv_at hl 4 rfl) ?_
        refine lv_istore (lv' := [(7, .int (kI ((q : Nat) : Int))), (0, .ref a), (1, .int (kI ((ln : Nat) : Int))), (2, .int (kI ((pl : Nat) : Int))), (3, .int (kI ((om : Nat) : Int))), (4, .int (kI ((q : Nat) : Int))), (5, .int (kI (lst))), (6, .int (kI ((pl + i : Nat) : Int)))]) hx hb dX3_between_21 hl (by decide) rfl (fun ls hl => ?_)
        have lp_23_x_7 : ∀ (n_23 : Nat) (j : Nat) (l2 : Int) (hj : j ≤ ln_size (st_ln S om)) (hl2 : l2 = btIn (ln_pos (st_ln S ln) (pl + i)) (st_ln S om) q lst j) (hlr2 : 0 ≤ l2 ∧ l2 ≤ 99) (locs : List Loc) (hS : va_S kNO s.heap s.heap locs) (hm_23 : ln_size (st_ln S om) - j < n_23) (ls : Array Slot), lv_has ls 9 [(0, .ref a), (1, .int (kI ((ln : Nat) : Int))), (2, .int (kI ((pl : Nat) : Int))), (3, .int (kI ((om : Nat) : Int))), (4, .int (kI ((q : Nat) : Int))), (5, .int (kI (l2))), (6, .int (kI ((pl + i : Nat) : Int))), (7, .int (kI ((q + j : Nat) : Int)))] → W p l e (headSpec (ws_ yX3_between cX3_between 9 (some .int)) ({ frames := 3, cells := 0, slots := 0, locals := 66 } : Room)).room s m ([.ref a, .int (kI ((ln : Nat) : Int)), .int (kI ((pl : Nat) : Int)), .int (kI ((om : Nat) : Int)), .int (kI ((q : Nat) : Int))] : List Value).toArray below meth c s.heap locs (0) (0) (MQ below (kQi (fun (r : Int) H' => H' = s.heap ∧ r = between (st_ln S ln) pl (st_ln S om) q) kNO) ([.ref a, .int (kI ((ln : Nat) : Int)), .int (kI ((pl : Nat) : Int)), .int (kI ((om : Nat) : Int)), .int (kI ((q : Nat) : Int))] : List Value).toArray s (0) (0) (kNO)) (F0 m 23 ls []) := by
          intro n_23
          induction n_23 with
          | zero => intro j l2 hj hl2 hlr2 locs hS hm_23; exact absurd hm_23 (Nat.not_lt_zero _)
          | succ n_23 ih_23 =>
            intro j l2 hj hl2 hlr2 locs hS hm_23 ls hl
            refine lv_iload hx hb dX3_between_23 (lv_at hl 7 rfl) ?_
            refine lv_iload hx hb dX3_between_25 (lv_at hl 4 rfl) ?_
            refine lv_aload_n hx hb dX3_between_27 rfl (lv_at hl 0 rfl) ?_
            refine lv_iload_n hx hb dX3_between_28 rfl (lv_at hl 3 rfl) ?_
            refine kx_ci0 (va_runV (As := [.int (kI ((om : Nat) : Int))]) (rest := [.int (kI ((q : Nat) : Int)), .int (kI ((q + j : Nat) : Int))]) ⟨hx, hb, hml, hown, hts⟩ (m_X3_size l D s.heap a fs ra g S gap om hO_a hf_a_0 hA_ra (by first | assumption | omega) (by first | assumption | omega) (by first | assumption | omega)) (cwV 1 hts (lw_V q2349 q2351 qs49 q89 q2352) rfl rfl rfl (by decide +kernel) ⟨Nat.le_of_ble_eq_true rfl, Nat.le_of_ble_eq_true rfl⟩) (kx_pv hK hS hB (kx_rc hK hO_a (C := RX3) (T := TX3) (N := 13) rfl)) rfl rfl hl.1 rfl (lv_room (Nat.le_of_ble_eq_true rfl)) dX3_between_29 ⟨by first | exact Nat.le_of_ble_eq_true rfl | omega | (show _ ≤ _; omega) | (dsimp only [headSpec]; omega), by first | exact Nat.le_of_ble_eq_true rfl | omega | (show _ ≤ _; omega) | (dsimp only [headSpec]; omega)⟩) hS (fun z_11 locs_8 hz_10 hS_9 => ?_)
            subst z_11
            refine kx_iadd hx hb dX3_between_32 ?_
            refine kx_icmp_ge (x := ((q + j : Nat) : Int)) (y := (((q : Nat) : Int) + ((ln_size (st_ln S om) : Nat) : Int))) (tgt := 78) hx hb dX3_between_33 (by decide) (by omega) (by omega) (by omega) (by omega) (fun c_33_12 => ?_) (fun c_33_12 => ?_)
            · -- taken at 33
              refine lv_iinc (v := kI (((pl + i + 1 : Nat) : Int))) (lv' := [(6, .int (kI ((pl + i + 1 : Nat) : Int))), (0, .ref a), (1, .int (kI ((ln : Nat) : Int))), (2, .int (kI ((pl : Nat) : Int))), (3, .int (kI ((om : Nat) : Int))), (4, .int (kI ((q : Nat) : Int))), (5, .int (kI (l2))), (7, .int (kI ((q + j : Nat) : Int)))]) hx hb dX3_between_78 hl (k := 6) rfl (kI_incN _ _) (by decide) rfl (fun ls hl => ?_)
              refine lv_goto (tgt := 7) hx hb dX3_between_81 (by decide) ?_
              exact ih_7  (i + 1) l2 (by first | assumption | omega | (simp_all; done) | grind) (by rw [btOut, ← hlst, hl2, show j = ln_size (st_ln S om) by omega]) (by first | assumption | omega | (simp_all; done) | grind) _ hS_9 (by omega) ls (lv_sub hl [1, 2, 3, 4, 5, 6, 0] rfl)
            · -- not taken at 33
              have hf := far_rng (hL.pos (k := pl + i) (by omega)) (hO.pos (k := q + j) (by omega))
              have hpa := hL.pos (k := pl + i) (by omega)
              have hpb := hO.pos (k := q + j) (by omega)
              refine lv_aload_n hx hb dX3_between_36 rfl (lv_at hl 0 rfl) ?_
              refine lv_aload_n hx hb dX3_between_37 rfl (lv_at hl 0 rfl) ?_
              refine lv_iload_n hx hb dX3_between_38 rfl (lv_at hl 1 rfl) ?_
              refine lv_iload hx hb dX3_between_39 (lv_at hl 6 rfl) ?_
              refine kx_ci0 (va_runV (As := [.int (kI ((ln : Nat) : Int)), .int (kI ((pl + i : Nat) : Int))]) (rest := [.ref a]) ⟨hx, hb, hml, hown, hts⟩ (m_X3_at l D s.heap a fs ra g S gap ln (pl + i) hO_a hf_a_0 hA_ra (by first | assumption | omega) (by first | assumption | omega) (by first | assumption | omega) (by first | assumption | omega)) (cwV 2 hts (lw_V q2330 q2332 qs45 q89 q2333) rfl rfl rfl (by decide +kernel) ⟨Nat.le_of_ble_eq_true rfl, Nat.le_of_ble_eq_true rfl⟩) (kx_pv hK hS_9 hB (kx_rc hK hO_a (C := RX3) (T := TX3) (N := 13) rfl)) rfl rfl hl.1 rfl (lv_room (Nat.le_of_ble_eq_true rfl)) dX3_between_41 ⟨by first | exact Nat.le_of_ble_eq_true rfl | omega | (show _ ≤ _; omega) | (dsimp only [headSpec]; omega), by first | exact Nat.le_of_ble_eq_true rfl | omega | (show _ ≤ _; omega) | (dsimp only [headSpec]; omega)⟩) hS_9 (fun z_16 locs_13 hz_15 hS_14 => ?_)
              subst z_16
              refine lv_aload_n hx hb dX3_between_44 rfl (lv_at hl 0 rfl) ?_
              refine lv_iload_n hx hb dX3_between_45 rfl (lv_at hl 3 rfl) ?_
              refine lv_iload hx hb dX3_between_46 (lv_at hl 7 rfl) ?_
              refine kx_ci0 (va_runV (As := [.int (kI ((om : Nat) : Int)), .int (kI ((q + j : Nat) : Int))]) (rest := [.int (kI (ln_pos (st_ln S ln) (pl + i))), .ref a]) ⟨hx, hb, hml, hown, hts⟩ (m_X3_at l D s.heap a fs ra g S gap om (q + j) hO_a hf_a_0 hA_ra (by first | assumption | omega) (by first | assumption | omega) (by first | assumption | omega) (by first | assumption | omega)) (cwV 2 hts (lw_V q2330 q2332 qs45 q89 q2333) rfl rfl rfl (by decide +kernel) ⟨Nat.le_of_ble_eq_true rfl, Nat.le_of_ble_eq_true rfl⟩) (kx_pv hK hS_14 hB (kx_rc hK hO_a (C := RX3) (T := TX3) (N := 13) rfl)) rfl rfl hl.1 rfl (lv_room (Nat.le_of_ble_eq_true rfl)) dX3_between_48 ⟨by first | exact Nat.le_of_ble_eq_true rfl | omega | (show _ ≤ _; omega) | (dsimp only [headSpec]; omega), by first | exact Nat.le_of_ble_eq_true rfl | omega | (show _ ≤ _; omega) | (dsimp only [headSpec]; omega)⟩) hS_14 (fun z_20 locs_17 hz_19 hS_18 => ?_)
              subst z_20
              refine kx_ci0 (va_runV (As := [.int (kI (ln_pos (st_ln S ln) (pl + i))), .int (kI (ln_pos (st_ln S om) (q + j)))]) (rest := []) ⟨hx, hb, hml, hown, hts⟩ (m_X3_far l D s.heap a (ln_pos (st_ln S ln) (pl + i)) (ln_pos (st_ln S om) (q + j))  (by first | assumption | omega) (by first | assumption | omega)) (cwV 2 hts (lw_V q2375 q2377 qs54 q89 q2378) rfl rfl rfl (by decide +kernel) ⟨Nat.le_of_ble_eq_true rfl, Nat.le_of_ble_eq_true rfl⟩) (kx_pv hK hS_18 hB (kx_rc hK hO_a (C := RX3) (T := TX3) (N := 13) rfl)) rfl rfl hl.1 rfl (lv_room (Nat.le_of_ble_eq_true rfl)) dX3_between_51 ⟨by first | exact Nat.le_of_ble_eq_true rfl | omega | (show _ ≤ _; omega) | (dsimp only [headSpec]; omega), by first | exact Nat.le_of_ble_eq_true rfl | omega | (show _ ≤ _; omega) | (dsimp only [headSpec]; omega)⟩) hS_18 (fun z_24 locs_21 hz_23 hS_22 => ?_)
              subst z_24
              refine lv_istore (lv' := [(8, .int (kI (far (ln_pos (st_ln S ln) (pl + i)) (ln_pos (st_ln S om) (q + j))))), (0, .ref a), (1, .int (kI ((ln : Nat) : Int))), (2, .int (kI ((pl : Nat) : Int))), (3, .int (kI ((om : Nat) : Int))), (4, .int (kI ((q : Nat) : Int))), (5, .int (kI (l2))), (6, .int (kI ((pl + i : Nat) : Int))), (7, .int (kI ((q + j : Nat) : Int)))]) hx hb dX3_between_54 hl (by decide) rfl (fun ls hl => ?_)
              refine lv_iload hx hb dX3_between_56 (lv_at hl 0 rfl) ?_
              refine lv_iload hx hb dX3_between_58 (lv_at hl 6 rfl) ?_
              refine kx_icmp_ge (x := far (ln_pos (st_ln S ln) (pl + i)) (ln_pos (st_ln S om) (q + j))) (y := l2) (tgt := 68) hx hb dX3_between_60 (by decide) (by omega) (by omega) (by omega) (by omega) (fun c_60_25 => ?_) (fun c_60_25 => ?_)
              · -- taken at 60
                refine lv_iload hx hb dX3_between_68 (lv_at hl 6 rfl) ?_
                refine lv_istore (lv' := [(5, .int (kI (l2))), (8, .int (kI (far (ln_pos (st_ln S ln) (pl + i)) (ln_pos (st_ln S om) (q + j))))), (0, .ref a), (1, .int (kI ((ln : Nat) : Int))), (2, .int (kI ((pl : Nat) : Int))), (3, .int (kI ((om : Nat) : Int))), (4, .int (kI ((q : Nat) : Int))), (6, .int (kI ((pl + i : Nat) : Int))), (7, .int (kI ((q + j : Nat) : Int)))]) hx hb dX3_between_70 hl (by decide) rfl (fun ls hl => ?_)
                refine lv_iinc (v := kI (((q + j + 1 : Nat) : Int))) (lv' := [(7, .int (kI ((q + j + 1 : Nat) : Int))), (5, .int (kI (l2))), (8, .int (kI (far (ln_pos (st_ln S ln) (pl + i)) (ln_pos (st_ln S om) (q + j))))), (0, .ref a), (1, .int (kI ((ln : Nat) : Int))), (2, .int (kI ((pl : Nat) : Int))), (3, .int (kI ((om : Nat) : Int))), (4, .int (kI ((q : Nat) : Int))), (6, .int (kI ((pl + i : Nat) : Int)))]) hx hb dX3_between_72 hl (k := 8) rfl (kI_incN _ _) (by decide) rfl (fun ls hl => ?_)
                refine lv_goto (tgt := 23) hx hb dX3_between_75 (by decide) ?_
                exact ih_23  (j + 1) l2 (by first | assumption | omega | (simp_all; done) | grind) (by rw [btIn, ← hl2, lesser]; first | (rw [if_pos (by omega)]) | (rw [if_neg (by omega)])) (by first | assumption | omega | (simp_all; done) | grind) _ hS_22 (by omega) ls (lv_sub hl [3, 4, 5, 6, 7, 1, 8, 0] rfl)
              · -- not taken at 60
                refine lv_iload hx hb dX3_between_63 (lv_at hl 0 rfl) ?_
                refine lv_goto (tgt := 70) hx hb dX3_between_65 (by decide) ?_
                refine lv_istore (lv' := [(5, .int (kI (far (ln_pos (st_ln S ln) (pl + i)) (ln_pos (st_ln S om) (q + j))))), (8, .int (kI (far (ln_pos (st_ln S ln) (pl + i)) (ln_pos (st_ln S om) (q + j))))), (0, .ref a), (1, .int (kI ((ln : Nat) : Int))), (2, .int (kI ((pl : Nat) : Int))), (3, .int (kI ((om : Nat) : Int))), (4, .int (kI ((q : Nat) : Int))), (6, .int (kI ((pl + i : Nat) : Int))), (7, .int (kI ((q + j : Nat) : Int)))]) hx hb dX3_between_70 hl (by decide) rfl (fun ls hl => ?_)
                refine lv_iinc (v := kI (((q + j + 1 : Nat) : Int))) (lv' := [(7, .int (kI ((q + j + 1 : Nat) : Int))), (5, .int (kI (far (ln_pos (st_ln S ln) (pl + i)) (ln_pos (st_ln S om) (q + j))))), (8, .int (kI (far (ln_pos (st_ln S ln) (pl + i)) (ln_pos (st_ln S om) (q + j))))), (0, .ref a), (1, .int (kI ((ln : Nat) : Int))), (2, .int (kI ((pl : Nat) : Int))), (3, .int (kI ((om : Nat) : Int))), (4, .int (kI ((q : Nat) : Int))), (6, .int (kI ((pl + i : Nat) : Int)))]) hx hb dX3_between_72 hl (k := 8) rfl (kI_incN _ _) (by decide) rfl (fun ls hl => ?_)
                refine lv_goto (tgt := 23) hx hb dX3_between_75 (by decide) ?_
                exact ih_23  (j + 1) (far (ln_pos (st_ln S ln) (pl + i)) (ln_pos (st_ln S om) (q + j))) (by first | assumption | omega | (simp_all; done) | grind) (by rw [btIn, ← hl2, lesser]; first | (rw [if_pos (by omega)]) | (rw [if_neg (by omega)])) (by first | assumption | omega | (simp_all; done) | grind) _ hS_22 (by omega) ls (lv_sub hl [3, 4, 5, 6, 7, 1, 8, 0] rfl)
        exact lp_23_x_7 (ln_size (st_ln S om) - 0 + 1) 0 lst (by first | assumption | omega | (simp_all; done) | grind) (rfl) (by first | assumption | omega | (simp_all; done) | grind) _ hS_3 (Nat.lt_succ_self _) ls (lv_sub hl [1, 2, 3, 4, 5, 6, 7, 0] rfl)
  exact lp_7_x_1 (ln_size (st_ln S ln) - 0 + 1) 0 99 (by first | assumption | omega | (simp_all; done) | grind) (rfl) (by first | assumption | omega | (simp_all; done) | grind) _ hS (Nat.lt_succ_self _) ls (lv_sub hl [2, 3, 4, 5, 6, 1, 0] rfl)

set_option maxHeartbeats 4000000 in
set_option maxRecDepth 100000 in
theorem m_X3_free (l : Launch) (D : kG) (H : Heap) (a : Nat) (fs : List Value) (ra : Nat) (g : Nat → Int) (S : Ls) (gap : Int) (ln : Nat) (pl : Nat) (hO_a : kO D H a 2 fs) (hf_a_0 : fs[0]? = some (.ref ra)) (hA_ra : kAi D H ra 514 g) (hM : MRow g S gap) (hok : LsOK S gap) (hln : ln < S.length) (hp : pl + ln_size (st_ln S ln) ≤ ln_n (st_ln S ln) + 1) : Met l yX3_free (ws_ yX3_free cX3_free 7 (some .int)) ({ frames := 4, cells := 0, slots := 0, locals := 94 } : Room) (kPre D H [.ref a, .int (kI ((ln : Nat) : Int)), .int (kI ((pl : Nat) : Int))]) (kQi (fun (r : Int) H' => H' = H ∧ r = st_free S ln pl) kNO) (0) (0) (kNO) := by
  refine Met.ofW (cc := cX3_free) (maxL := 7) (ret := (some .int)) (by decide) rfl ?_
  intro p e s m args below meth c s₁ B hml hv
  obtain ⟨rfl, hH, hK⟩ := hv
  subst hH
  have hx := B.exec
  have hb := B.bytes
  have hr := B.returns
  have hts := atoms_spec (ws := ws_ yX3_free cX3_free 7 (some .int)) B.pre
  have hts : ∀ w ∈ lw_all, w.before _ s = true := fun w h => hts w (List.mem_cons_of_mem _ h)
  have hown : s.vm.findClass RX3 = some m.cls := findClass_of_methodNamed B.named
  have hlk := B.notSynchronized
  have hS : va_S kNO s.heap s.heap [] := va_S.rf
  have hB : ∀ q, kNO q → kBase D ≤ q := fun _ h => h.elim
  have hl := lv_entry ([.ref a, .int (kI ((ln : Nat) : Int)), .int (kI ((pl : Nat) : Int))]) (n := 7) (Nat.le_of_ble_eq_true rfl)
  rw [lg_entry_eq]
  generalize (lg_sl ([.ref a, .int (kI ((ln : Nat) : Int)), .int (kI ((pl : Nat) : Int))]) ++ List.replicate (7 - (lg_sl ([.ref a, .int (kI ((ln : Nat) : Int)), .int (kI ((pl : Nat) : Int))])).length) Slot.unset).toArray = ls at hl ⊢
  have hl : lv_has ls 7 [(0, .ref a), (1, .int (kI ((ln : Nat) : Int))), (2, .int (kI ((pl : Nat) : Int)))] := hl
  have hL := hok.ln hln
  have hL60 := hL.n
  have hL8 := hok.1
  have hlen := hM.len
  refine kx_bipush hx hb (by decide) dX3_free_0 ?_
  refine lv_istore_n (lv' := [(3, .int (kI (99))), (0, .ref a), (1, .int (kI ((ln : Nat) : Int))), (2, .int (kI ((pl : Nat) : Int)))]) hx hb dX3_free_2 rfl hl (by decide) rfl (fun ls hl => ?_)
  refine kx_iconst hx hb dX3_free_3 ?_
  refine lv_istore (lv' := [(4, .int (kI (0))), (3, .int (kI (99))), (0, .ref a), (1, .int (kI ((ln : Nat) : Int))), (2, .int (kI ((pl : Nat) : Int)))]) hx hb dX3_free_4 hl (by decide) rfl (fun ls hl => ?_)
  have lp_6_x_1 : ∀ (n_6 : Nat) (o : Nat) (lst : Int) (ho : o ≤ S.length) (hlst : lst = st_freeTo S ln pl o) (hlr : 0 ≤ lst ∧ lst ≤ 99) (locs : List Loc) (hS : va_S kNO s.heap s.heap locs) (hm_6 : S.length - o < n_6) (ls : Array Slot), lv_has ls 7 [(0, .ref a), (1, .int (kI ((ln : Nat) : Int))), (2, .int (kI ((pl : Nat) : Int))), (3, .int (kI (lst))), (4, .int (kI ((o : Nat) : Int)))] → W p l e (headSpec (ws_ yX3_free cX3_free 7 (some .int)) ({ frames := 4, cells := 0, slots := 0, locals := 94 } : Room)).room s m ([.ref a, .int (kI ((ln : Nat) : Int)), .int (kI ((pl : Nat) : Int))] : List Value).toArray below meth c s.heap locs (0) (0) (MQ below (kQi (fun (r : Int) H' => H' = s.heap ∧ r = st_free S ln pl) kNO) ([.ref a, .int (kI ((ln : Nat) : Int)), .int (kI ((pl : Nat) : Int))] : List Value).toArray s (0) (0) (kNO)) (F0 m 6 ls []) := by
    intro n_6
    induction n_6 with
    | zero => intro o lst ho hlst hlr locs hS hm_6; exact absurd hm_6 (Nat.not_lt_zero _)
    | succ n_6 ih_6 =>
      intro o lst ho hlst hlr locs hS hm_6 ls hl
      refine lv_iload hx hb dX3_free_6 (lv_at hl 4 rfl) ?_
      refine lv_aload_n hx hb dX3_free_8 rfl (lv_at hl 0 rfl) ?_
      refine kx_get (v := .ref ra) (C := RX3) (T := TX3) (N := 13) hx hb hts in_X3 hown hK hO_a rfl 0 (by decide) q2238 (fun _ h9 => h9) hf_a_0 dX3_free_9 ?_
      refine kx_iconst hx hb dX3_free_12 ?_
      refine kx_iald (i := 0) hx hb hK hA_ra 0 (rfl) (by omega) (by omega) dX3_free_13 ?_
      refine kx_icmp_ge (x := ((o : Nat) : Int)) (y := (g 0)) (tgt := 87) hx hb dX3_free_14 (by decide) (by omega) (by omega) (by omega) (by omega) (fun c_14_2 => ?_) (fun c_14_2 => ?_)
      · -- taken at 14
        refine lv_iload_n hx hb dX3_free_87 rfl (lv_at hl 3 rfl) ?_
        exact kx_iret (z := lst) hx hb hr hlk (⟨rfl, by rw [hlst, st_free, show o = S.length by omega]⟩) hS dX3_free_88
      · -- not taken at 14
        have hi2 : o < S.length := by omega
        have hO := hok.ln hi2
        have hlb := hO.lbr
        refine lv_iload hx hb dX3_free_17 (lv_at hl 4 rfl) ?_
        refine lv_iload_n hx hb dX3_free_19 rfl (lv_at hl 1 rfl) ?_
        refine kx_icmp_eq (x := ((o : Nat) : Int)) (y := ((ln : Nat) : Int)) (tgt := 38) hx hb dX3_free_20 (by decide) (by omega) (by omega) (by omega) (by omega) (fun c_20_3 => ?_) (fun c_20_3 => ?_)
        · -- taken at 20
          refine kx_iconst hx hb dX3_free_38 ?_
          refine lv_istore (lv' := [(5, .int (kI (0))), (0, .ref a), (1, .int (kI ((ln : Nat) : Int))), (2, .int (kI ((pl : Nat) : Int))), (3, .int (kI (lst))), (4, .int (kI ((o : Nat) : Int)))]) hx hb dX3_free_39 hl (by decide) rfl (fun ls hl => ?_)
          refine lv_iload hx hb dX3_free_41 (lv_at hl 0 rfl) ?_
          refine kx_if_eq (x := 0) (tgt := 64) hx hb dX3_free_43 (by decide) (by omega) (by omega) (fun c_43_4 => ?_) (fun c_43_4 => ?_)
          · -- taken at 43
            refine kx_bipush hx hb (by decide) dX3_free_64 ?_
            refine lv_istore (lv' := [(6, .int (kI (99))), (5, .int (kI (0))), (0, .ref a), (1, .int (kI ((ln : Nat) : Int))), (2, .int (kI ((pl : Nat) : Int))), (3, .int (kI (lst))), (4, .int (kI ((o : Nat) : Int)))]) hx hb dX3_free_66 hl (by decide) rfl (fun ls hl => ?_)
            refine lv_iload hx hb dX3_free_68 (lv_at hl 0 rfl) ?_
            refine lv_iload_n hx hb dX3_free_70 rfl (lv_at hl 5 rfl) ?_
            refine kx_icmp_ge (x := 99) (y := lst) (tgt := 79) hx hb dX3_free_71 (by decide) (by omega) (by omega) (by omega) (by omega) (fun c_71_5 => ?_) (fun c_71_5 => ?_)
            · -- taken at 71
              refine lv_iload_n hx hb dX3_free_79 rfl (lv_at hl 5 rfl) ?_
              refine lv_istore_n (lv' := [(3, .int (kI (lst))), (6, .int (kI (99))), (5, .int (kI (0))), (0, .ref a), (1, .int (kI ((ln : Nat) : Int))), (2, .int (kI ((pl : Nat) : Int))), (4, .int (kI ((o : Nat) : Int)))]) hx hb dX3_free_80 rfl hl (by decide) rfl (fun ls hl => ?_)
              refine lv_iinc (v := kI (((o + 1 : Nat) : Int))) (lv' := [(4, .int (kI ((o + 1 : Nat) : Int))), (3, .int (kI (lst))), (6, .int (kI (99))), (5, .int (kI (0))), (0, .ref a), (1, .int (kI ((ln : Nat) : Int))), (2, .int (kI ((pl : Nat) : Int)))]) hx hb dX3_free_81 hl (k := 6) rfl (kI_incN _ _) (by decide) rfl (fun ls hl => ?_)
              refine lv_goto (tgt := 6) hx hb dX3_free_84 (by decide) ?_
              exact ih_6  (o + 1) lst (by first | assumption | omega | (simp_all; done) | grind) (by first | (exfalso; omega) | skip; rw [st_freeTo, ← hlst, lesser]; first | (rw [if_pos (show o ≠ ln ∧ ln_lb (st_ln S o) ≠ -1 by omega)]; first | (rw [if_pos (by omega)]) | (rw [if_neg (by omega)])) | (rw [if_neg (show ¬ (o ≠ ln ∧ ln_lb (st_ln S o) ≠ -1) by omega)]; first | (rw [if_pos (by omega)]) | (rw [if_neg (by omega)]))) (by first | assumption | omega | (simp_all; done) | grind) _ hS (by omega) ls (lv_sub hl [4, 5, 6, 1, 0] rfl)
            · -- not taken at 71
              refine lv_iload hx hb dX3_free_74 (lv_at hl 0 rfl) ?_
              refine lv_goto (tgt := 80) hx hb dX3_free_76 (by decide) ?_
              refine lv_istore_n (lv' := [(3, .int (kI (99))), (6, .int (kI (99))), (5, .int (kI (0))), (0, .ref a), (1, .int (kI ((ln : Nat) : Int))), (2, .int (kI ((pl : Nat) : Int))), (4, .int (kI ((o : Nat) : Int)))]) hx hb dX3_free_80 rfl hl (by decide) rfl (fun ls hl => ?_)
              refine lv_iinc (v := kI (((o + 1 : Nat) : Int))) (lv' := [(4, .int (kI ((o + 1 : Nat) : Int))), (3, .int (kI (99))), (6, .int (kI (99))), (5, .int (kI (0))), (0, .ref a), (1, .int (kI ((ln : Nat) : Int))), (2, .int (kI ((pl : Nat) : Int)))]) hx hb dX3_free_81 hl (k := 6) rfl (kI_incN _ _) (by decide) rfl (fun ls hl => ?_)
              refine lv_goto (tgt := 6) hx hb dX3_free_84 (by decide) ?_
              exact ih_6  (o + 1) 99 (by first | assumption | omega | (simp_all; done) | grind) (by first | (exfalso; omega) | skip; rw [st_freeTo, ← hlst, lesser]; first | (rw [if_pos (show o ≠ ln ∧ ln_lb (st_ln S o) ≠ -1 by omega)]; first | (rw [if_pos (by omega)]) | (rw [if_neg (by omega)])) | (rw [if_neg (show ¬ (o ≠ ln ∧ ln_lb (st_ln S o) ≠ -1) by omega)]; first | (rw [if_pos (by omega)]) | (rw [if_neg (by omega)]))) (by first | assumption | omega | (simp_all; done) | grind) _ hS (by omega) ls (lv_sub hl [4, 5, 6, 1, 0] rfl)
          · -- not taken at 43
            exfalso; omega
        · -- not taken at 20
          refine lv_aload_n hx hb dX3_free_23 rfl (lv_at hl 0 rfl) ?_
          refine lv_iload hx hb dX3_free_24 (lv_at hl 4 rfl) ?_
          refine kx_iconst hx hb dX3_free_26 ?_
          refine kx_ci0 (va_runV (As := [.int (kI ((o : Nat) : Int)), .int (kI (3))]) (rest := []) ⟨hx, hb, hml, hown, hts⟩ (of_lb l D s.heap a fs ra g S gap o hO_a hf_a_0 hA_ra (by first | assumption | omega) (by first | assumption | omega) (by first | assumption | omega)) (cwV 2 hts (lw_V q2304 q2306 qs40 q89 q2307) rfl rfl rfl (by decide +kernel) ⟨Nat.le_of_ble_eq_true rfl, Nat.le_of_ble_eq_true rfl⟩) (kx_pv hK hS hB (kx_rc hK hO_a (C := RX3) (T := TX3) (N := 13) rfl)) rfl rfl hl.1 rfl (lv_room (Nat.le_of_ble_eq_true rfl)) dX3_free_27 ⟨by first | exact Nat.le_of_ble_eq_true rfl | omega | (show _ ≤ _; omega) | (dsimp only [headSpec]; omega), by first | exact Nat.le_of_ble_eq_true rfl | omega | (show _ ≤ _; omega) | (dsimp only [headSpec]; omega)⟩) hS (fun z_9 locs_6 hz_8 hS_7 => ?_)
          subst z_9
          refine kx_iconst hx hb dX3_free_30 ?_
          refine kx_icmp_eq (x := ln_lb (st_ln S o)) (y := (-1)) (tgt := 38) hx hb dX3_free_31 (by decide) (by omega) (by omega) (by omega) (by omega) (fun c_31_10 => ?_) (fun c_31_10 => ?_)
          · -- taken at 31
            refine kx_iconst hx hb dX3_free_38 ?_
            refine lv_istore (lv' := [(5, .int (kI (0))), (0, .ref a), (1, .int (kI ((ln : Nat) : Int))), (2, .int (kI ((pl : Nat) : Int))), (3, .int (kI (lst))), (4, .int (kI ((o : Nat) : Int)))]) hx hb dX3_free_39 hl (by decide) rfl (fun ls hl => ?_)
            refine lv_iload hx hb dX3_free_41 (lv_at hl 0 rfl) ?_
            refine kx_if_eq (x := 0) (tgt := 64) hx hb dX3_free_43 (by decide) (by omega) (by omega) (fun c_43_11 => ?_) (fun c_43_11 => ?_)
            · -- taken at 43
              refine kx_bipush hx hb (by decide) dX3_free_64 ?_
              refine lv_istore (lv' := [(6, .int (kI (99))), (5, .int (kI (0))), (0, .ref a), (1, .int (kI ((ln : Nat) : Int))), (2, .int (kI ((pl : Nat) : Int))), (3, .int (kI (lst))), (4, .int (kI ((o : Nat) : Int)))]) hx hb dX3_free_66 hl (by decide) rfl (fun ls hl => ?_)
              refine lv_iload hx hb dX3_free_68 (lv_at hl 0 rfl) ?_
              refine lv_iload_n hx hb dX3_free_70 rfl (lv_at hl 5 rfl) ?_
              refine kx_icmp_ge (x := 99) (y := lst) (tgt := 79) hx hb dX3_free_71 (by decide) (by omega) (by omega) (by omega) (by omega) (fun c_71_12 => ?_) (fun c_71_12 => ?_)
              · -- taken at 71
                refine lv_iload_n hx hb dX3_free_79 rfl (lv_at hl 5 rfl) ?_
                refine lv_istore_n (lv' := [(3, .int (kI (lst))), (6, .int (kI (99))), (5, .int (kI (0))), (0, .ref a), (1, .int (kI ((ln : Nat) : Int))), (2, .int (kI ((pl : Nat) : Int))), (4, .int (kI ((o : Nat) : Int)))]) hx hb dX3_free_80 rfl hl (by decide) rfl (fun ls hl => ?_)
                refine lv_iinc (v := kI (((o + 1 : Nat) : Int))) (lv' := [(4, .int (kI ((o + 1 : Nat) : Int))), (3, .int (kI (lst))), (6, .int (kI (99))), (5, .int (kI (0))), (0, .ref a), (1, .int (kI ((ln : Nat) : Int))), (2, .int (kI ((pl : Nat) : Int)))]) hx hb dX3_free_81 hl (k := 6) rfl (kI_incN _ _) (by decide) rfl (fun ls hl => ?_)
                refine lv_goto (tgt := 6) hx hb dX3_free_84 (by decide) ?_
                exact ih_6  (o + 1) lst (by first | assumption | omega | (simp_all; done) | grind) (by first | (exfalso; omega) | skip; rw [st_freeTo, ← hlst, lesser]; first | (rw [if_pos (show o ≠ ln ∧ ln_lb (st_ln S o) ≠ -1 by omega)]; first | (rw [if_pos (by omega)]) | (rw [if_neg (by omega)])) | (rw [if_neg (show ¬ (o ≠ ln ∧ ln_lb (st_ln S o) ≠ -1) by omega)]; first | (rw [if_pos (by omega)]) | (rw [if_neg (by omega)]))) (by first | assumption | omega | (simp_all; done) | grind) _ hS_7 (by omega) ls (lv_sub hl [4, 5, 6, 1, 0] rfl)
              · -- not taken at 71
                refine lv_iload hx hb dX3_free_74 (lv_at hl 0 rfl) ?_
                refine lv_goto (tgt := 80) hx hb dX3_free_76 (by decide) ?_
                refine lv_istore_n (lv' := [(3, .int (kI (99))), (6, .int (kI (99))), (5, .int (kI (0))), (0, .ref a), (1, .int (kI ((ln : Nat) : Int))), (2, .int (kI ((pl : Nat) : Int))), (4, .int (kI ((o : Nat) : Int)))]) hx hb dX3_free_80 rfl hl (by decide) rfl (fun ls hl => ?_)
                refine lv_iinc (v := kI (((o + 1 : Nat) : Int))) (lv' := [(4, .int (kI ((o + 1 : Nat) : Int))), (3, .int (kI (99))), (6, .int (kI (99))), (5, .int (kI (0))), (0, .ref a), (1, .int (kI ((ln : Nat) : Int))), (2, .int (kI ((pl : Nat) : Int)))]) hx hb dX3_free_81 hl (k := 6) rfl (kI_incN _ _) (by decide) rfl (fun ls hl => ?_)
                refine lv_goto (tgt := 6) hx hb dX3_free_84 (by decide) ?_
                exact ih_6  (o + 1) 99 (by first | assumption | omega | (simp_all; done) | grind) (by first | (exfalso; omega) | skip; rw [st_freeTo, ← hlst, lesser]; first | (rw [if_pos (show o ≠ ln ∧ ln_lb (st_ln S o) ≠ -1 by omega)]; first | (rw [if_pos (by omega)]) | (rw [if_neg (by omega)])) | (rw [if_neg (show ¬ (o ≠ ln ∧ ln_lb (st_ln S o) ≠ -1) by omega)]; first | (rw [if_pos (by omega)]) | (rw [if_neg (by omega)]))) (by first | assumption | omega | (simp_all; done) | grind) _ hS_7 (by omega) ls (lv_sub hl [4, 5, 6, 1, 0] rfl)
            · -- not taken at 43
              exfalso; omega
          · -- not taken at 31
            refine kx_iconst hx hb dX3_free_34 ?_
            refine lv_goto (tgt := 39) hx hb dX3_free_35 (by decide) ?_
            refine lv_istore (lv' := [(5, .int (kI (1))), (0, .ref a), (1, .int (kI ((ln : Nat) : Int))), (2, .int (kI ((pl : Nat) : Int))), (3, .int (kI (lst))), (4, .int (kI ((o : Nat) : Int)))]) hx hb dX3_free_39 hl (by decide) rfl (fun ls hl => ?_)
            refine lv_iload hx hb dX3_free_41 (lv_at hl 0 rfl) ?_
            refine kx_if_eq (x := 1) (tgt := 64) hx hb dX3_free_43 (by decide) (by omega) (by omega) (fun c_43_13 => ?_) (fun c_43_13 => ?_)
            · -- taken at 43
              exfalso; omega
            · -- not taken at 43
              have hpl := lb_place hO (by assumption)
              have hbt := between_rng hL hO hp hpl.1
              refine lv_aload_n hx hb dX3_free_46 rfl (lv_at hl 1 rfl) ?_
              refine lv_iload_n hx hb dX3_free_47 rfl (lv_at hl 2 rfl) ?_
              refine lv_iload_n hx hb dX3_free_48 rfl (lv_at hl 3 rfl) ?_
              refine lv_iload hx hb dX3_free_49 (lv_at hl 5 rfl) ?_
              refine lv_aload_n hx hb dX3_free_51 rfl (lv_at hl 1 rfl) ?_
              refine lv_iload hx hb dX3_free_52 (lv_at hl 5 rfl) ?_
              refine kx_iconst hx hb dX3_free_54 ?_
              refine kx_ci0 (va_runV (As := [.int (kI ((o : Nat) : Int)), .int (kI (3))]) (rest := [.int (kI ((o : Nat) : Int)), .int (kI ((pl : Nat) : Int)), .int (kI ((ln : Nat) : Int)), .ref a]) ⟨hx, hb, hml, hown, hts⟩ (of_lb l D s.heap a fs ra g S gap o hO_a hf_a_0 hA_ra (by first | assumption | omega) (by first | assumption | omega) (by first | assumption | omega)) (cwV 2 hts (lw_V q2304 q2306 qs40 q89 q2307) rfl rfl rfl (by decide +kernel) ⟨Nat.le_of_ble_eq_true rfl, Nat.le_of_ble_eq_true rfl⟩) (kx_pv hK hS_7 hB (kx_rc hK hO_a (C := RX3) (T := TX3) (N := 13) rfl)) rfl rfl hl.1 rfl (lv_room (Nat.le_of_ble_eq_true rfl)) dX3_free_55 ⟨by first | exact Nat.le_of_ble_eq_true rfl | omega | (show _ ≤ _; omega) | (dsimp only [headSpec]; omega), by first | exact Nat.le_of_ble_eq_true rfl | omega | (show _ ≤ _; omega) | (dsimp only [headSpec]; omega)⟩) hS_7 (fun z_17 locs_14 hz_16 hS_15 => ?_)
              subst z_17
              refine kx_eqi ((((ln_lb (st_ln S o)).toNat : Nat) : Int)) (by omega) ?_
              refine kx_ci0 (va_runV (As := [.int (kI ((ln : Nat) : Int)), .int (kI ((pl : Nat) : Int)), .int (kI ((o : Nat) : Int)), .int (kI (((ln_lb (st_ln S o)).toNat : Nat) : Int))]) (rest := []) ⟨hx, hb, hml, hown, hts⟩ (m_X3_between l D s.heap a fs ra g S gap ln pl o ((ln_lb (st_ln S o)).toNat) hO_a hf_a_0 hA_ra (by first | assumption | omega) (by first | assumption | omega) (by first | assumption | omega) (by first | assumption | omega) (by first | assumption | omega) (by first | assumption | omega)) (cwV 4 hts (lw_V q2371 q2373 qs53 q89 q2374) rfl rfl rfl (by decide +kernel) ⟨Nat.le_of_ble_eq_true rfl, Nat.le_of_ble_eq_true rfl⟩) (kx_pv hK hS_15 hB (kx_rc hK hO_a (C := RX3) (T := TX3) (N := 13) rfl)) rfl rfl hl.1 rfl (lv_room (Nat.le_of_ble_eq_true rfl)) dX3_free_58 ⟨by first | exact Nat.le_of_ble_eq_true rfl | omega | (show _ ≤ _; omega) | (dsimp only [headSpec]; omega), by first | exact Nat.le_of_ble_eq_true rfl | omega | (show _ ≤ _; omega) | (dsimp only [headSpec]; omega)⟩) hS_15 (fun z_21 locs_18 hz_20 hS_19 => ?_)
              subst z_21
              refine lv_goto (tgt := 66) hx hb dX3_free_61 (by decide) ?_
              refine lv_istore (lv' := [(6, .int (kI (between (st_ln S ln) pl (st_ln S o) ((ln_lb (st_ln S o)).toNat)))), (5, .int (kI (1))), (0, .ref a), (1, .int (kI ((ln : Nat) : Int))), (2, .int (kI ((pl : Nat) : Int))), (3, .int (kI (lst))), (4, .int (kI ((o : Nat) : Int)))]) hx hb dX3_free_66 hl (by decide) rfl (fun ls hl => ?_)
              refine lv_iload hx hb dX3_free_68 (lv_at hl 0 rfl) ?_
              refine lv_iload_n hx hb dX3_free_70 rfl (lv_at hl 5 rfl) ?_
              refine kx_icmp_ge (x := between (st_ln S ln) pl (st_ln S o) ((ln_lb (st_ln S o)).toNat)) (y := lst) (tgt := 79) hx hb dX3_free_71 (by decide) (by omega) (by omega) (by omega) (by omega) (fun c_71_22 => ?_) (fun c_71_22 => ?_)
              · -- taken at 71
                refine lv_iload_n hx hb dX3_free_79 rfl (lv_at hl 5 rfl) ?_
                refine lv_istore_n (lv' := [(3, .int (kI (lst))), (6, .int (kI (between (st_ln S ln) pl (st_ln S o) ((ln_lb (st_ln S o)).toNat)))), (5, .int (kI (1))), (0, .ref a), (1, .int (kI ((ln : Nat) : Int))), (2, .int (kI ((pl : Nat) : Int))), (4, .int (kI ((o : Nat) : Int)))]) hx hb dX3_free_80 rfl hl (by decide) rfl (fun ls hl => ?_)
                refine lv_iinc (v := kI (((o + 1 : Nat) : Int))) (lv' := [(4, .int (kI ((o + 1 : Nat) : Int))), (3, .int (kI (lst))), (6, .int (kI (between (st_ln S ln) pl (st_ln S o) ((ln_lb (st_ln S o)).toNat)))), (5, .int (kI (1))), (0, .ref a), (1, .int (kI ((ln : Nat) : Int))), (2, .int (kI ((pl : Nat) : Int)))]) hx hb dX3_free_81 hl (k := 6) rfl (kI_incN _ _) (by decide) rfl (fun ls hl => ?_)
                refine lv_goto (tgt := 6) hx hb dX3_free_84 (by decide) ?_
                exact ih_6  (o + 1) lst (by first | assumption | omega | (simp_all; done) | grind) (by first | (exfalso; omega) | skip; rw [st_freeTo, ← hlst, lesser]; first | (rw [if_pos (show o ≠ ln ∧ ln_lb (st_ln S o) ≠ -1 by omega)]; first | (rw [if_pos (by omega)]) | (rw [if_neg (by omega)])) | (rw [if_neg (show ¬ (o ≠ ln ∧ ln_lb (st_ln S o) ≠ -1) by omega)]; first | (rw [if_pos (by omega)]) | (rw [if_neg (by omega)]))) (by first | assumption | omega | (simp_all; done) | grind) _ hS_19 (by omega) ls (lv_sub hl [4, 5, 6, 1, 0] rfl)
              · -- not taken at 71
                refine lv_iload hx hb dX3_free_74 (lv_at hl 0 rfl) ?_
                refine lv_goto (tgt := 80) hx hb dX3_free_76 (by decide) ?_
                refine lv_istore_n (lv' := [(3, .int (kI (between (st_ln S ln) pl (st_ln S o) ((ln_lb (st_ln S o)).toNat)))), (6, .int (kI (between (st_ln S ln) pl (st_ln S o) ((ln_lb (st_ln S o)).toNat)))), (5, .int (kI (1))), (0, .ref a), (1, .int (kI ((ln : Nat) : Int))), (2, .int (kI ((pl : Nat) : Int))), (4, .int (kI ((o : Nat) : Int)))]) hx hb dX3_free_80 rfl hl (by decide) rfl (fun ls hl => ?_)
                refine lv_iinc (v := kI (((o + 1 : Nat) : Int))) (lv' := [(4, .int (kI ((o + 1 : Nat) : Int))), (3, .int (kI (between (st_ln S ln) pl (st_ln S o) ((ln_lb (st_ln S o)).toNat)))), (6, .int (kI (between (st_ln S ln) pl (st_ln S o) ((ln_lb (st_ln S o)).toNat)))), (5, .int (kI (1))), (0, .ref a), (1, .int (kI ((ln : Nat) : Int))), (2, .int (kI ((pl : Nat) : Int)))]) hx hb dX3_free_81 hl (k := 6) rfl (kI_incN _ _) (by decide) rfl (fun ls hl => ?_)
                refine lv_goto (tgt := 6) hx hb dX3_free_84 (by decide) ?_
                exact ih_6  (o + 1) (between (st_ln S ln) pl (st_ln S o) ((ln_lb (st_ln S o)).toNat)) (by first | assumption | omega | (simp_all; done) | grind) (by first | (exfalso; omega) | skip; rw [st_freeTo, ← hlst, lesser]; first | (rw [if_pos (show o ≠ ln ∧ ln_lb (st_ln S o) ≠ -1 by omega)]; first | (rw [if_pos (by omega)]) | (rw [if_neg (by omega)])) | (rw [if_neg (show ¬ (o ≠ ln ∧ ln_lb (st_ln S o) ≠ -1) by omega)]; first | (rw [if_pos (by omega)]) | (rw [if_neg (by omega)]))) (by first | assumption | omega | (simp_all; done) | grind) _ hS_19 (by omega) ls (lv_sub hl [4, 5, 6, 1, 0] rfl)
  exact lp_6_x_1 (S.length - 0 + 1) 0 99 (by first | assumption | omega | (simp_all; done) | grind) (rfl) (by first | assumption | omega | (simp_all; done) | grind) _ hS (Nat.lt_succ_self _) ls (lv_sub hl [2, 3, 4, 1, 0] rfl)

set_option maxHeartbeats 4000000 in
set_option maxRecDepth 100000 in
theorem m_X3_whyNoLabel (l : Launch) (D : kG) (H : Heap) (a : Nat) (fs : List Value) (ra : Nat) (g : Nat → Int) (S : Ls) (gap : Int) (ln : Nat) (pl : Nat) (hO_a : kO D H a 2 fs) (hf_a_0 : fs[0]? = some (.ref ra)) (hA_ra : kAi D H ra 514 g) (hM : MRow g S gap) (hok : LsOK S gap) (hln : ln < S.length) (hp60 : pl ≤ 100) : Met l yX3_whyNoLabel (ws_ yX3_whyNoLabel cX3_whyNoLabel 5 (some .int)) ({ frames := 7, cells := 0, slots := 0, locals := 155 } : Room) (kPre D H [.ref a, .int (kI ((ln : Nat) : Int)), .int (kI ((pl : Nat) : Int))]) (kQi (fun (r : Int) H' => H' = H ∧ r = st_whyL S gap ln pl) kNO) (0) (0) (kNO) := by
  refine Met.ofW (cc := cX3_whyNoLabel) (maxL := 5) (ret := (some .int)) (by decide) rfl ?_
  intro p e s m args below meth c s₁ B hml hv
  obtain ⟨rfl, hH, hK⟩ := hv
  subst hH
  have hx := B.exec
  have hb := B.bytes
  have hr := B.returns
  have hts := atoms_spec (ws := ws_ yX3_whyNoLabel cX3_whyNoLabel 5 (some .int)) B.pre
  have hts : ∀ w ∈ lw_all, w.before _ s = true := fun w h => hts w (List.mem_cons_of_mem _ h)
  have hown : s.vm.findClass RX3 = some m.cls := findClass_of_methodNamed B.named
  have hlk := B.notSynchronized
  have hS : va_S kNO s.heap s.heap [] := va_S.rf
  have hB : ∀ q, kNO q → kBase D ≤ q := fun _ h => h.elim
  have hl := lv_entry ([.ref a, .int (kI ((ln : Nat) : Int)), .int (kI ((pl : Nat) : Int))]) (n := 5) (Nat.le_of_ble_eq_true rfl)
  rw [lg_entry_eq]
  generalize (lg_sl ([.ref a, .int (kI ((ln : Nat) : Int)), .int (kI ((pl : Nat) : Int))]) ++ List.replicate (5 - (lg_sl ([.ref a, .int (kI ((ln : Nat) : Int)), .int (kI ((pl : Nat) : Int))])).length) Slot.unset).toArray = ls at hl ⊢
  have hl : lv_has ls 5 [(0, .ref a), (1, .int (kI ((ln : Nat) : Int))), (2, .int (kI ((pl : Nat) : Int)))] := hl
  have hL := hok.ln hln
  have hL60 := hL.n
  have hL8 := hok.1
  have hsz := ln_size_23 (st_ln S ln)
  have hbd := ln_bends_rng hL pl
  have hgp := hM.gap
  have hgr := hok.2.1
  refine lv_aload_n hx hb dX3_whyNoLabel_0 rfl (lv_at hl 0 rfl) ?_
  refine lv_iload_n hx hb dX3_whyNoLabel_1 rfl (lv_at hl 1 rfl) ?_
  refine lv_iload_n hx hb dX3_whyNoLabel_2 rfl (lv_at hl 2 rfl) ?_
  refine kx_cb0 (va_runV (As := [.int (kI ((ln : Nat) : Int)), .int (kI ((pl : Nat) : Int))]) (rest := []) ⟨hx, hb, hml, hown, hts⟩ (m_X3_isPlace l D s.heap a fs ra g S gap ln (((pl : Nat) : Int)) hO_a hf_a_0 hA_ra (by first | assumption | omega) (by first | assumption | omega) (by first | assumption | omega) (by first | assumption | omega)) (cwV 2 hts (lw_V q2345 q2347 qs48 q89 q2348) rfl rfl rfl (by decide +kernel) ⟨Nat.le_of_ble_eq_true rfl, Nat.le_of_ble_eq_true rfl⟩) (kx_pv hK hS hB (kx_rc hK hO_a (C := RX3) (T := TX3) (N := 13) rfl)) rfl rfl hl.1 rfl (lv_room (Nat.le_of_ble_eq_true rfl)) dX3_whyNoLabel_3 ⟨by first | exact Nat.le_of_ble_eq_true rfl | omega | (show _ ≤ _; omega) | (dsimp only [headSpec]; omega), by first | exact Nat.le_of_ble_eq_true rfl | omega | (show _ ≤ _; omega) | (dsimp only [headSpec]; omega)⟩) hS (fun z_4 locs_1 hz_3 hS_2 => ?_)
  subst z_4
  refine kx_ifnz (tgt := 11) hx hb dX3_whyNoLabel_6 (by decide) (fun c_6_5 => ?_) (fun c_6_5 => ?_)
  · -- taken at 6
    have hp := ln_isPlace_le c_6_5
    have hpa := hL.pos (k := pl) (by omega)
    have hpb := hL.pos (k := pl + ln_size (st_ln S ln) - 1) (by omega)
    have hfr := st_free_rng hok hln hp
    have hap1 : 0 ≤ apart (ln_pos (st_ln S ln) pl / 24) (ln_pos (st_ln S ln) (pl + ln_size (st_ln S ln) - 1) / 24) ∧ apart (ln_pos (st_ln S ln) pl / 24) (ln_pos (st_ln S ln) (pl + ln_size (st_ln S ln) - 1) / 24) ≤ 400 := by unfold apart; split <;> omega
    have hap2 : 0 ≤ apart (ln_pos (st_ln S ln) pl % 24) (ln_pos (st_ln S ln) (pl + ln_size (st_ln S ln) - 1) % 24) ∧ apart (ln_pos (st_ln S ln) pl % 24) (ln_pos (st_ln S ln) (pl + ln_size (st_ln S ln) - 1) % 24) ≤ 400 := by unfold apart; split <;> omega
    refine lv_aload_n hx hb dX3_whyNoLabel_11 rfl (lv_at hl 0 rfl) ?_
    refine lv_iload_n hx hb dX3_whyNoLabel_12 rfl (lv_at hl 1 rfl) ?_
    refine lv_iload_n hx hb dX3_whyNoLabel_13 rfl (lv_at hl 2 rfl) ?_
    refine kx_ci0 (va_runV (As := [.int (kI ((ln : Nat) : Int)), .int (kI ((pl : Nat) : Int))]) (rest := []) ⟨hx, hb, hml, hown, hts⟩ (m_X3_bends l D s.heap a fs ra g S gap ln pl hO_a hf_a_0 hA_ra (by first | assumption | omega) (by first | assumption | omega) (by first | assumption | omega) (by first | assumption | omega)) (cwV 2 hts (lw_V q2353 q2355 qs50 q89 q2356) rfl rfl rfl (by decide +kernel) ⟨Nat.le_of_ble_eq_true rfl, Nat.le_of_ble_eq_true rfl⟩) (kx_pv hK hS_2 hB (kx_rc hK hO_a (C := RX3) (T := TX3) (N := 13) rfl)) rfl rfl hl.1 rfl (lv_room (Nat.le_of_ble_eq_true rfl)) dX3_whyNoLabel_14 ⟨by first | exact Nat.le_of_ble_eq_true rfl | omega | (show _ ≤ _; omega) | (dsimp only [headSpec]; omega), by first | exact Nat.le_of_ble_eq_true rfl | omega | (show _ ≤ _; omega) | (dsimp only [headSpec]; omega)⟩) hS_2 (fun z_9 locs_6 hz_8 hS_7 => ?_)
    subst z_9
    refine kx_iconst hx hb dX3_whyNoLabel_17 ?_
    refine kx_icmp_le (x := ln_bends (st_ln S ln) pl) (y := 1) (tgt := 23) hx hb dX3_whyNoLabel_18 (by decide) (by omega) (by omega) (by omega) (by omega) (fun c_18_10 => ?_) (fun c_18_10 => ?_)
    · -- taken at 18
      refine lv_aload_n hx hb dX3_whyNoLabel_23 rfl (lv_at hl 0 rfl) ?_
      refine lv_iload_n hx hb dX3_whyNoLabel_24 rfl (lv_at hl 1 rfl) ?_
      refine lv_iload_n hx hb dX3_whyNoLabel_25 rfl (lv_at hl 2 rfl) ?_
      refine kx_ci0 (va_runV (As := [.int (kI ((ln : Nat) : Int)), .int (kI ((pl : Nat) : Int))]) (rest := []) ⟨hx, hb, hml, hown, hts⟩ (m_X3_at l D s.heap a fs ra g S gap ln pl hO_a hf_a_0 hA_ra (by first | assumption | omega) (by first | assumption | omega) (by first | assumption | omega) (by first | assumption | omega)) (cwV 2 hts (lw_V q2330 q2332 qs45 q89 q2333) rfl rfl rfl (by decide +kernel) ⟨Nat.le_of_ble_eq_true rfl, Nat.le_of_ble_eq_true rfl⟩) (kx_pv hK hS_7 hB (kx_rc hK hO_a (C := RX3) (T := TX3) (N := 13) rfl)) rfl rfl hl.1 rfl (lv_room (Nat.le_of_ble_eq_true rfl)) dX3_whyNoLabel_26 ⟨by first | exact Nat.le_of_ble_eq_true rfl | omega | (show _ ≤ _; omega) | (dsimp only [headSpec]; omega), by first | exact Nat.le_of_ble_eq_true rfl | omega | (show _ ≤ _; omega) | (dsimp only [headSpec]; omega)⟩) hS_7 (fun z_14 locs_11 hz_13 hS_12 => ?_)
      subst z_14
      refine lv_istore_n (lv' := [(3, .int (kI (ln_pos (st_ln S ln) pl))), (0, .ref a), (1, .int (kI ((ln : Nat) : Int))), (2, .int (kI ((pl : Nat) : Int)))]) hx hb dX3_whyNoLabel_29 rfl hl (by decide) rfl (fun ls hl => ?_)
      refine lv_aload_n hx hb dX3_whyNoLabel_30 rfl (lv_at hl 1 rfl) ?_
      refine lv_iload_n hx hb dX3_whyNoLabel_31 rfl (lv_at hl 2 rfl) ?_
      refine lv_iload_n hx hb dX3_whyNoLabel_32 rfl (lv_at hl 3 rfl) ?_
      refine lv_aload_n hx hb dX3_whyNoLabel_33 rfl (lv_at hl 1 rfl) ?_
      refine lv_iload_n hx hb dX3_whyNoLabel_34 rfl (lv_at hl 2 rfl) ?_
      refine kx_ci0 (va_runV (As := [.int (kI ((ln : Nat) : Int))]) (rest := [.int (kI ((pl : Nat) : Int)), .int (kI ((ln : Nat) : Int)), .ref a]) ⟨hx, hb, hml, hown, hts⟩ (m_X3_size l D s.heap a fs ra g S gap ln hO_a hf_a_0 hA_ra (by first | assumption | omega) (by first | assumption | omega) (by first | assumption | omega)) (cwV 1 hts (lw_V q2349 q2351 qs49 q89 q2352) rfl rfl rfl (by decide +kernel) ⟨Nat.le_of_ble_eq_true rfl, Nat.le_of_ble_eq_true rfl⟩) (kx_pv hK hS_12 hB (kx_rc hK hO_a (C := RX3) (T := TX3) (N := 13) rfl)) rfl rfl hl.1 rfl (lv_room (Nat.le_of_ble_eq_true rfl)) dX3_whyNoLabel_35 ⟨by first | exact Nat.le_of_ble_eq_true rfl | omega | (show _ ≤ _; omega) | (dsimp only [headSpec]; omega), by first | exact Nat.le_of_ble_eq_true rfl | omega | (show _ ≤ _; omega) | (dsimp only [headSpec]; omega)⟩) hS_12 (fun z_18 locs_15 hz_17 hS_16 => ?_)
      subst z_18
      refine kx_iadd hx hb dX3_whyNoLabel_38 ?_
      refine kx_iconst hx hb dX3_whyNoLabel_39 ?_
      refine kx_isub hx hb dX3_whyNoLabel_40 ?_
      refine kx_eqi (((pl + ln_size (st_ln S ln) - 1 : Nat) : Int)) (by omega) ?_
      refine kx_ci0 (va_runV (As := [.int (kI ((ln : Nat) : Int)), .int (kI ((pl + ln_size (st_ln S ln) - 1 : Nat) : Int))]) (rest := []) ⟨hx, hb, hml, hown, hts⟩ (m_X3_at l D s.heap a fs ra g S gap ln (pl + ln_size (st_ln S ln) - 1) hO_a hf_a_0 hA_ra (by first | assumption | omega) (by first | assumption | omega) (by first | assumption | omega) (by first | assumption | omega)) (cwV 2 hts (lw_V q2330 q2332 qs45 q89 q2333) rfl rfl rfl (by decide +kernel) ⟨Nat.le_of_ble_eq_true rfl, Nat.le_of_ble_eq_true rfl⟩) (kx_pv hK hS_16 hB (kx_rc hK hO_a (C := RX3) (T := TX3) (N := 13) rfl)) rfl rfl hl.1 rfl (lv_room (Nat.le_of_ble_eq_true rfl)) dX3_whyNoLabel_41 ⟨by first | exact Nat.le_of_ble_eq_true rfl | omega | (show _ ≤ _; omega) | (dsimp only [headSpec]; omega), by first | exact Nat.le_of_ble_eq_true rfl | omega | (show _ ≤ _; omega) | (dsimp only [headSpec]; omega)⟩) hS_16 (fun z_22 locs_19 hz_21 hS_20 => ?_)
      subst z_22
      refine lv_istore (lv' := [(4, .int (kI (ln_pos (st_ln S ln) (pl + ln_size (st_ln S ln) - 1)))), (3, .int (kI (ln_pos (st_ln S ln) pl))), (0, .ref a), (1, .int (kI ((ln : Nat) : Int))), (2, .int (kI ((pl : Nat) : Int)))]) hx hb dX3_whyNoLabel_44 hl (by decide) rfl (fun ls hl => ?_)
      refine lv_iload_n hx hb dX3_whyNoLabel_46 rfl (lv_at hl 1 rfl) ?_
      refine kx_bipush hx hb (by decide) dX3_whyNoLabel_47 ?_
      refine kx_idiv (x := ln_pos (st_ln S ln) pl) (y := 24) hx hb (by omega) (by omega) (by omega) (by omega) dX3_whyNoLabel_49 ?_
      refine lv_iload hx hb dX3_whyNoLabel_50 (lv_at hl 0 rfl) ?_
      refine kx_bipush hx hb (by decide) dX3_whyNoLabel_52 ?_
      refine kx_idiv (x := ln_pos (st_ln S ln) (pl + ln_size (st_ln S ln) - 1)) (y := 24) hx hb (by omega) (by omega) (by omega) (by omega) dX3_whyNoLabel_54 ?_
      refine kx_ci0 (va_runS (As := [.int (kI ((ln_pos (st_ln S ln) pl / 24))), .int (kI ((ln_pos (st_ln S ln) (pl + ln_size (st_ln S ln) - 1) / 24)))]) (rest := []) ⟨hx, hb, hml, hown, hts⟩ (m_X3_apart l D s.heap ((ln_pos (st_ln S ln) pl / 24)) ((ln_pos (st_ln S ln) (pl + ln_size (st_ln S ln) - 1) / 24))  (by first | assumption | omega) (by first | assumption | omega)) (va_cwS 2 hts (lw_S q2364 q2365 q89 q2366) rfl rfl rfl (by decide +kernel) ⟨Nat.le_of_ble_eq_true rfl, Nat.le_of_ble_eq_true rfl⟩) (kx_ps hK hS_20 hB) rfl rfl hl.1 rfl (lv_room (Nat.le_of_ble_eq_true rfl)) dX3_whyNoLabel_55 ⟨by first | exact Nat.le_of_ble_eq_true rfl | omega | (show _ ≤ _; omega) | (dsimp only [headSpec]; omega), by first | exact Nat.le_of_ble_eq_true rfl | omega | (show _ ≤ _; omega) | (dsimp only [headSpec]; omega)⟩) hS_20 (fun z_26 locs_23 hz_25 hS_24 => ?_)
      subst z_26
      refine lv_iload_n hx hb dX3_whyNoLabel_58 rfl (lv_at hl 1 rfl) ?_
      refine kx_bipush hx hb (by decide) dX3_whyNoLabel_59 ?_
      refine kx_irem (x := ln_pos (st_ln S ln) pl) (y := 24) hx hb (by omega) (by omega) (by omega) (by omega) dX3_whyNoLabel_61 ?_
      refine lv_iload hx hb dX3_whyNoLabel_62 (lv_at hl 0 rfl) ?_
      refine kx_bipush hx hb (by decide) dX3_whyNoLabel_64 ?_
      refine kx_irem (x := ln_pos (st_ln S ln) (pl + ln_size (st_ln S ln) - 1)) (y := 24) hx hb (by omega) (by omega) (by omega) (by omega) dX3_whyNoLabel_66 ?_
      refine kx_ci0 (va_runS (As := [.int (kI ((ln_pos (st_ln S ln) pl % 24))), .int (kI ((ln_pos (st_ln S ln) (pl + ln_size (st_ln S ln) - 1) % 24)))]) (rest := [.int (kI (apart ((ln_pos (st_ln S ln) pl / 24)) ((ln_pos (st_ln S ln) (pl + ln_size (st_ln S ln) - 1) / 24))))]) ⟨hx, hb, hml, hown, hts⟩ (m_X3_apart l D s.heap ((ln_pos (st_ln S ln) pl % 24)) ((ln_pos (st_ln S ln) (pl + ln_size (st_ln S ln) - 1) % 24))  (by first | assumption | omega) (by first | assumption | omega)) (va_cwS 2 hts (lw_S q2364 q2365 q89 q2366) rfl rfl rfl (by decide +kernel) ⟨Nat.le_of_ble_eq_true rfl, Nat.le_of_ble_eq_true rfl⟩) (kx_ps hK hS_24 hB) rfl rfl hl.1 rfl (lv_room (Nat.le_of_ble_eq_true rfl)) dX3_whyNoLabel_67 ⟨by first | exact Nat.le_of_ble_eq_true rfl | omega | (show _ ≤ _; omega) | (dsimp only [headSpec]; omega), by first | exact Nat.le_of_ble_eq_true rfl | omega | (show _ ≤ _; omega) | (dsimp only [headSpec]; omega)⟩) hS_24 (fun z_30 locs_27 hz_29 hS_28 => ?_)
      subst z_30
      refine kx_icmp_le (x := apart ((ln_pos (st_ln S ln) pl / 24)) ((ln_pos (st_ln S ln) (pl + ln_size (st_ln S ln) - 1) / 24))) (y := apart ((ln_pos (st_ln S ln) pl % 24)) ((ln_pos (st_ln S ln) (pl + ln_size (st_ln S ln) - 1) % 24))) (tgt := 75) hx hb dX3_whyNoLabel_70 (by decide) (by omega) (by omega) (by omega) (by omega) (fun c_70_31 => ?_) (fun c_70_31 => ?_)
      · -- taken at 70
        refine lv_aload_n hx hb dX3_whyNoLabel_75 rfl (lv_at hl 2 rfl) ?_
        refine lv_iload_n hx hb dX3_whyNoLabel_76 rfl (lv_at hl 3 rfl) ?_
        refine lv_iload_n hx hb dX3_whyNoLabel_77 rfl (lv_at hl 4 rfl) ?_
        refine kx_ci0 (va_runV (As := [.int (kI ((ln : Nat) : Int)), .int (kI ((pl : Nat) : Int))]) (rest := []) ⟨hx, hb, hml, hown, hts⟩ (m_X3_free l D s.heap a fs ra g S gap ln pl hO_a hf_a_0 hA_ra (by first | assumption | omega) (by first | assumption | omega) (by first | assumption | omega) (by first | assumption | omega)) (cwV 2 hts (lw_V q2367 q2369 qs52 q89 q2370) rfl rfl rfl (by decide +kernel) ⟨Nat.le_of_ble_eq_true rfl, Nat.le_of_ble_eq_true rfl⟩) (kx_pv hK hS_28 hB (kx_rc hK hO_a (C := RX3) (T := TX3) (N := 13) rfl)) rfl rfl hl.1 rfl (lv_room (Nat.le_of_ble_eq_true rfl)) dX3_whyNoLabel_78 ⟨by first | exact Nat.le_of_ble_eq_true rfl | omega | (show _ ≤ _; omega) | (dsimp only [headSpec]; omega), by first | exact Nat.le_of_ble_eq_true rfl | omega | (show _ ≤ _; omega) | (dsimp only [headSpec]; omega)⟩) hS_28 (fun z_35 locs_32 hz_34 hS_33 => ?_)
        subst z_35
        refine lv_aload_n hx hb dX3_whyNoLabel_81 rfl (lv_at hl 2 rfl) ?_
        refine kx_get (v := .ref ra) (C := RX3) (T := TX3) (N := 13) hx hb hts in_X3 hown hK hO_a rfl 0 (by decide) q2238 (fun _ h9 => h9) hf_a_0 dX3_whyNoLabel_82 ?_
        refine kx_iconst hx hb dX3_whyNoLabel_85 ?_
        refine kx_iald (i := 1) hx hb hK hA_ra 1 (rfl) (by omega) (by omega) dX3_whyNoLabel_86 ?_
        refine kx_eqi (gap) (hgp) ?_
        refine kx_icmp_ge (x := st_free S ln pl) (y := gap) (tgt := 94) hx hb dX3_whyNoLabel_87 (by decide) (by omega) (by omega) (by omega) (by omega) (fun c_87_36 => ?_) (fun c_87_36 => ?_)
        · -- taken at 87
          refine kx_iconst hx hb dX3_whyNoLabel_94 ?_
          exact kx_iret (z := 0) hx hb hr hlk (⟨rfl, by unfold st_whyL ln_stands; grind⟩) hS_33 dX3_whyNoLabel_95
        · -- not taken at 87
          refine kx_iconst hx hb dX3_whyNoLabel_90 ?_
          refine lv_goto (tgt := 95) hx hb dX3_whyNoLabel_91 (by decide) ?_
          exact kx_iret (z := 4) hx hb hr hlk (⟨rfl, by unfold st_whyL ln_stands; grind⟩) hS_33 dX3_whyNoLabel_95
      · -- not taken at 70
        refine kx_iconst hx hb dX3_whyNoLabel_73 ?_
        exact kx_iret (z := 3) hx hb hr hlk (⟨rfl, by unfold st_whyL ln_stands; grind⟩) hS_28 dX3_whyNoLabel_74
    · -- not taken at 18
      refine kx_iconst hx hb dX3_whyNoLabel_21 ?_
      exact kx_iret (z := 2) hx hb hr hlk (⟨rfl, by unfold st_whyL ln_stands; grind⟩) hS_7 dX3_whyNoLabel_22
  · -- not taken at 6
    refine kx_iconst hx hb dX3_whyNoLabel_9 ?_
    exact kx_iret (z := 1) hx hb hr hlk (⟨rfl, by unfold st_whyL ln_stands; grind⟩) hS_2 dX3_whyNoLabel_10

set_option maxHeartbeats 4000000 in
set_option maxRecDepth 100000 in
theorem m_X3_best (l : Launch) (D : kG) (H : Heap) (a : Nat) (fs : List Value) (ra : Nat) (g : Nat → Int) (S : Ls) (gap : Int) (ln : Nat) (hO_a : kO D H a 2 fs) (hf_a_0 : fs[0]? = some (.ref ra)) (hA_ra : kAi D H ra 514 g) (hM : MRow g S gap) (hok : LsOK S gap) (hln : ln < S.length) : Met l yX3_best (ws_ yX3_best cX3_best 9 (some .int)) ({ frames := 8, cells := 0, slots := 0, locals := 179 } : Room) (kPre D H [.ref a, .int (kI ((ln : Nat) : Int))]) (kQi (fun (r : Int) H' => H' = H ∧ r = st_best S gap ln) kNO) (0) (0) (kNO) := by
  refine Met.ofW (cc := cX3_best) (maxL := 9) (ret := (some .int)) (by decide) rfl ?_
  intro p e s m args below meth c s₁ B hml hv
  obtain ⟨rfl, hH, hK⟩ := hv
  subst hH
  have hx := B.exec
  have hb := B.bytes
  have hr := B.returns
  have hts := atoms_spec (ws := ws_ yX3_best cX3_best 9 (some .int)) B.pre
  have hts : ∀ w ∈ lw_all, w.before _ s = true := fun w h => hts w (List.mem_cons_of_mem _ h)
  have hown : s.vm.findClass RX3 = some m.cls := findClass_of_methodNamed B.named
  have hlk := B.notSynchronized
  have hS : va_S kNO s.heap s.heap [] := va_S.rf
  have hB : ∀ q, kNO q → kBase D ≤ q := fun _ h => h.elim
  have hl := lv_entry ([.ref a, .int (kI ((ln : Nat) : Int))]) (n := 9) (Nat.le_of_ble_eq_true rfl)
  rw [lg_entry_eq]
  generalize (lg_sl ([.ref a, .int (kI ((ln : Nat) : Int))]) ++ List.replicate (9 - (lg_sl ([.ref a, .int (kI ((ln : Nat) : Int))])).length) Slot.unset).toArray = ls at hl ⊢
  have hl : lv_has ls 9 [(0, .ref a), (1, .int (kI ((ln : Nat) : Int)))] := hl
  have hL := hok.ln hln
  have hL60 := hL.n
  have hL8 := hok.1
  refine kx_iconst hx hb dX3_best_0 ?_
  refine lv_istore_n (lv' := [(2, .int (kI ((-1)))), (0, .ref a), (1, .int (kI ((ln : Nat) : Int)))]) hx hb dX3_best_1 rfl hl (by decide) rfl (fun ls hl => ?_)
  refine kx_iconst hx hb dX3_best_2 ?_
  refine lv_istore_n (lv' := [(3, .int (kI (0))), (2, .int (kI ((-1)))), (0, .ref a), (1, .int (kI ((ln : Nat) : Int)))]) hx hb dX3_best_3 rfl hl (by decide) rfl (fun ls hl => ?_)
  refine kx_iconst hx hb dX3_best_4 ?_
  refine lv_istore (lv' := [(4, .int (kI (0))), (3, .int (kI (0))), (2, .int (kI ((-1)))), (0, .ref a), (1, .int (kI ((ln : Nat) : Int)))]) hx hb dX3_best_5 hl (by decide) rfl (fun ls hl => ?_)
  refine kx_iconst hx hb dX3_best_7 ?_
  refine lv_istore (lv' := [(5, .int (kI (0))), (4, .int (kI (0))), (3, .int (kI (0))), (2, .int (kI ((-1)))), (0, .ref a), (1, .int (kI ((ln : Nat) : Int)))]) hx hb dX3_best_8 hl (by decide) rfl (fun ls hl => ?_)
  have lp_10_x_1 : ∀ (n_10 : Nat) (j : Nat) (f : Int) (lb : Int) (mf : Int) (hj : j ≤ ln_n (st_ln S ln) + 1) (hst : st_bestTo S gap ln j = (f, lb, mf)) (hfr0 : -1 ≤ f ∧ f < j) (hlb : 0 ≤ lb ∧ lb ≤ 20) (hmf : 0 ≤ mf ∧ mf ≤ 99) (locs : List Loc) (hS : va_S kNO s.heap s.heap locs) (hm_10 : ln_n (st_ln S ln) + 1 - j < n_10) (ls : Array Slot), lv_has ls 9 [(0, .ref a), (1, .int (kI ((ln : Nat) : Int))), (2, .int (kI (f))), (3, .int (kI (lb))), (4, .int (kI (mf))), (5, .int (kI ((j : Nat) : Int)))] → W p l e (headSpec (ws_ yX3_best cX3_best 9 (some .int)) ({ frames := 8, cells := 0, slots := 0, locals := 179 } : Room)).room s m ([.ref a, .int (kI ((ln : Nat) : Int))] : List Value).toArray below meth c s.heap locs (0) (0) (MQ below (kQi (fun (r : Int) H' => H' = s.heap ∧ r = st_best S gap ln) kNO) ([.ref a, .int (kI ((ln : Nat) : Int))] : List Value).toArray s (0) (0) (kNO)) (F0 m 10 ls []) := by
    intro n_10
    induction n_10 with
    | zero => intro j f lb mf hj hst hfr0 hlb hmf locs hS hm_10; exact absurd hm_10 (Nat.not_lt_zero _)
    | succ n_10 ih_10 =>
      intro j f lb mf hj hst hfr0 hlb hmf locs hS hm_10 ls hl
      refine lv_iload hx hb dX3_best_10 (lv_at hl 5 rfl) ?_
      refine lv_aload_n hx hb dX3_best_12 rfl (lv_at hl 0 rfl) ?_
      refine lv_iload_n hx hb dX3_best_13 rfl (lv_at hl 1 rfl) ?_
      refine kx_iconst hx hb dX3_best_14 ?_
      refine kx_ci0 (va_runV (As := [.int (kI ((ln : Nat) : Int)), .int (kI (2))]) (rest := [.int (kI ((j : Nat) : Int))]) ⟨hx, hb, hml, hown, hts⟩ (of_n l D s.heap a fs ra g S gap ln hO_a hf_a_0 hA_ra (by first | assumption | omega) (by first | assumption | omega) (by first | assumption | omega)) (cwV 2 hts (lw_V q2304 q2306 qs40 q89 q2307) rfl rfl rfl (by decide +kernel) ⟨Nat.le_of_ble_eq_true rfl, Nat.le_of_ble_eq_true rfl⟩) (kx_pv hK hS hB (kx_rc hK hO_a (C := RX3) (T := TX3) (N := 13) rfl)) rfl rfl hl.1 rfl (lv_room (Nat.le_of_ble_eq_true rfl)) dX3_best_15 ⟨by first | exact Nat.le_of_ble_eq_true rfl | omega | (show _ ≤ _; omega) | (dsimp only [headSpec]; omega), by first | exact Nat.le_of_ble_eq_true rfl | omega | (show _ ≤ _; omega) | (dsimp only [headSpec]; omega)⟩) hS (fun z_5 locs_2 hz_4 hS_3 => ?_)
      subst z_5
      refine kx_icmp_gt (x := ((j : Nat) : Int)) (y := ((ln_n (st_ln S ln) : Nat) : Int)) (tgt := 124) hx hb dX3_best_18 (by decide) (by omega) (by omega) (by omega) (by omega) (fun c_18_6 => ?_) (fun c_18_6 => ?_)
      · -- taken at 18
        refine lv_iload_n hx hb dX3_best_124 rfl (lv_at hl 2 rfl) ?_
        exact kx_iret (z := f) hx hb hr hlk (⟨rfl, by rw [st_best, show ln_n (st_ln S ln) + 1 = j by omega, hst]⟩) hS_3 dX3_best_125
      · -- not taken at 18
        refine lv_aload_n hx hb dX3_best_21 rfl (lv_at hl 0 rfl) ?_
        refine lv_iload_n hx hb dX3_best_22 rfl (lv_at hl 1 rfl) ?_
        refine lv_iload hx hb dX3_best_23 (lv_at hl 5 rfl) ?_
        refine kx_ci0 (va_runV (As := [.int (kI ((ln : Nat) : Int)), .int (kI ((j : Nat) : Int))]) (rest := []) ⟨hx, hb, hml, hown, hts⟩ (m_X3_whyNoLabel l D s.heap a fs ra g S gap ln j hO_a hf_a_0 hA_ra (by first | assumption | omega) (by first | assumption | omega) (by first | assumption | omega) (by first | assumption | omega)) (cwV 2 hts (lw_V q2341 q2343 qs47 q89 q2344) rfl rfl rfl (by decide +kernel) ⟨Nat.le_of_ble_eq_true rfl, Nat.le_of_ble_eq_true rfl⟩) (kx_pv hK hS_3 hB (kx_rc hK hO_a (C := RX3) (T := TX3) (N := 13) rfl)) rfl rfl hl.1 rfl (lv_room (Nat.le_of_ble_eq_true rfl)) dX3_best_25 ⟨by first | exact Nat.le_of_ble_eq_true rfl | omega | (show _ ≤ _; omega) | (dsimp only [headSpec]; omega), by first | exact Nat.le_of_ble_eq_true rfl | omega | (show _ ≤ _; omega) | (dsimp only [headSpec]; omega)⟩) hS_3 (fun z_10 locs_7 hz_9 hS_8 => ?_)
        subst z_10
        refine kx_topi (fun wl hwl => ?_)
        refine kx_if_ne (x := wl) (tgt := 118) hx hb dX3_best_28 (by decide) (by have := st_whyL_rng S gap ln j; omega) (by have := st_whyL_rng S gap ln j; omega) (fun c_28_11 => ?_) (fun c_28_11 => ?_)
        · -- taken at 28
          refine lv_iinc (v := kI (((j + 1 : Nat) : Int))) (lv' := [(5, .int (kI ((j + 1 : Nat) : Int))), (0, .ref a), (1, .int (kI ((ln : Nat) : Int))), (2, .int (kI (f))), (3, .int (kI (lb))), (4, .int (kI (mf)))]) hx hb dX3_best_118 hl (k := 5) rfl (kI_incN _ _) (by decide) rfl (fun ls hl => ?_)
          refine lv_goto (tgt := 10) hx hb dX3_best_121 (by decide) ?_
          exact ih_10  (j + 1) f lb mf (by first | assumption | omega | (simp_all; done) | grind) (by rw [st_bestTo, hst]; grind) (by first | assumption | omega | (simp_all; done) | grind) (by first | assumption | omega | (simp_all; done) | grind) (by first | assumption | omega | (simp_all; done) | grind) _ hS_8 (by omega) ls (lv_sub hl [1, 2, 3, 4, 5, 0] rfl)
        · -- not taken at 28
          have hw0 : st_whyL S gap ln j = 0 := by omega
          have hp := ln_isPlace_le (st_whyL_place hw0)
          have hbd := ln_bends_rng hL j
          have hfr := st_free_rng hok hln hp
          refine lv_aload_n hx hb dX3_best_31 rfl (lv_at hl 0 rfl) ?_
          refine lv_iload_n hx hb dX3_best_32 rfl (lv_at hl 1 rfl) ?_
          refine lv_iload hx hb dX3_best_33 (lv_at hl 5 rfl) ?_
          refine kx_ci0 (va_runV (As := [.int (kI ((ln : Nat) : Int)), .int (kI ((j : Nat) : Int))]) (rest := []) ⟨hx, hb, hml, hown, hts⟩ (m_X3_bends l D s.heap a fs ra g S gap ln j hO_a hf_a_0 hA_ra (by first | assumption | omega) (by first | assumption | omega) (by first | assumption | omega) (by first | assumption | omega)) (cwV 2 hts (lw_V q2353 q2355 qs50 q89 q2356) rfl rfl rfl (by decide +kernel) ⟨Nat.le_of_ble_eq_true rfl, Nat.le_of_ble_eq_true rfl⟩) (kx_pv hK hS_8 hB (kx_rc hK hO_a (C := RX3) (T := TX3) (N := 13) rfl)) rfl rfl hl.1 rfl (lv_room (Nat.le_of_ble_eq_true rfl)) dX3_best_35 ⟨by first | exact Nat.le_of_ble_eq_true rfl | omega | (show _ ≤ _; omega) | (dsimp only [headSpec]; omega), by first | exact Nat.le_of_ble_eq_true rfl | omega | (show _ ≤ _; omega) | (dsimp only [headSpec]; omega)⟩) hS_8 (fun z_15 locs_12 hz_14 hS_13 => ?_)
          subst z_15
          refine lv_istore (lv' := [(6, .int (kI (ln_bends (st_ln S ln) j))), (0, .ref a), (1, .int (kI ((ln : Nat) : Int))), (2, .int (kI (f))), (3, .int (kI (lb))), (4, .int (kI (mf))), (5, .int (kI ((j : Nat) : Int)))]) hx hb dX3_best_38 hl (by decide) rfl (fun ls hl => ?_)
          refine lv_aload_n hx hb dX3_best_40 rfl (lv_at hl 1 rfl) ?_
          refine lv_iload_n hx hb dX3_best_41 rfl (lv_at hl 2 rfl) ?_
          refine lv_iload hx hb dX3_best_42 (lv_at hl 6 rfl) ?_
          refine kx_ci0 (va_runV (As := [.int (kI ((ln : Nat) : Int)), .int (kI ((j : Nat) : Int))]) (rest := []) ⟨hx, hb, hml, hown, hts⟩ (m_X3_free l D s.heap a fs ra g S gap ln j hO_a hf_a_0 hA_ra (by first | assumption | omega) (by first | assumption | omega) (by first | assumption | omega) (by first | assumption | omega)) (cwV 2 hts (lw_V q2367 q2369 qs52 q89 q2370) rfl rfl rfl (by decide +kernel) ⟨Nat.le_of_ble_eq_true rfl, Nat.le_of_ble_eq_true rfl⟩) (kx_pv hK hS_13 hB (kx_rc hK hO_a (C := RX3) (T := TX3) (N := 13) rfl)) rfl rfl hl.1 rfl (lv_room (Nat.le_of_ble_eq_true rfl)) dX3_best_44 ⟨by first | exact Nat.le_of_ble_eq_true rfl | omega | (show _ ≤ _; omega) | (dsimp only [headSpec]; omega), by first | exact Nat.le_of_ble_eq_true rfl | omega | (show _ ≤ _; omega) | (dsimp only [headSpec]; omega)⟩) hS_13 (fun z_19 locs_16 hz_18 hS_17 => ?_)
          subst z_19
          refine lv_istore (lv' := [(7, .int (kI (st_free S ln j))), (6, .int (kI (ln_bends (st_ln S ln) j))), (0, .ref a), (1, .int (kI ((ln : Nat) : Int))), (2, .int (kI (f))), (3, .int (kI (lb))), (4, .int (kI (mf))), (5, .int (kI ((j : Nat) : Int)))]) hx hb dX3_best_47 hl (by decide) rfl (fun ls hl => ?_)
          refine lv_iload_n hx hb dX3_best_49 rfl (lv_at hl 4 rfl) ?_
          refine kx_iconst hx hb dX3_best_50 ?_
          refine kx_icmp_eq (x := f) (y := (-1)) (tgt := 73) hx hb dX3_best_51 (by decide) (by omega) (by omega) (by omega) (by omega) (fun c_51_20 => ?_) (fun c_51_20 => ?_)
          · -- taken at 51
            refine kx_iconst hx hb dX3_best_73 ?_
            refine lv_goto (tgt := 78) hx hb dX3_best_74 (by decide) ?_
            refine lv_istore (lv' := [(8, .int (kI (1))), (7, .int (kI (st_free S ln j))), (6, .int (kI (ln_bends (st_ln S ln) j))), (0, .ref a), (1, .int (kI ((ln : Nat) : Int))), (2, .int (kI (f))), (3, .int (kI (lb))), (4, .int (kI (mf))), (5, .int (kI ((j : Nat) : Int)))]) hx hb dX3_best_78 hl (by decide) rfl (fun ls hl => ?_)
            refine lv_iload hx hb dX3_best_80 (lv_at hl 0 rfl) ?_
            refine kx_if_eq (x := 1) (tgt := 90) hx hb dX3_best_82 (by decide) (by omega) (by omega) (fun c_82_21 => ?_) (fun c_82_21 => ?_)
            · -- taken at 82
              exfalso; omega
            · -- not taken at 82
              refine lv_iload hx hb dX3_best_85 (lv_at hl 8 rfl) ?_
              refine lv_goto (tgt := 91) hx hb dX3_best_87 (by decide) ?_
              refine lv_istore_n (lv' := [(2, .int (kI ((j : Nat) : Int))), (8, .int (kI (1))), (7, .int (kI (st_free S ln j))), (6, .int (kI (ln_bends (st_ln S ln) j))), (0, .ref a), (1, .int (kI ((ln : Nat) : Int))), (3, .int (kI (lb))), (4, .int (kI (mf))), (5, .int (kI ((j : Nat) : Int)))]) hx hb dX3_best_91 rfl hl (by decide) rfl (fun ls hl => ?_)
              refine lv_iload hx hb dX3_best_92 (lv_at hl 1 rfl) ?_
              refine kx_if_eq (x := 1) (tgt := 102) hx hb dX3_best_94 (by decide) (by omega) (by omega) (fun c_94_22 => ?_) (fun c_94_22 => ?_)
              · -- taken at 94
                exfalso; omega
              · -- not taken at 94
                refine lv_iload hx hb dX3_best_97 (lv_at hl 3 rfl) ?_
                refine lv_goto (tgt := 103) hx hb dX3_best_99 (by decide) ?_
                refine lv_istore_n (lv' := [(3, .int (kI (ln_bends (st_ln S ln) j))), (2, .int (kI ((j : Nat) : Int))), (8, .int (kI (1))), (7, .int (kI (st_free S ln j))), (6, .int (kI (ln_bends (st_ln S ln) j))), (0, .ref a), (1, .int (kI ((ln : Nat) : Int))), (4, .int (kI (mf))), (5, .int (kI ((j : Nat) : Int)))]) hx hb dX3_best_103 rfl hl (by decide) rfl (fun ls hl => ?_)
                refine lv_iload hx hb dX3_best_104 (lv_at hl 2 rfl) ?_
                refine kx_if_eq (x := 1) (tgt := 114) hx hb dX3_best_106 (by decide) (by omega) (by omega) (fun c_106_23 => ?_) (fun c_106_23 => ?_)
                · -- taken at 106
                  exfalso; omega
                · -- not taken at 106
                  refine lv_iload hx hb dX3_best_109 (lv_at hl 3 rfl) ?_
                  refine lv_goto (tgt := 116) hx hb dX3_best_111 (by decide) ?_
                  refine lv_istore (lv' := [(4, .int (kI (st_free S ln j))), (3, .int (kI (ln_bends (st_ln S ln) j))), (2, .int (kI ((j : Nat) : Int))), (8, .int (kI (1))), (7, .int (kI (st_free S ln j))), (6, .int (kI (ln_bends (st_ln S ln) j))), (0, .ref a), (1, .int (kI ((ln : Nat) : Int))), (5, .int (kI ((j : Nat) : Int)))]) hx hb dX3_best_116 hl (by decide) rfl (fun ls hl => ?_)
                  refine lv_iinc (v := kI (((j + 1 : Nat) : Int))) (lv' := [(5, .int (kI ((j + 1 : Nat) : Int))), (4, .int (kI (st_free S ln j))), (3, .int (kI (ln_bends (st_ln S ln) j))), (2, .int (kI ((j : Nat) : Int))), (8, .int (kI (1))), (7, .int (kI (st_free S ln j))), (6, .int (kI (ln_bends (st_ln S ln) j))), (0, .ref a), (1, .int (kI ((ln : Nat) : Int)))]) hx hb dX3_best_118 hl (k := 8) rfl (kI_incN _ _) (by decide) rfl (fun ls hl => ?_)
                  refine lv_goto (tgt := 10) hx hb dX3_best_121 (by decide) ?_
                  exact ih_10  (j + 1) (((j : Nat) : Int)) (ln_bends (st_ln S ln) j) (st_free S ln j) (by first | assumption | omega | (simp_all; done) | grind) (by rw [st_bestTo, hst]; grind) (by first | assumption | omega | (simp_all; done) | grind) (by first | assumption | omega | (simp_all; done) | grind) (by first | assumption | omega | (simp_all; done) | grind) _ hS_17 (by omega) ls (lv_sub hl [7, 8, 3, 2, 1, 0] rfl)
          · -- not taken at 51
            refine lv_iload hx hb dX3_best_54 (lv_at hl 1 rfl) ?_
            refine lv_iload_n hx hb dX3_best_56 rfl (lv_at hl 5 rfl) ?_
            refine kx_icmp_lt (x := ln_bends (st_ln S ln) j) (y := lb) (tgt := 73) hx hb dX3_best_57 (by decide) (by omega) (by omega) (by omega) (by omega) (fun c_57_24 => ?_) (fun c_57_24 => ?_)
            · -- taken at 57
              refine kx_iconst hx hb dX3_best_73 ?_
              refine lv_goto (tgt := 78) hx hb dX3_best_74 (by decide) ?_
              refine lv_istore (lv' := [(8, .int (kI (1))), (7, .int (kI (st_free S ln j))), (6, .int (kI (ln_bends (st_ln S ln) j))), (0, .ref a), (1, .int (kI ((ln : Nat) : Int))), (2, .int (kI (f))), (3, .int (kI (lb))), (4, .int (kI (mf))), (5, .int (kI ((j : Nat) : Int)))]) hx hb dX3_best_78 hl (by decide) rfl (fun ls hl => ?_)
              refine lv_iload hx hb dX3_best_80 (lv_at hl 0 rfl) ?_
              refine kx_if_eq (x := 1) (tgt := 90) hx hb dX3_best_82 (by decide) (by omega) (by omega) (fun c_82_25 => ?_) (fun c_82_25 => ?_)
              · -- taken at 82
                exfalso; omega
              · -- not taken at 82
                refine lv_iload hx hb dX3_best_85 (lv_at hl 8 rfl) ?_
                refine lv_goto (tgt := 91) hx hb dX3_best_87 (by decide) ?_
                refine lv_istore_n (lv' := [(2, .int (kI ((j : Nat) : Int))), (8, .int (kI (1))), (7, .int (kI (st_free S ln j))), (6, .int (kI (ln_bends (st_ln S ln) j))), (0, .ref a), (1, .int (kI ((ln : Nat) : Int))), (3, .int (kI (lb))), (4, .int (kI (mf))), (5, .int (kI ((j : Nat) : Int)))]) hx hb dX3_best_91 rfl hl (by decide) rfl (fun ls hl => ?_)
                refine lv_iload hx hb dX3_best_92 (lv_at hl 1 rfl) ?_
                refine kx_if_eq (x := 1) (tgt := 102) hx hb dX3_best_94 (by decide) (by omega) (by omega) (fun c_94_26 => ?_) (fun c_94_26 => ?_)
                · -- taken at 94
                  exfalso; omega
                · -- not taken at 94
                  refine lv_iload hx hb dX3_best_97 (lv_at hl 3 rfl) ?_
                  refine lv_goto (tgt := 103) hx hb dX3_best_99 (by decide) ?_
                  refine lv_istore_n (lv' := [(3, .int (kI (ln_bends (st_ln S ln) j))), (2, .int (kI ((j : Nat) : Int))), (8, .int (kI (1))), (7, .int (kI (st_free S ln j))), (6, .int (kI (ln_bends (st_ln S ln) j))), (0, .ref a), (1, .int (kI ((ln : Nat) : Int))), (4, .int (kI (mf))), (5, .int (kI ((j : Nat) : Int)))]) hx hb dX3_best_103 rfl hl (by decide) rfl (fun ls hl => ?_)
                  refine lv_iload hx hb dX3_best_104 (lv_at hl 2 rfl) ?_
                  refine kx_if_eq (x := 1) (tgt := 114) hx hb dX3_best_106 (by decide) (by omega) (by omega) (fun c_106_27 => ?_) (fun c_106_27 => ?_)
                  · -- taken at 106
                    exfalso; omega
                  · -- not taken at 106
                    refine lv_iload hx hb dX3_best_109 (lv_at hl 3 rfl) ?_
                    refine lv_goto (tgt := 116) hx hb dX3_best_111 (by decide) ?_
                    refine lv_istore (lv' := [(4, .int (kI (st_free S ln j))), (3, .int (kI (ln_bends (st_ln S ln) j))), (2, .int (kI ((j : Nat) : Int))), (8, .int (kI (1))), (7, .int (kI (st_free S ln j))), (6, .int (kI (ln_bends (st_ln S ln) j))), (0, .ref a), (1, .int (kI ((ln : Nat) : Int))), (5, .int (kI ((j : Nat) : Int)))]) hx hb dX3_best_116 hl (by decide) rfl (fun ls hl => ?_)
                    refine lv_iinc (v := kI (((j + 1 : Nat) : Int))) (lv' := [(5, .int (kI ((j + 1 : Nat) : Int))), (4, .int (kI (st_free S ln j))), (3, .int (kI (ln_bends (st_ln S ln) j))), (2, .int (kI ((j : Nat) : Int))), (8, .int (kI (1))), (7, .int (kI (st_free S ln j))), (6, .int (kI (ln_bends (st_ln S ln) j))), (0, .ref a), (1, .int (kI ((ln : Nat) : Int)))]) hx hb dX3_best_118 hl (k := 8) rfl (kI_incN _ _) (by decide) rfl (fun ls hl => ?_)
                    refine lv_goto (tgt := 10) hx hb dX3_best_121 (by decide) ?_
                    exact ih_10  (j + 1) (((j : Nat) : Int)) (ln_bends (st_ln S ln) j) (st_free S ln j) (by first | assumption | omega | (simp_all; done) | grind) (by rw [st_bestTo, hst]; grind) (by first | assumption | omega | (simp_all; done) | grind) (by first | assumption | omega | (simp_all; done) | grind) (by first | assumption | omega | (simp_all; done) | grind) _ hS_17 (by omega) ls (lv_sub hl [7, 8, 3, 2, 1, 0] rfl)
            · -- not taken at 57
              refine lv_iload hx hb dX3_best_60 (lv_at hl 1 rfl) ?_
              refine lv_iload_n hx hb dX3_best_62 rfl (lv_at hl 5 rfl) ?_
              refine kx_icmp_ne (x := ln_bends (st_ln S ln) j) (y := lb) (tgt := 77) hx hb dX3_best_63 (by decide) (by omega) (by omega) (by omega) (by omega) (fun c_63_28 => ?_) (fun c_63_28 => ?_)
              · -- taken at 63
                refine kx_iconst hx hb dX3_best_77 ?_
                refine lv_istore (lv' := [(8, .int (kI (0))), (7, .int (kI (st_free S ln j))), (6, .int (kI (ln_bends (st_ln S ln) j))), (0, .ref a), (1, .int (kI ((ln : Nat) : Int))), (2, .int (kI (f))), (3, .int (kI (lb))), (4, .int (kI (mf))), (5, .int (kI ((j : Nat) : Int)))]) hx hb dX3_best_78 hl (by decide) rfl (fun ls hl => ?_)
                refine lv_iload hx hb dX3_best_80 (lv_at hl 0 rfl) ?_
                refine kx_if_eq (x := 0) (tgt := 90) hx hb dX3_best_82 (by decide) (by omega) (by omega) (fun c_82_29 => ?_) (fun c_82_29 => ?_)
                · -- taken at 82
                  refine lv_iload_n hx hb dX3_best_90 rfl (lv_at hl 5 rfl) ?_
                  refine lv_istore_n (lv' := [(2, .int (kI (f))), (8, .int (kI (0))), (7, .int (kI (st_free S ln j))), (6, .int (kI (ln_bends (st_ln S ln) j))), (0, .ref a), (1, .int (kI ((ln : Nat) : Int))), (3, .int (kI (lb))), (4, .int (kI (mf))), (5, .int (kI ((j : Nat) : Int)))]) hx hb dX3_best_91 rfl hl (by decide) rfl (fun ls hl => ?_)
                  refine lv_iload hx hb dX3_best_92 (lv_at hl 1 rfl) ?_
                  refine kx_if_eq (x := 0) (tgt := 102) hx hb dX3_best_94 (by decide) (by omega) (by omega) (fun c_94_30 => ?_) (fun c_94_30 => ?_)
                  · -- taken at 94
                    refine lv_iload_n hx hb dX3_best_102 rfl (lv_at hl 6 rfl) ?_
                    refine lv_istore_n (lv' := [(3, .int (kI (lb))), (2, .int (kI (f))), (8, .int (kI (0))), (7, .int (kI (st_free S ln j))), (6, .int (kI (ln_bends (st_ln S ln) j))), (0, .ref a), (1, .int (kI ((ln : Nat) : Int))), (4, .int (kI (mf))), (5, .int (kI ((j : Nat) : Int)))]) hx hb dX3_best_103 rfl hl (by decide) rfl (fun ls hl => ?_)
                    refine lv_iload hx hb dX3_best_104 (lv_at hl 2 rfl) ?_
                    refine kx_if_eq (x := 0) (tgt := 114) hx hb dX3_best_106 (by decide) (by omega) (by omega) (fun c_106_31 => ?_) (fun c_106_31 => ?_)
                    · -- taken at 106
                      refine lv_iload hx hb dX3_best_114 (lv_at hl 7 rfl) ?_
                      refine lv_istore (lv' := [(4, .int (kI (mf))), (3, .int (kI (lb))), (2, .int (kI (f))), (8, .int (kI (0))), (7, .int (kI (st_free S ln j))), (6, .int (kI (ln_bends (st_ln S ln) j))), (0, .ref a), (1, .int (kI ((ln : Nat) : Int))), (5, .int (kI ((j : Nat) : Int)))]) hx hb dX3_best_116 hl (by decide) rfl (fun ls hl => ?_)
                      refine lv_iinc (v := kI (((j + 1 : Nat) : Int))) (lv' := [(5, .int (kI ((j + 1 : Nat) : Int))), (4, .int (kI (mf))), (3, .int (kI (lb))), (2, .int (kI (f))), (8, .int (kI (0))), (7, .int (kI (st_free S ln j))), (6, .int (kI (ln_bends (st_ln S ln) j))), (0, .ref a), (1, .int (kI ((ln : Nat) : Int)))]) hx hb dX3_best_118 hl (k := 8) rfl (kI_incN _ _) (by decide) rfl (fun ls hl => ?_)
                      refine lv_goto (tgt := 10) hx hb dX3_best_121 (by decide) ?_
                      exact ih_10  (j + 1) f lb mf (by first | assumption | omega | (simp_all; done) | grind) (by rw [st_bestTo, hst]; grind) (by first | assumption | omega | (simp_all; done) | grind) (by first | assumption | omega | (simp_all; done) | grind) (by first | assumption | omega | (simp_all; done) | grind) _ hS_17 (by omega) ls (lv_sub hl [7, 8, 3, 2, 1, 0] rfl)
                    · -- not taken at 106
                      exfalso; omega
                  · -- not taken at 94
                    exfalso; omega
                · -- not taken at 82
                  exfalso; omega
              · -- not taken at 63
                refine lv_iload hx hb dX3_best_66 (lv_at hl 0 rfl) ?_
                refine lv_iload hx hb dX3_best_68 (lv_at hl 6 rfl) ?_
                refine kx_icmp_le (x := st_free S ln j) (y := mf) (tgt := 77) hx hb dX3_best_70 (by decide) (by omega) (by omega) (by omega) (by omega) (fun c_70_32 => ?_) (fun c_70_32 => ?_)
                · -- taken at 70
                  refine kx_iconst hx hb dX3_best_77 ?_
                  refine lv_istore (lv' := [(8, .int (kI (0))), (7, .int (kI (st_free S ln j))), (6, .int (kI (ln_bends (st_ln S ln) j))), (0, .ref a), (1, .int (kI ((ln : Nat) : Int))), (2, .int (kI (f))), (3, .int (kI (lb))), (4, .int (kI (mf))), (5, .int (kI ((j : Nat) : Int)))]) hx hb dX3_best_78 hl (by decide) rfl (fun ls hl => ?_)
                  refine lv_iload hx hb dX3_best_80 (lv_at hl 0 rfl) ?_
                  refine kx_if_eq (x := 0) (tgt := 90) hx hb dX3_best_82 (by decide) (by omega) (by omega) (fun c_82_33 => ?_) (fun c_82_33 => ?_)
                  · -- taken at 82
                    refine lv_iload_n hx hb dX3_best_90 rfl (lv_at hl 5 rfl) ?_
                    refine lv_istore_n (lv' := [(2, .int (kI (f))), (8, .int (kI (0))), (7, .int (kI (st_free S ln j))), (6, .int (kI (ln_bends (st_ln S ln) j))), (0, .ref a), (1, .int (kI ((ln : Nat) : Int))), (3, .int (kI (lb))), (4, .int (kI (mf))), (5, .int (kI ((j : Nat) : Int)))]) hx hb dX3_best_91 rfl hl (by decide) rfl (fun ls hl => ?_)
                    refine lv_iload hx hb dX3_best_92 (lv_at hl 1 rfl) ?_
                    refine kx_if_eq (x := 0) (tgt := 102) hx hb dX3_best_94 (by decide) (by omega) (by omega) (fun c_94_34 => ?_) (fun c_94_34 => ?_)
                    · -- taken at 94
                      refine lv_iload_n hx hb dX3_best_102 rfl (lv_at hl 6 rfl) ?_
                      refine lv_istore_n (lv' := [(3, .int (kI (lb))), (2, .int (kI (f))), (8, .int (kI (0))), (7, .int (kI (st_free S ln j))), (6, .int (kI (ln_bends (st_ln S ln) j))), (0, .ref a), (1, .int (kI ((ln : Nat) : Int))), (4, .int (kI (mf))), (5, .int (kI ((j : Nat) : Int)))]) hx hb dX3_best_103 rfl hl (by decide) rfl (fun ls hl => ?_)
                      refine lv_iload hx hb dX3_best_104 (lv_at hl 2 rfl) ?_
                      refine kx_if_eq (x := 0) (tgt := 114) hx hb dX3_best_106 (by decide) (by omega) (by omega) (fun c_106_35 => ?_) (fun c_106_35 => ?_)
                      · -- taken at 106
                        refine lv_iload hx hb dX3_best_114 (lv_at hl 7 rfl) ?_
                        refine lv_istore (lv' := [(4, .int (kI (mf))), (3, .int (kI (lb))), (2, .int (kI (f))), (8, .int (kI (0))), (7, .int (kI (st_free S ln j))), (6, .int (kI (ln_bends (st_ln S ln) j))), (0, .ref a), (1, .int (kI ((ln : Nat) : Int))), (5, .int (kI ((j : Nat) : Int)))]) hx hb dX3_best_116 hl (by decide) rfl (fun ls hl => ?_)
                        refine lv_iinc (v := kI (((j + 1 : Nat) : Int))) (lv' := [(5, .int (kI ((j + 1 : Nat) : Int))), (4, .int (kI (mf))), (3, .int (kI (lb))), (2, .int (kI (f))), (8, .int (kI (0))), (7, .int (kI (st_free S ln j))), (6, .int (kI (ln_bends (st_ln S ln) j))), (0, .ref a), (1, .int (kI ((ln : Nat) : Int)))]) hx hb dX3_best_118 hl (k := 8) rfl (kI_incN _ _) (by decide) rfl (fun ls hl => ?_)
                        refine lv_goto (tgt := 10) hx hb dX3_best_121 (by decide) ?_
                        exact ih_10  (j + 1) f lb mf (by first | assumption | omega | (simp_all; done) | grind) (by rw [st_bestTo, hst]; grind) (by first | assumption | omega | (simp_all; done) | grind) (by first | assumption | omega | (simp_all; done) | grind) (by first | assumption | omega | (simp_all; done) | grind) _ hS_17 (by omega) ls (lv_sub hl [7, 8, 3, 2, 1, 0] rfl)
                      · -- not taken at 106
                        exfalso; omega
                    · -- not taken at 94
                      exfalso; omega
                  · -- not taken at 82
                    exfalso; omega
                · -- not taken at 70
                  refine kx_iconst hx hb dX3_best_73 ?_
                  refine lv_goto (tgt := 78) hx hb dX3_best_74 (by decide) ?_
                  refine lv_istore (lv' := [(8, .int (kI (1))), (7, .int (kI (st_free S ln j))), (6, .int (kI (ln_bends (st_ln S ln) j))), (0, .ref a), (1, .int (kI ((ln : Nat) : Int))), (2, .int (kI (f))), (3, .int (kI (lb))), (4, .int (kI (mf))), (5, .int (kI ((j : Nat) : Int)))]) hx hb dX3_best_78 hl (by decide) rfl (fun ls hl => ?_)
                  refine lv_iload hx hb dX3_best_80 (lv_at hl 0 rfl) ?_
                  refine kx_if_eq (x := 1) (tgt := 90) hx hb dX3_best_82 (by decide) (by omega) (by omega) (fun c_82_36 => ?_) (fun c_82_36 => ?_)
                  · -- taken at 82
                    exfalso; omega
                  · -- not taken at 82
                    refine lv_iload hx hb dX3_best_85 (lv_at hl 8 rfl) ?_
                    refine lv_goto (tgt := 91) hx hb dX3_best_87 (by decide) ?_
                    refine lv_istore_n (lv' := [(2, .int (kI ((j : Nat) : Int))), (8, .int (kI (1))), (7, .int (kI (st_free S ln j))), (6, .int (kI (ln_bends (st_ln S ln) j))), (0, .ref a), (1, .int (kI ((ln : Nat) : Int))), (3, .int (kI (lb))), (4, .int (kI (mf))), (5, .int (kI ((j : Nat) : Int)))]) hx hb dX3_best_91 rfl hl (by decide) rfl (fun ls hl => ?_)
                    refine lv_iload hx hb dX3_best_92 (lv_at hl 1 rfl) ?_
                    refine kx_if_eq (x := 1) (tgt := 102) hx hb dX3_best_94 (by decide) (by omega) (by omega) (fun c_94_37 => ?_) (fun c_94_37 => ?_)
                    · -- taken at 94
                      exfalso; omega
                    · -- not taken at 94
                      refine lv_iload hx hb dX3_best_97 (lv_at hl 3 rfl) ?_
                      refine lv_goto (tgt := 103) hx hb dX3_best_99 (by decide) ?_
                      refine lv_istore_n (lv' := [(3, .int (kI (ln_bends (st_ln S ln) j))), (2, .int (kI ((j : Nat) : Int))), (8, .int (kI (1))), (7, .int (kI (st_free S ln j))), (6, .int (kI (ln_bends (st_ln S ln) j))), (0, .ref a), (1, .int (kI ((ln : Nat) : Int))), (4, .int (kI (mf))), (5, .int (kI ((j : Nat) : Int)))]) hx hb dX3_best_103 rfl hl (by decide) rfl (fun ls hl => ?_)
                      refine lv_iload hx hb dX3_best_104 (lv_at hl 2 rfl) ?_
                      refine kx_if_eq (x := 1) (tgt := 114) hx hb dX3_best_106 (by decide) (by omega) (by omega) (fun c_106_38 => ?_) (fun c_106_38 => ?_)
                      · -- taken at 106
                        exfalso; omega
                      · -- not taken at 106
                        refine lv_iload hx hb dX3_best_109 (lv_at hl 3 rfl) ?_
                        refine lv_goto (tgt := 116) hx hb dX3_best_111 (by decide) ?_
                        refine lv_istore (lv' := [(4, .int (kI (st_free S ln j))), (3, .int (kI (ln_bends (st_ln S ln) j))), (2, .int (kI ((j : Nat) : Int))), (8, .int (kI (1))), (7, .int (kI (st_free S ln j))), (6, .int (kI (ln_bends (st_ln S ln) j))), (0, .ref a), (1, .int (kI ((ln : Nat) : Int))), (5, .int (kI ((j : Nat) : Int)))]) hx hb dX3_best_116 hl (by decide) rfl (fun ls hl => ?_)
                        refine lv_iinc (v := kI (((j + 1 : Nat) : Int))) (lv' := [(5, .int (kI ((j + 1 : Nat) : Int))), (4, .int (kI (st_free S ln j))), (3, .int (kI (ln_bends (st_ln S ln) j))), (2, .int (kI ((j : Nat) : Int))), (8, .int (kI (1))), (7, .int (kI (st_free S ln j))), (6, .int (kI (ln_bends (st_ln S ln) j))), (0, .ref a), (1, .int (kI ((ln : Nat) : Int)))]) hx hb dX3_best_118 hl (k := 8) rfl (kI_incN _ _) (by decide) rfl (fun ls hl => ?_)
                        refine lv_goto (tgt := 10) hx hb dX3_best_121 (by decide) ?_
                        exact ih_10  (j + 1) (((j : Nat) : Int)) (ln_bends (st_ln S ln) j) (st_free S ln j) (by first | assumption | omega | (simp_all; done) | grind) (by rw [st_bestTo, hst]; grind) (by first | assumption | omega | (simp_all; done) | grind) (by first | assumption | omega | (simp_all; done) | grind) (by first | assumption | omega | (simp_all; done) | grind) _ hS_17 (by omega) ls (lv_sub hl [7, 8, 3, 2, 1, 0] rfl)
  exact lp_10_x_1 (ln_n (st_ln S ln) + 1 - 0 + 1) 0 ((-1)) 0 0 (by first | assumption | omega | (simp_all; done) | grind) (rfl) (by first | assumption | omega | (simp_all; done) | grind) (by first | assumption | omega | (simp_all; done) | grind) (by first | assumption | omega | (simp_all; done) | grind) _ hS (Nat.lt_succ_self _) ls (lv_sub hl [4, 5, 3, 2, 1, 0] rfl)

set_option maxHeartbeats 4000000 in
set_option maxRecDepth 100000 in
theorem m_X3_labelled (l : Launch) (D : kG) (H : Heap) (a : Nat) (fs : List Value) (ra : Nat) (g : Nat → Int) (S : Ls) (gap : Int) (hO_a : kO D H a 2 fs) (hf_a_0 : fs[0]? = some (.ref ra)) (hA_ra : kAi D H ra 514 g) (hM : MRow g S gap) (hok : LsOK S gap) : Met l yX3_labelled (ws_ yX3_labelled cX3_labelled 3 (some .int)) ({ frames := 1, cells := 0, slots := 0, locals := 22 } : Room) (kPre D H [.ref a]) (kQi (fun (r : Int) H' => H' = H ∧ r = st_lab S) kNO) (0) (0) (kNO) := by
  refine Met.ofW (cc := cX3_labelled) (maxL := 3) (ret := (some .int)) (by decide) rfl ?_
  intro p e s m args below meth c s₁ B hml hv
  obtain ⟨rfl, hH, hK⟩ := hv
  subst hH
  have hx := B.exec
  have hb := B.bytes
  have hr := B.returns
  have hts := atoms_spec (ws := ws_ yX3_labelled cX3_labelled 3 (some .int)) B.pre
  have hts : ∀ w ∈ lw_all, w.before _ s = true := fun w h => hts w (List.mem_cons_of_mem _ h)
  have hown : s.vm.findClass RX3 = some m.cls := findClass_of_methodNamed B.named
  have hlk := B.notSynchronized
  have hS : va_S kNO s.heap s.heap [] := va_S.rf
  have hB : ∀ q, kNO q → kBase D ≤ q := fun _ h => h.elim
  have hl := lv_entry ([.ref a]) (n := 3) (Nat.le_of_ble_eq_true rfl)
  rw [lg_entry_eq]
  generalize (lg_sl ([.ref a]) ++ List.replicate (3 - (lg_sl ([.ref a])).length) Slot.unset).toArray = ls at hl ⊢
  have hl : lv_has ls 3 [(0, .ref a)] := hl
  have hL8 := hok.1
  have hlen := hM.len
  refine kx_iconst hx hb dX3_labelled_0 ?_
  refine lv_istore_n (lv' := [(1, .int (kI (0))), (0, .ref a)]) hx hb dX3_labelled_1 rfl hl (by decide) rfl (fun ls hl => ?_)
  refine kx_iconst hx hb dX3_labelled_2 ?_
  refine lv_istore_n (lv' := [(2, .int (kI (0))), (1, .int (kI (0))), (0, .ref a)]) hx hb dX3_labelled_3 rfl hl (by decide) rfl (fun ls hl => ?_)
  have lp_4_x_1 : ∀ (n_4 : Nat) (i : Nat) (sm : Int) (hi : i ≤ S.length) (hsm : sm = st_labTo S i) (locs : List Loc) (hS : va_S kNO s.heap s.heap locs) (hm_4 : S.length - i < n_4) (ls : Array Slot), lv_has ls 3 [(0, .ref a), (1, .int (kI (sm))), (2, .int (kI ((i : Nat) : Int)))] → W p l e (headSpec (ws_ yX3_labelled cX3_labelled 3 (some .int)) ({ frames := 1, cells := 0, slots := 0, locals := 22 } : Room)).room s m ([.ref a] : List Value).toArray below meth c s.heap locs (0) (0) (MQ below (kQi (fun (r : Int) H' => H' = s.heap ∧ r = st_lab S) kNO) ([.ref a] : List Value).toArray s (0) (0) (kNO)) (F0 m 4 ls []) := by
    intro n_4
    induction n_4 with
    | zero => intro i sm hi hsm locs hS hm_4; exact absurd hm_4 (Nat.not_lt_zero _)
    | succ n_4 ih_4 =>
      intro i sm hi hsm locs hS hm_4 ls hl
      refine lv_iload_n hx hb dX3_labelled_4 rfl (lv_at hl 2 rfl) ?_
      refine lv_aload_n hx hb dX3_labelled_5 rfl (lv_at hl 0 rfl) ?_
      refine kx_get (v := .ref ra) (C := RX3) (T := TX3) (N := 13) hx hb hts in_X3 hown hK hO_a rfl 0 (by decide) q2238 (fun _ h9 => h9) hf_a_0 dX3_labelled_6 ?_
      refine kx_iconst hx hb dX3_labelled_9 ?_
      refine kx_iald (i := 0) hx hb hK hA_ra 0 (rfl) (by omega) (by omega) dX3_labelled_10 ?_
      refine kx_icmp_ge (x := ((i : Nat) : Int)) (y := (g 0)) (tgt := 38) hx hb dX3_labelled_11 (by decide) (by omega) (by omega) (by omega) (by omega) (fun c_11_2 => ?_) (fun c_11_2 => ?_)
      · -- taken at 11
        refine lv_iload_n hx hb dX3_labelled_38 rfl (lv_at hl 1 rfl) ?_
        exact kx_iret (z := sm) hx hb hr hlk (⟨rfl, by rw [hsm, st_lab, show i = S.length by omega]⟩) hS dX3_labelled_39
      · -- not taken at 11
        have hi2 : i < S.length := by omega
        have hlb := (hok.ln hi2).lbr
        refine lv_iload_n hx hb dX3_labelled_14 rfl (lv_at hl 1 rfl) ?_
        refine lv_aload_n hx hb dX3_labelled_15 rfl (lv_at hl 0 rfl) ?_
        refine lv_iload_n hx hb dX3_labelled_16 rfl (lv_at hl 2 rfl) ?_
        refine kx_iconst hx hb dX3_labelled_17 ?_
        refine kx_ci0 (va_runV (As := [.int (kI ((i : Nat) : Int)), .int (kI (3))]) (rest := [.int (kI (sm))]) ⟨hx, hb, hml, hown, hts⟩ (of_lb l D s.heap a fs ra g S gap i hO_a hf_a_0 hA_ra (by first | assumption | omega) (by first | assumption | omega) (by first | assumption | omega)) (cwV 2 hts (lw_V q2304 q2306 qs40 q89 q2307) rfl rfl rfl (by decide +kernel) ⟨Nat.le_of_ble_eq_true rfl, Nat.le_of_ble_eq_true rfl⟩) (kx_pv hK hS hB (kx_rc hK hO_a (C := RX3) (T := TX3) (N := 13) rfl)) rfl rfl hl.1 rfl (lv_room (Nat.le_of_ble_eq_true rfl)) dX3_labelled_18 ⟨by first | exact Nat.le_of_ble_eq_true rfl | omega | (show _ ≤ _; omega) | (dsimp only [headSpec]; omega), by first | exact Nat.le_of_ble_eq_true rfl | omega | (show _ ≤ _; omega) | (dsimp only [headSpec]; omega)⟩) hS (fun z_6 locs_3 hz_5 hS_4 => ?_)
        subst z_6
        refine kx_iconst hx hb dX3_labelled_21 ?_
        refine kx_icmp_eq (x := ln_lb (st_ln S i)) (y := (-1)) (tgt := 29) hx hb dX3_labelled_22 (by decide) (by omega) (by omega) (by omega) (by omega) (fun c_22_7 => ?_) (fun c_22_7 => ?_)
        · -- taken at 22
          refine kx_iconst hx hb dX3_labelled_29 ?_
          refine kx_iadd hx hb dX3_labelled_30 ?_
          refine lv_istore_n (lv' := [(1, .int (kI ((sm + 0)))), (0, .ref a), (2, .int (kI ((i : Nat) : Int)))]) hx hb dX3_labelled_31 rfl hl (by decide) rfl (fun ls hl => ?_)
          refine lv_iinc (v := kI (((i + 1 : Nat) : Int))) (lv' := [(2, .int (kI ((i + 1 : Nat) : Int))), (1, .int (kI ((sm + 0)))), (0, .ref a)]) hx hb dX3_labelled_32 hl (k := 2) rfl (kI_incN _ _) (by decide) rfl (fun ls hl => ?_)
          refine lv_goto (tgt := 4) hx hb dX3_labelled_35 (by decide) ?_
          exact ih_4  (i + 1) ((sm + 0)) (by first | assumption | omega | (simp_all; done) | grind) (by rw [st_labTo, hsm]; first | (rw [if_pos (by omega)]) | (rw [if_neg (by omega)])) _ hS_4 (by omega) ls (lv_sub hl [2, 1, 0] rfl)
        · -- not taken at 22
          refine kx_iconst hx hb dX3_labelled_25 ?_
          refine lv_goto (tgt := 30) hx hb dX3_labelled_26 (by decide) ?_
          refine kx_iadd hx hb dX3_labelled_30 ?_
          refine lv_istore_n (lv' := [(1, .int (kI ((sm + 1)))), (0, .ref a), (2, .int (kI ((i : Nat) : Int)))]) hx hb dX3_labelled_31 rfl hl (by decide) rfl (fun ls hl => ?_)
          refine lv_iinc (v := kI (((i + 1 : Nat) : Int))) (lv' := [(2, .int (kI ((i + 1 : Nat) : Int))), (1, .int (kI ((sm + 1)))), (0, .ref a)]) hx hb dX3_labelled_32 hl (k := 2) rfl (kI_incN _ _) (by decide) rfl (fun ls hl => ?_)
          refine lv_goto (tgt := 4) hx hb dX3_labelled_35 (by decide) ?_
          exact ih_4  (i + 1) ((sm + 1)) (by first | assumption | omega | (simp_all; done) | grind) (by rw [st_labTo, hsm]; first | (rw [if_pos (by omega)]) | (rw [if_neg (by omega)])) _ hS_4 (by omega) ls (lv_sub hl [2, 1, 0] rfl)
  exact lp_4_x_1 (S.length - 0 + 1) 0 0 (by first | assumption | omega | (simp_all; done) | grind) (rfl) _ hS (Nat.lt_succ_self _) ls (lv_sub hl [2, 1, 0] rfl)

set_option maxHeartbeats 4000000 in
set_option maxRecDepth 100000 in
theorem m_X3_byLevel (l : Launch) (D : kG) (H : Heap) (a : Nat) (fs : List Value) (ra : Nat) (g : Nat → Int) (S : Ls) (gap : Int) (pl : Int) (hO_a : kO D H a 2 fs) (hf_a_0 : fs[0]? = some (.ref ra)) (hA_ra : kAi D H ra 514 g) (hM : MRow g S gap) (hok : LsOK S gap) (hr_pl : -2147483648 ≤ pl ∧ pl ≤ 2147483647) : Met l yX3_byLevel (ws_ yX3_byLevel cX3_byLevel 7 (some .int)) ({ frames := 1, cells := 0, slots := 0, locals := 22 } : Room) (kPre D H [.ref a, .int (kI (pl))]) (kQi (fun (r : Int) H' => H' = H ∧ r = st_byLv S pl) kNO) (0) (0) (kNO) := by
  refine Met.ofW (cc := cX3_byLevel) (maxL := 7) (ret := (some .int)) (by decide) rfl ?_
  intro p e s m args below meth c s₁ B hml hv
  obtain ⟨rfl, hH, hK⟩ := hv
  subst hH
  have hx := B.exec
  have hb := B.bytes
  have hr := B.returns
  have hts := atoms_spec (ws := ws_ yX3_byLevel cX3_byLevel 7 (some .int)) B.pre
  have hts : ∀ w ∈ lw_all, w.before _ s = true := fun w h => hts w (List.mem_cons_of_mem _ h)
  have hown : s.vm.findClass RX3 = some m.cls := findClass_of_methodNamed B.named
  have hlk := B.notSynchronized
  have hS : va_S kNO s.heap s.heap [] := va_S.rf
  have hB : ∀ q, kNO q → kBase D ≤ q := fun _ h => h.elim
  have hl := lv_entry ([.ref a, .int (kI (pl))]) (n := 7) (Nat.le_of_ble_eq_true rfl)
  rw [lg_entry_eq]
  generalize (lg_sl ([.ref a, .int (kI (pl))]) ++ List.replicate (7 - (lg_sl ([.ref a, .int (kI (pl))])).length) Slot.unset).toArray = ls at hl ⊢
  have hl : lv_has ls 7 [(0, .ref a), (1, .int (kI (pl)))] := hl
  have hL8 := hok.1
  have hlen := hM.len
  refine kx_iconst hx hb dX3_byLevel_0 ?_
  refine lv_istore_n (lv' := [(2, .int (kI ((-1)))), (0, .ref a), (1, .int (kI (pl)))]) hx hb dX3_byLevel_1 rfl hl (by decide) rfl (fun ls hl => ?_)
  refine kx_iconst hx hb dX3_byLevel_2 ?_
  refine lv_istore_n (lv' := [(3, .int (kI (0))), (2, .int (kI ((-1)))), (0, .ref a), (1, .int (kI (pl)))]) hx hb dX3_byLevel_3 rfl hl (by decide) rfl (fun ls hl => ?_)
  have lp_4_x_1 : ∀ (n_4 : Nat) (i : Nat) (f : Int) (hi : i ≤ S.length) (hf : f = st_byLvTo S pl i) (locs : List Loc) (hS : va_S kNO s.heap s.heap locs) (hm_4 : S.length - i < n_4) (ls : Array Slot), lv_has ls 7 [(0, .ref a), (1, .int (kI (pl))), (2, .int (kI (f))), (3, .int (kI ((i : Nat) : Int)))] → W p l e (headSpec (ws_ yX3_byLevel cX3_byLevel 7 (some .int)) ({ frames := 1, cells := 0, slots := 0, locals := 22 } : Room)).room s m ([.ref a, .int (kI (pl))] : List Value).toArray below meth c s.heap locs (0) (0) (MQ below (kQi (fun (r : Int) H' => H' = s.heap ∧ r = st_byLv S pl) kNO) ([.ref a, .int (kI (pl))] : List Value).toArray s (0) (0) (kNO)) (F0 m 4 ls []) := by
    intro n_4
    induction n_4 with
    | zero => intro i f hi hf locs hS hm_4; exact absurd hm_4 (Nat.not_lt_zero _)
    | succ n_4 ih_4 =>
      intro i f hi hf locs hS hm_4 ls hl
      refine lv_iload_n hx hb dX3_byLevel_4 rfl (lv_at hl 3 rfl) ?_
      refine lv_aload_n hx hb dX3_byLevel_5 rfl (lv_at hl 0 rfl) ?_
      refine kx_get (v := .ref ra) (C := RX3) (T := TX3) (N := 13) hx hb hts in_X3 hown hK hO_a rfl 0 (by decide) q2238 (fun _ h9 => h9) hf_a_0 dX3_byLevel_6 ?_
      refine kx_iconst hx hb dX3_byLevel_9 ?_
      refine kx_iald (i := 0) hx hb hK hA_ra 0 (rfl) (by omega) (by omega) dX3_byLevel_10 ?_
      refine kx_icmp_ge (x := ((i : Nat) : Int)) (y := (g 0)) (tgt := 115) hx hb dX3_byLevel_11 (by decide) (by omega) (by omega) (by omega) (by omega) (fun c_11_2 => ?_) (fun c_11_2 => ?_)
      · -- taken at 11
        refine lv_iload_n hx hb dX3_byLevel_115 rfl (lv_at hl 2 rfl) ?_
        exact kx_iret (z := f) hx hb hr hlk (⟨rfl, by rw [hf, st_byLv, show i = S.length by omega]⟩) hS dX3_byLevel_116
      · -- not taken at 11
        have hi2 : i < S.length := by omega
        have hlv := (hok.ln hi2).lv
        refine kx_iconst hx hb dX3_byLevel_14 ?_
        refine lv_istore (lv' := [(4, .int (kI (0))), (0, .ref a), (1, .int (kI (pl))), (2, .int (kI (f))), (3, .int (kI ((i : Nat) : Int)))]) hx hb dX3_byLevel_15 hl (by decide) rfl (fun ls hl => ?_)
        refine kx_iconst hx hb dX3_byLevel_17 ?_
        refine lv_istore (lv' := [(5, .int (kI (0))), (4, .int (kI (0))), (0, .ref a), (1, .int (kI (pl))), (2, .int (kI (f))), (3, .int (kI ((i : Nat) : Int)))]) hx hb dX3_byLevel_18 hl (by decide) rfl (fun ls hl => ?_)
        have lp_20_x_3 : ∀ (n_20 : Nat) (o : Nat) (ah : Int) (ho : o ≤ S.length) (hah : ah = st_aheadTo S i o) (har : 0 ≤ ah ∧ ah ≤ o) (locs : List Loc) (hS : va_S kNO s.heap s.heap locs) (hm_20 : S.length - o < n_20) (ls : Array Slot), lv_has ls 7 [(0, .ref a), (1, .int (kI (pl))), (2, .int (kI (f))), (3, .int (kI ((i : Nat) : Int))), (4, .int (kI (ah))), (5, .int (kI ((o : Nat) : Int)))] → W p l e (headSpec (ws_ yX3_byLevel cX3_byLevel 7 (some .int)) ({ frames := 1, cells := 0, slots := 0, locals := 22 } : Room)).room s m ([.ref a, .int (kI (pl))] : List Value).toArray below meth c s.heap locs (0) (0) (MQ below (kQi (fun (r : Int) H' => H' = s.heap ∧ r = st_byLv S pl) kNO) ([.ref a, .int (kI (pl))] : List Value).toArray s (0) (0) (kNO)) (F0 m 20 ls []) := by
          intro n_20
          induction n_20 with
          | zero => intro o ah ho hah har locs hS hm_20; exact absurd hm_20 (Nat.not_lt_zero _)
          | succ n_20 ih_20 =>
            intro o ah ho hah har locs hS hm_20 ls hl
            refine lv_iload hx hb dX3_byLevel_20 (lv_at hl 5 rfl) ?_
            refine lv_aload_n hx hb dX3_byLevel_22 rfl (lv_at hl 0 rfl) ?_
            refine kx_get (v := .ref ra) (C := RX3) (T := TX3) (N := 13) hx hb hts in_X3 hown hK hO_a rfl 0 (by decide) q2238 (fun _ h9 => h9) hf_a_0 dX3_byLevel_23 ?_
            refine kx_iconst hx hb dX3_byLevel_26 ?_
            refine kx_iald (i := 0) hx hb hK hA_ra 0 (rfl) (by omega) (by omega) dX3_byLevel_27 ?_
            refine kx_icmp_ge (x := ((o : Nat) : Int)) (y := (g 0)) (tgt := 97) hx hb dX3_byLevel_28 (by decide) (by omega) (by omega) (by omega) (by omega) (fun c_28_4 => ?_) (fun c_28_4 => ?_)
            · -- taken at 28
              refine lv_iload hx hb dX3_byLevel_97 (lv_at hl 4 rfl) ?_
              refine lv_iload_n hx hb dX3_byLevel_99 rfl (lv_at hl 1 rfl) ?_
              refine kx_icmp_ne (x := ah) (y := pl) (tgt := 107) hx hb dX3_byLevel_100 (by decide) (by omega) (by omega) (by omega) (by omega) (fun c_100_5 => ?_) (fun c_100_5 => ?_)
              · -- taken at 100
                refine lv_iload_n hx hb dX3_byLevel_107 rfl (lv_at hl 2 rfl) ?_
                refine lv_istore_n (lv' := [(2, .int (kI (f))), (0, .ref a), (1, .int (kI (pl))), (3, .int (kI ((i : Nat) : Int))), (4, .int (kI (ah))), (5, .int (kI ((o : Nat) : Int)))]) hx hb dX3_byLevel_108 rfl hl (by decide) rfl (fun ls hl => ?_)
                refine lv_iinc (v := kI (((i + 1 : Nat) : Int))) (lv' := [(3, .int (kI ((i + 1 : Nat) : Int))), (2, .int (kI (f))), (0, .ref a), (1, .int (kI (pl))), (4, .int (kI (ah))), (5, .int (kI ((o : Nat) : Int)))]) hx hb dX3_byLevel_109 hl (k := 3) rfl (kI_incN _ _) (by decide) rfl (fun ls hl => ?_)
                refine lv_goto (tgt := 4) hx hb dX3_byLevel_112 (by decide) ?_
                exact ih_4  (i + 1) f (by first | assumption | omega | (simp_all; done) | grind) (by rw [st_byLvTo, ← hf, show S.length = o by omega, ← hah]; first | (rw [if_pos (by omega)]) | (rw [if_neg (by omega)])) _ hS (by omega) ls (lv_sub hl [2, 3, 1, 0] rfl)
              · -- not taken at 100
                refine lv_iload_n hx hb dX3_byLevel_103 rfl (lv_at hl 3 rfl) ?_
                refine lv_goto (tgt := 108) hx hb dX3_byLevel_104 (by decide) ?_
                refine lv_istore_n (lv' := [(2, .int (kI ((i : Nat) : Int))), (0, .ref a), (1, .int (kI (pl))), (3, .int (kI ((i : Nat) : Int))), (4, .int (kI (ah))), (5, .int (kI ((o : Nat) : Int)))]) hx hb dX3_byLevel_108 rfl hl (by decide) rfl (fun ls hl => ?_)
                refine lv_iinc (v := kI (((i + 1 : Nat) : Int))) (lv' := [(3, .int (kI ((i + 1 : Nat) : Int))), (2, .int (kI ((i : Nat) : Int))), (0, .ref a), (1, .int (kI (pl))), (4, .int (kI (ah))), (5, .int (kI ((o : Nat) : Int)))]) hx hb dX3_byLevel_109 hl (k := 3) rfl (kI_incN _ _) (by decide) rfl (fun ls hl => ?_)
                refine lv_goto (tgt := 4) hx hb dX3_byLevel_112 (by decide) ?_
                exact ih_4  (i + 1) (((i : Nat) : Int)) (by first | assumption | omega | (simp_all; done) | grind) (by rw [st_byLvTo, ← hf, show S.length = o by omega, ← hah]; first | (rw [if_pos (by omega)]) | (rw [if_neg (by omega)])) _ hS (by omega) ls (lv_sub hl [2, 3, 1, 0] rfl)
            · -- not taken at 28
              have ho2 : o < S.length := by omega
              have hlv2 := (hok.ln ho2).lv
              refine lv_aload_n hx hb dX3_byLevel_31 rfl (lv_at hl 0 rfl) ?_
              refine lv_iload hx hb dX3_byLevel_32 (lv_at hl 5 rfl) ?_
              refine kx_iconst hx hb dX3_byLevel_34 ?_
              refine kx_ci0 (va_runV (As := [.int (kI ((o : Nat) : Int)), .int (kI (0))]) (rest := []) ⟨hx, hb, hml, hown, hts⟩ (of_lv l D s.heap a fs ra g S gap o hO_a hf_a_0 hA_ra (by first | assumption | omega) (by first | assumption | omega) (by first | assumption | omega)) (cwV 2 hts (lw_V q2304 q2306 qs40 q89 q2307) rfl rfl rfl (by decide +kernel) ⟨Nat.le_of_ble_eq_true rfl, Nat.le_of_ble_eq_true rfl⟩) (kx_pv hK hS hB (kx_rc hK hO_a (C := RX3) (T := TX3) (N := 13) rfl)) rfl rfl hl.1 rfl (lv_room (Nat.le_of_ble_eq_true rfl)) dX3_byLevel_35 ⟨by first | exact Nat.le_of_ble_eq_true rfl | omega | (show _ ≤ _; omega) | (dsimp only [headSpec]; omega), by first | exact Nat.le_of_ble_eq_true rfl | omega | (show _ ≤ _; omega) | (dsimp only [headSpec]; omega)⟩) hS (fun z_9 locs_6 hz_8 hS_7 => ?_)
              subst z_9
              refine lv_aload_n hx hb dX3_byLevel_38 rfl (lv_at hl 0 rfl) ?_
              refine lv_iload_n hx hb dX3_byLevel_39 rfl (lv_at hl 3 rfl) ?_
              refine kx_iconst hx hb dX3_byLevel_40 ?_
              refine kx_ci0 (va_runV (As := [.int (kI ((i : Nat) : Int)), .int (kI (0))]) (rest := [.int (kI (ln_lv (st_ln S o)))]) ⟨hx, hb, hml, hown, hts⟩ (of_lv l D s.heap a fs ra g S gap i hO_a hf_a_0 hA_ra (by first | assumption | omega) (by first | assumption | omega) (by first | assumption | omega)) (cwV 2 hts (lw_V q2304 q2306 qs40 q89 q2307) rfl rfl rfl (by decide +kernel) ⟨Nat.le_of_ble_eq_true rfl, Nat.le_of_ble_eq_true rfl⟩) (kx_pv hK hS_7 hB (kx_rc hK hO_a (C := RX3) (T := TX3) (N := 13) rfl)) rfl rfl hl.1 rfl (lv_room (Nat.le_of_ble_eq_true rfl)) dX3_byLevel_41 ⟨by first | exact Nat.le_of_ble_eq_true rfl | omega | (show _ ≤ _; omega) | (dsimp only [headSpec]; omega), by first | exact Nat.le_of_ble_eq_true rfl | omega | (show _ ≤ _; omega) | (dsimp only [headSpec]; omega)⟩) hS_7 (fun z_13 locs_10 hz_12 hS_11 => ?_)
              subst z_13
              refine kx_icmp_lt (x := ln_lv (st_ln S o)) (y := ln_lv (st_ln S i)) (tgt := 69) hx hb dX3_byLevel_44 (by decide) (by omega) (by omega) (by omega) (by omega) (fun c_44_14 => ?_) (fun c_44_14 => ?_)
              · -- taken at 44
                refine kx_iconst hx hb dX3_byLevel_69 ?_
                refine lv_goto (tgt := 74) hx hb dX3_byLevel_70 (by decide) ?_
                refine lv_istore (lv' := [(6, .int (kI (1))), (0, .ref a), (1, .int (kI (pl))), (2, .int (kI (f))), (3, .int (kI ((i : Nat) : Int))), (4, .int (kI (ah))), (5, .int (kI ((o : Nat) : Int)))]) hx hb dX3_byLevel_74 hl (by decide) rfl (fun ls hl => ?_)
                refine lv_iload hx hb dX3_byLevel_76 (lv_at hl 5 rfl) ?_
                refine lv_iload hx hb dX3_byLevel_78 (lv_at hl 0 rfl) ?_
                refine kx_if_eq (x := 1) (tgt := 87) hx hb dX3_byLevel_80 (by decide) (by omega) (by omega) (fun c_80_15 => ?_) (fun c_80_15 => ?_)
                · -- taken at 80
                  exfalso; omega
                · -- not taken at 80
                  refine kx_iconst hx hb dX3_byLevel_83 ?_
                  refine lv_goto (tgt := 88) hx hb dX3_byLevel_84 (by decide) ?_
                  refine kx_iadd hx hb dX3_byLevel_88 ?_
                  refine lv_istore (lv' := [(4, .int (kI ((ah + 1)))), (6, .int (kI (1))), (0, .ref a), (1, .int (kI (pl))), (2, .int (kI (f))), (3, .int (kI ((i : Nat) : Int))), (5, .int (kI ((o : Nat) : Int)))]) hx hb dX3_byLevel_89 hl (by decide) rfl (fun ls hl => ?_)
                  refine lv_iinc (v := kI (((o + 1 : Nat) : Int))) (lv' := [(5, .int (kI ((o + 1 : Nat) : Int))), (4, .int (kI ((ah + 1)))), (6, .int (kI (1))), (0, .ref a), (1, .int (kI (pl))), (2, .int (kI (f))), (3, .int (kI ((i : Nat) : Int)))]) hx hb dX3_byLevel_91 hl (k := 6) rfl (kI_incN _ _) (by decide) rfl (fun ls hl => ?_)
                  refine lv_goto (tgt := 20) hx hb dX3_byLevel_94 (by decide) ?_
                  exact ih_20  (o + 1) ((ah + 1)) (by first | assumption | omega | (simp_all; done) | grind) (by rw [st_aheadTo, ← hah]; grind [st_ahead]) (by first | assumption | omega | (simp_all; done) | grind) _ hS_11 (by omega) ls (lv_sub hl [3, 4, 5, 6, 1, 0] rfl)
              · -- not taken at 44
                refine lv_aload_n hx hb dX3_byLevel_47 rfl (lv_at hl 0 rfl) ?_
                refine lv_iload hx hb dX3_byLevel_48 (lv_at hl 5 rfl) ?_
                refine kx_iconst hx hb dX3_byLevel_50 ?_
                refine kx_ci0 (va_runV (As := [.int (kI ((o : Nat) : Int)), .int (kI (0))]) (rest := []) ⟨hx, hb, hml, hown, hts⟩ (of_lv l D s.heap a fs ra g S gap o hO_a hf_a_0 hA_ra (by first | assumption | omega) (by first | assumption | omega) (by first | assumption | omega)) (cwV 2 hts (lw_V q2304 q2306 qs40 q89 q2307) rfl rfl rfl (by decide +kernel) ⟨Nat.le_of_ble_eq_true rfl, Nat.le_of_ble_eq_true rfl⟩) (kx_pv hK hS_11 hB (kx_rc hK hO_a (C := RX3) (T := TX3) (N := 13) rfl)) rfl rfl hl.1 rfl (lv_room (Nat.le_of_ble_eq_true rfl)) dX3_byLevel_51 ⟨by first | exact Nat.le_of_ble_eq_true rfl | omega | (show _ ≤ _; omega) | (dsimp only [headSpec]; omega), by first | exact Nat.le_of_ble_eq_true rfl | omega | (show _ ≤ _; omega) | (dsimp only [headSpec]; omega)⟩) hS_11 (fun z_19 locs_16 hz_18 hS_17 => ?_)
                subst z_19
                refine lv_aload_n hx hb dX3_byLevel_54 rfl (lv_at hl 0 rfl) ?_
                refine lv_iload_n hx hb dX3_byLevel_55 rfl (lv_at hl 3 rfl) ?_
                refine kx_iconst hx hb dX3_byLevel_56 ?_
                refine kx_ci0 (va_runV (As := [.int (kI ((i : Nat) : Int)), .int (kI (0))]) (rest := [.int (kI (ln_lv (st_ln S o)))]) ⟨hx, hb, hml, hown, hts⟩ (of_lv l D s.heap a fs ra g S gap i hO_a hf_a_0 hA_ra (by first | assumption | omega) (by first | assumption | omega) (by first | assumption | omega)) (cwV 2 hts (lw_V q2304 q2306 qs40 q89 q2307) rfl rfl rfl (by decide +kernel) ⟨Nat.le_of_ble_eq_true rfl, Nat.le_of_ble_eq_true rfl⟩) (kx_pv hK hS_17 hB (kx_rc hK hO_a (C := RX3) (T := TX3) (N := 13) rfl)) rfl rfl hl.1 rfl (lv_room (Nat.le_of_ble_eq_true rfl)) dX3_byLevel_57 ⟨by first | exact Nat.le_of_ble_eq_true rfl | omega | (show _ ≤ _; omega) | (dsimp only [headSpec]; omega), by first | exact Nat.le_of_ble_eq_true rfl | omega | (show _ ≤ _; omega) | (dsimp only [headSpec]; omega)⟩) hS_17 (fun z_23 locs_20 hz_22 hS_21 => ?_)
                subst z_23
                refine kx_icmp_ne (x := ln_lv (st_ln S o)) (y := ln_lv (st_ln S i)) (tgt := 73) hx hb dX3_byLevel_60 (by decide) (by omega) (by omega) (by omega) (by omega) (fun c_60_24 => ?_) (fun c_60_24 => ?_)
                · -- taken at 60
                  refine kx_iconst hx hb dX3_byLevel_73 ?_
                  refine lv_istore (lv' := [(6, .int (kI (0))), (0, .ref a), (1, .int (kI (pl))), (2, .int (kI (f))), (3, .int (kI ((i : Nat) : Int))), (4, .int (kI (ah))), (5, .int (kI ((o : Nat) : Int)))]) hx hb dX3_byLevel_74 hl (by decide) rfl (fun ls hl => ?_)
                  refine lv_iload hx hb dX3_byLevel_76 (lv_at hl 5 rfl) ?_
                  refine lv_iload hx hb dX3_byLevel_78 (lv_at hl 0 rfl) ?_
                  refine kx_if_eq (x := 0) (tgt := 87) hx hb dX3_byLevel_80 (by decide) (by omega) (by omega) (fun c_80_25 => ?_) (fun c_80_25 => ?_)
                  · -- taken at 80
                    refine kx_iconst hx hb dX3_byLevel_87 ?_
                    refine kx_iadd hx hb dX3_byLevel_88 ?_
                    refine lv_istore (lv' := [(4, .int (kI ((ah + 0)))), (6, .int (kI (0))), (0, .ref a), (1, .int (kI (pl))), (2, .int (kI (f))), (3, .int (kI ((i : Nat) : Int))), (5, .int (kI ((o : Nat) : Int)))]) hx hb dX3_byLevel_89 hl (by decide) rfl (fun ls hl => ?_)
                    refine lv_iinc (v := kI (((o + 1 : Nat) : Int))) (lv' := [(5, .int (kI ((o + 1 : Nat) : Int))), (4, .int (kI ((ah + 0)))), (6, .int (kI (0))), (0, .ref a), (1, .int (kI (pl))), (2, .int (kI (f))), (3, .int (kI ((i : Nat) : Int)))]) hx hb dX3_byLevel_91 hl (k := 6) rfl (kI_incN _ _) (by decide) rfl (fun ls hl => ?_)
                    refine lv_goto (tgt := 20) hx hb dX3_byLevel_94 (by decide) ?_
                    exact ih_20  (o + 1) ((ah + 0)) (by first | assumption | omega | (simp_all; done) | grind) (by rw [st_aheadTo, ← hah]; grind [st_ahead]) (by first | assumption | omega | (simp_all; done) | grind) _ hS_21 (by omega) ls (lv_sub hl [3, 4, 5, 6, 1, 0] rfl)
                  · -- not taken at 80
                    exfalso; omega
                · -- not taken at 60
                  refine lv_iload hx hb dX3_byLevel_63 (lv_at hl 5 rfl) ?_
                  refine lv_iload_n hx hb dX3_byLevel_65 rfl (lv_at hl 3 rfl) ?_
                  refine kx_icmp_ge (x := ((o : Nat) : Int)) (y := ((i : Nat) : Int)) (tgt := 73) hx hb dX3_byLevel_66 (by decide) (by omega) (by omega) (by omega) (by omega) (fun c_66_26 => ?_) (fun c_66_26 => ?_)
                  · -- taken at 66
                    refine kx_iconst hx hb dX3_byLevel_73 ?_
                    refine lv_istore (lv' := [(6, .int (kI (0))), (0, .ref a), (1, .int (kI (pl))), (2, .int (kI (f))), (3, .int (kI ((i : Nat) : Int))), (4, .int (kI (ah))), (5, .int (kI ((o : Nat) : Int)))]) hx hb dX3_byLevel_74 hl (by decide) rfl (fun ls hl => ?_)
                    refine lv_iload hx hb dX3_byLevel_76 (lv_at hl 5 rfl) ?_
                    refine lv_iload hx hb dX3_byLevel_78 (lv_at hl 0 rfl) ?_
                    refine kx_if_eq (x := 0) (tgt := 87) hx hb dX3_byLevel_80 (by decide) (by omega) (by omega) (fun c_80_27 => ?_) (fun c_80_27 => ?_)
                    · -- taken at 80
                      refine kx_iconst hx hb dX3_byLevel_87 ?_
                      refine kx_iadd hx hb dX3_byLevel_88 ?_
                      refine lv_istore (lv' := [(4, .int (kI ((ah + 0)))), (6, .int (kI (0))), (0, .ref a), (1, .int (kI (pl))), (2, .int (kI (f))), (3, .int (kI ((i : Nat) : Int))), (5, .int (kI ((o : Nat) : Int)))]) hx hb dX3_byLevel_89 hl (by decide) rfl (fun ls hl => ?_)
                      refine lv_iinc (v := kI (((o + 1 : Nat) : Int))) (lv' := [(5, .int (kI ((o + 1 : Nat) : Int))), (4, .int (kI ((ah + 0)))), (6, .int (kI (0))), (0, .ref a), (1, .int (kI (pl))), (2, .int (kI (f))), (3, .int (kI ((i : Nat) : Int)))]) hx hb dX3_byLevel_91 hl (k := 6) rfl (kI_incN _ _) (by decide) rfl (fun ls hl => ?_)
                      refine lv_goto (tgt := 20) hx hb dX3_byLevel_94 (by decide) ?_
                      exact ih_20  (o + 1) ((ah + 0)) (by first | assumption | omega | (simp_all; done) | grind) (by rw [st_aheadTo, ← hah]; grind [st_ahead]) (by first | assumption | omega | (simp_all; done) | grind) _ hS_21 (by omega) ls (lv_sub hl [3, 4, 5, 6, 1, 0] rfl)
                    · -- not taken at 80
                      exfalso; omega
                  · -- not taken at 66
                    refine kx_iconst hx hb dX3_byLevel_69 ?_
                    refine lv_goto (tgt := 74) hx hb dX3_byLevel_70 (by decide) ?_
                    refine lv_istore (lv' := [(6, .int (kI (1))), (0, .ref a), (1, .int (kI (pl))), (2, .int (kI (f))), (3, .int (kI ((i : Nat) : Int))), (4, .int (kI (ah))), (5, .int (kI ((o : Nat) : Int)))]) hx hb dX3_byLevel_74 hl (by decide) rfl (fun ls hl => ?_)
                    refine lv_iload hx hb dX3_byLevel_76 (lv_at hl 5 rfl) ?_
                    refine lv_iload hx hb dX3_byLevel_78 (lv_at hl 0 rfl) ?_
                    refine kx_if_eq (x := 1) (tgt := 87) hx hb dX3_byLevel_80 (by decide) (by omega) (by omega) (fun c_80_28 => ?_) (fun c_80_28 => ?_)
                    · -- taken at 80
                      exfalso; omega
                    · -- not taken at 80
                      refine kx_iconst hx hb dX3_byLevel_83 ?_
                      refine lv_goto (tgt := 88) hx hb dX3_byLevel_84 (by decide) ?_
                      refine kx_iadd hx hb dX3_byLevel_88 ?_
                      refine lv_istore (lv' := [(4, .int (kI ((ah + 1)))), (6, .int (kI (1))), (0, .ref a), (1, .int (kI (pl))), (2, .int (kI (f))), (3, .int (kI ((i : Nat) : Int))), (5, .int (kI ((o : Nat) : Int)))]) hx hb dX3_byLevel_89 hl (by decide) rfl (fun ls hl => ?_)
                      refine lv_iinc (v := kI (((o + 1 : Nat) : Int))) (lv' := [(5, .int (kI ((o + 1 : Nat) : Int))), (4, .int (kI ((ah + 1)))), (6, .int (kI (1))), (0, .ref a), (1, .int (kI (pl))), (2, .int (kI (f))), (3, .int (kI ((i : Nat) : Int)))]) hx hb dX3_byLevel_91 hl (k := 6) rfl (kI_incN _ _) (by decide) rfl (fun ls hl => ?_)
                      refine lv_goto (tgt := 20) hx hb dX3_byLevel_94 (by decide) ?_
                      exact ih_20  (o + 1) ((ah + 1)) (by first | assumption | omega | (simp_all; done) | grind) (by rw [st_aheadTo, ← hah]; grind [st_ahead]) (by first | assumption | omega | (simp_all; done) | grind) _ hS_21 (by omega) ls (lv_sub hl [3, 4, 5, 6, 1, 0] rfl)
        exact lp_20_x_3 (S.length - 0 + 1) 0 0 (by first | assumption | omega | (simp_all; done) | grind) (rfl) (by first | assumption | omega | (simp_all; done) | grind) _ hS (Nat.lt_succ_self _) ls (lv_sub hl [2, 3, 4, 5, 1, 0] rfl)
  exact lp_4_x_1 (S.length - 0 + 1) 0 ((-1)) (by first | assumption | omega | (simp_all; done) | grind) (rfl) _ hS (Nat.lt_succ_self _) ls (lv_sub hl [2, 3, 1, 0] rfl)

set_option maxHeartbeats 4000000 in
set_option maxRecDepth 100000 in
theorem m_X3_contains (l : Launch) (D : kG) (H : Heap) (a : Nat) (fs : List Value) (ra : Nat) (g : Nat → Int) (S : Ls) (gap : Int) (ln : Nat) (q : Int) (hO_a : kO D H a 2 fs) (hf_a_0 : fs[0]? = some (.ref ra)) (hA_ra : kAi D H ra 514 g) (hM : MRow g S gap) (hok : LsOK S gap) (hln : ln < S.length) (hq : 0 ≤ q ∧ q ≤ 383) : Met l yX3_contains (ws_ yX3_contains cX3_contains 9 (some .boolean)) ({ frames := 5, cells := 0, slots := 0, locals := 108 } : Room) (kPre D H [.ref a, .int (kI ((ln : Nat) : Int)), .int (kI (q))]) (kQb (fun (r : Bool) H' => H' = H ∧ r = st_cont S ln q) kNO) (0) (0) (kNO) := by
  refine Met.ofW (cc := cX3_contains) (maxL := 9) (ret := (some .boolean)) (by decide) rfl ?_
  intro p e s m args below meth c s₁ B hml hv
  obtain ⟨rfl, hH, hK⟩ := hv
  subst hH
  have hx := B.exec
  have hb := B.bytes
  have hr := B.returns
  have hts := atoms_spec (ws := ws_ yX3_contains cX3_contains 9 (some .boolean)) B.pre
  have hts : ∀ w ∈ lw_all, w.before _ s = true := fun w h => hts w (List.mem_cons_of_mem _ h)
  have hown : s.vm.findClass RX3 = some m.cls := findClass_of_methodNamed B.named
  have hlk := B.notSynchronized
  have hS : va_S kNO s.heap s.heap [] := va_S.rf
  have hB : ∀ q, kNO q → kBase D ≤ q := fun _ h => h.elim
  have hl := lv_entry ([.ref a, .int (kI ((ln : Nat) : Int)), .int (kI (q))]) (n := 9) (Nat.le_of_ble_eq_true rfl)
  rw [lg_entry_eq]
  generalize (lg_sl ([.ref a, .int (kI ((ln : Nat) : Int)), .int (kI (q))]) ++ List.replicate (9 - (lg_sl ([.ref a, .int (kI ((ln : Nat) : Int)), .int (kI (q))])).length) Slot.unset).toArray = ls at hl ⊢
  have hl : lv_has ls 9 [(0, .ref a), (1, .int (kI ((ln : Nat) : Int))), (2, .int (kI (q)))] := hl
  have hL := hok.ln hln
  have hL60 := hL.n
  have hL8 := hok.1
  have how := st_owner_rng S q
  refine lv_aload_n hx hb dX3_contains_0 rfl (lv_at hl 0 rfl) ?_
  refine lv_iload_n hx hb dX3_contains_1 rfl (lv_at hl 1 rfl) ?_
  refine kx_cb0 (va_runV (As := [.int (kI ((ln : Nat) : Int))]) (rest := []) ⟨hx, hb, hml, hown, hts⟩ (m_X3_closes l D s.heap a fs ra g S gap ln hO_a hf_a_0 hA_ra (by first | assumption | omega) (by first | assumption | omega) (by first | assumption | omega)) (cwV 1 hts (lw_V q2322 q2324 qs43 q89 q2325) rfl rfl rfl (by decide +kernel) ⟨Nat.le_of_ble_eq_true rfl, Nat.le_of_ble_eq_true rfl⟩) (kx_pv hK hS hB (kx_rc hK hO_a (C := RX3) (T := TX3) (N := 13) rfl)) rfl rfl hl.1 rfl (lv_room (Nat.le_of_ble_eq_true rfl)) dX3_contains_2 ⟨by first | exact Nat.le_of_ble_eq_true rfl | omega | (show _ ≤ _; omega) | (dsimp only [headSpec]; omega), by first | exact Nat.le_of_ble_eq_true rfl | omega | (show _ ≤ _; omega) | (dsimp only [headSpec]; omega)⟩) hS (fun z_4 locs_1 hz_3 hS_2 => ?_)
  subst z_4
  refine kx_ifz (tgt := 17) hx hb dX3_contains_5 (by decide) (fun c_5_5 => ?_) (fun c_5_5 => ?_)
  · -- taken at 5
    refine kx_iconst hx hb dX3_contains_17 ?_
    exact kx_zret (z := false) hx hb hr hlk (⟨rfl, by unfold st_cont; grind⟩) hS_2 dX3_contains_18
  · -- not taken at 5
    refine lv_aload_n hx hb dX3_contains_8 rfl (lv_at hl 0 rfl) ?_
    refine lv_iload_n hx hb dX3_contains_9 rfl (lv_at hl 2 rfl) ?_
    refine kx_ci0 (va_runV (As := [.int (kI (q))]) (rest := []) ⟨hx, hb, hml, hown, hts⟩ (m_X3_owner l D s.heap a fs ra g S gap q hO_a hf_a_0 hA_ra (by first | assumption | omega) (by first | assumption | omega) (by first | assumption | omega)) (cwV 1 hts (lw_V q2300 q2302 qs39 q89 q2303) rfl rfl rfl (by decide +kernel) ⟨Nat.le_of_ble_eq_true rfl, Nat.le_of_ble_eq_true rfl⟩) (kx_pv hK hS_2 hB (kx_rc hK hO_a (C := RX3) (T := TX3) (N := 13) rfl)) rfl rfl hl.1 rfl (lv_room (Nat.le_of_ble_eq_true rfl)) dX3_contains_10 ⟨by first | exact Nat.le_of_ble_eq_true rfl | omega | (show _ ≤ _; omega) | (dsimp only [headSpec]; omega), by first | exact Nat.le_of_ble_eq_true rfl | omega | (show _ ≤ _; omega) | (dsimp only [headSpec]; omega)⟩) hS_2 (fun z_9 locs_6 hz_8 hS_7 => ?_)
    subst z_9
    refine lv_iload_n hx hb dX3_contains_13 rfl (lv_at hl 1 rfl) ?_
    refine kx_icmp_ne (x := st_owner S q) (y := ((ln : Nat) : Int)) (tgt := 19) hx hb dX3_contains_14 (by decide) (by omega) (by omega) (by omega) (by omega) (fun c_14_10 => ?_) (fun c_14_10 => ?_)
    · -- taken at 14
      refine kx_iconst hx hb dX3_contains_19 ?_
      refine lv_istore_n (lv' := [(3, .int (kI (0))), (0, .ref a), (1, .int (kI ((ln : Nat) : Int))), (2, .int (kI (q)))]) hx hb dX3_contains_20 rfl hl (by decide) rfl (fun ls hl => ?_)
      refine lv_aload_n hx hb dX3_contains_21 rfl (lv_at hl 1 rfl) ?_
      refine lv_iload_n hx hb dX3_contains_22 rfl (lv_at hl 2 rfl) ?_
      refine kx_iconst hx hb dX3_contains_23 ?_
      refine kx_ci0 (va_runV (As := [.int (kI ((ln : Nat) : Int)), .int (kI (1))]) (rest := []) ⟨hx, hb, hml, hown, hts⟩ (of_bg l D s.heap a fs ra g S gap ln hO_a hf_a_0 hA_ra (by first | assumption | omega) (by first | assumption | omega) (by first | assumption | omega)) (cwV 2 hts (lw_V q2304 q2306 qs40 q89 q2307) rfl rfl rfl (by decide +kernel) ⟨Nat.le_of_ble_eq_true rfl, Nat.le_of_ble_eq_true rfl⟩) (kx_pv hK hS_7 hB (kx_rc hK hO_a (C := RX3) (T := TX3) (N := 13) rfl)) rfl rfl hl.1 rfl (lv_room (Nat.le_of_ble_eq_true rfl)) dX3_contains_24 ⟨by first | exact Nat.le_of_ble_eq_true rfl | omega | (show _ ≤ _; omega) | (dsimp only [headSpec]; omega), by first | exact Nat.le_of_ble_eq_true rfl | omega | (show _ ≤ _; omega) | (dsimp only [headSpec]; omega)⟩) hS_7 (fun z_14 locs_11 hz_13 hS_12 => ?_)
      subst z_14
      refine kx_eqi (ln_pos (st_ln S ln) 0) (rfl) ?_
      refine lv_istore (lv' := [(4, .int (kI (ln_pos (st_ln S ln) 0))), (3, .int (kI (0))), (0, .ref a), (1, .int (kI ((ln : Nat) : Int))), (2, .int (kI (q)))]) hx hb dX3_contains_27 hl (by decide) rfl (fun ls hl => ?_)
      refine kx_iconst hx hb dX3_contains_29 ?_
      refine lv_istore (lv' := [(5, .int (kI (0))), (4, .int (kI (ln_pos (st_ln S ln) 0))), (3, .int (kI (0))), (0, .ref a), (1, .int (kI ((ln : Nat) : Int))), (2, .int (kI (q)))]) hx hb dX3_contains_30 hl (by decide) rfl (fun ls hl => ?_)
      have lp_32_x_15 : ∀ (n_32 : Nat) (k : Nat) (bb : Bool) (hk : k ≤ ln_n (st_ln S ln)) (hbb : bb = ln_rayTo (st_ln S ln) q k) (locs : List Loc) (hS : va_S kNO s.heap s.heap locs) (hm_32 : ln_n (st_ln S ln) - k < n_32) (ls : Array Slot), lv_has ls 9 [(0, .ref a), (1, .int (kI ((ln : Nat) : Int))), (2, .int (kI (q))), (3, .int (kI (kb (bb)))), (4, .int (kI (ln_pos (st_ln S ln) k))), (5, .int (kI ((k : Nat) : Int)))] → W p l e (headSpec (ws_ yX3_contains cX3_contains 9 (some .boolean)) ({ frames := 5, cells := 0, slots := 0, locals := 108 } : Room)).room s m ([.ref a, .int (kI ((ln : Nat) : Int)), .int (kI (q))] : List Value).toArray below meth c s.heap locs (0) (0) (MQ below (kQb (fun (r : Bool) H' => H' = s.heap ∧ r = st_cont S ln q) kNO) ([.ref a, .int (kI ((ln : Nat) : Int)), .int (kI (q))] : List Value).toArray s (0) (0) (kNO)) (F0 m 32 ls []) := by
        intro n_32
        induction n_32 with
        | zero => intro k bb hk hbb locs hS hm_32; exact absurd hm_32 (Nat.not_lt_zero _)
        | succ n_32 ih_32 =>
          intro k bb hk hbb locs hS hm_32 ls hl
          refine lv_iload hx hb dX3_contains_32 (lv_at hl 5 rfl) ?_
          refine lv_aload_n hx hb dX3_contains_34 rfl (lv_at hl 0 rfl) ?_
          refine lv_iload_n hx hb dX3_contains_35 rfl (lv_at hl 1 rfl) ?_
          refine kx_iconst hx hb dX3_contains_36 ?_
          refine kx_ci0 (va_runV (As := [.int (kI ((ln : Nat) : Int)), .int (kI (2))]) (rest := [.int (kI ((k : Nat) : Int))]) ⟨hx, hb, hml, hown, hts⟩ (of_n l D s.heap a fs ra g S gap ln hO_a hf_a_0 hA_ra (by first | assumption | omega) (by first | assumption | omega) (by first | assumption | omega)) (cwV 2 hts (lw_V q2304 q2306 qs40 q89 q2307) rfl rfl rfl (by decide +kernel) ⟨Nat.le_of_ble_eq_true rfl, Nat.le_of_ble_eq_true rfl⟩) (kx_pv hK hS hB (kx_rc hK hO_a (C := RX3) (T := TX3) (N := 13) rfl)) rfl rfl hl.1 rfl (lv_room (Nat.le_of_ble_eq_true rfl)) dX3_contains_37 ⟨by first | exact Nat.le_of_ble_eq_true rfl | omega | (show _ ≤ _; omega) | (dsimp only [headSpec]; omega), by first | exact Nat.le_of_ble_eq_true rfl | omega | (show _ ≤ _; omega) | (dsimp only [headSpec]; omega)⟩) hS (fun z_19 locs_16 hz_18 hS_17 => ?_)
          subst z_19
          refine kx_icmp_ge (x := ((k : Nat) : Int)) (y := ((ln_n (st_ln S ln) : Nat) : Int)) (tgt := 166) hx hb dX3_contains_40 (by decide) (by omega) (by omega) (by omega) (by omega) (fun c_40_20 => ?_) (fun c_40_20 => ?_)
          · -- taken at 40
            refine lv_iload_n hx hb dX3_contains_166 rfl (lv_at hl 3 rfl) ?_
            exact kx_zret (z := bb) hx hb hr hlk (⟨rfl, by unfold st_cont; grind⟩) hS_17 dX3_contains_167
          · -- not taken at 40
            have hd := hL.d (k := k) (by omega)
            have hpp := hL.pos (k := k) (by omega)
            have hpp2 := hL.pos (k := k + 1) (by omega)
            have hlo : 0 ≤ ln_lo (st_ln S ln) k ∧ ln_lo (st_ln S ln) k ≤ 383 := by unfold ln_lo; split <;> omega
            refine lv_iload hx hb dX3_contains_43 (lv_at hl 4 rfl) ?_
            refine kx_bipush hx hb (by decide) dX3_contains_45 ?_
            refine lv_aload_n hx hb dX3_contains_47 rfl (lv_at hl 0 rfl) ?_
            refine lv_iload_n hx hb dX3_contains_48 rfl (lv_at hl 1 rfl) ?_
            refine kx_iconst hx hb dX3_contains_49 ?_
            refine lv_iload hx hb dX3_contains_50 (lv_at hl 5 rfl) ?_
            refine kx_iadd hx hb dX3_contains_52 ?_
            refine kx_ci0 (va_runV (As := [.int (kI ((ln : Nat) : Int)), .int (kI ((4 + ((k : Nat) : Int))))]) (rest := [.int (kI (24)), .int (kI (ln_pos (st_ln S ln) k))]) ⟨hx, hb, hml, hown, hts⟩ (of_d l D s.heap a fs ra g S gap ln ((4 + ((k : Nat) : Int))) k hO_a hf_a_0 hA_ra (by first | assumption | omega) (by first | assumption | omega) (by first | assumption | omega) (by first | assumption | omega) (by first | assumption | omega)) (cwV 2 hts (lw_V q2304 q2306 qs40 q89 q2307) rfl rfl rfl (by decide +kernel) ⟨Nat.le_of_ble_eq_true rfl, Nat.le_of_ble_eq_true rfl⟩) (kx_pv hK hS_17 hB (kx_rc hK hO_a (C := RX3) (T := TX3) (N := 13) rfl)) rfl rfl hl.1 rfl (lv_room (Nat.le_of_ble_eq_true rfl)) dX3_contains_53 ⟨by first | exact Nat.le_of_ble_eq_true rfl | omega | (show _ ≤ _; omega) | (dsimp only [headSpec]; omega), by first | exact Nat.le_of_ble_eq_true rfl | omega | (show _ ≤ _; omega) | (dsimp only [headSpec]; omega)⟩) hS_17 (fun z_24 locs_21 hz_23 hS_22 => ?_)
            subst z_24
            refine kx_ci0 (va_runS (As := [.int (kI (ln_d (st_ln S ln) k))]) (rest := [.int (kI (24)), .int (kI (ln_pos (st_ln S ln) k))]) ⟨hx, hb, hml, hown, hts⟩ (m_X3_down l D s.heap (ln_d (st_ln S ln) k)  (by first | assumption | omega)) (va_cwS 1 hts (lw_S q2308 q2309 q89 q2310) rfl rfl rfl (by decide +kernel) ⟨Nat.le_of_ble_eq_true rfl, Nat.le_of_ble_eq_true rfl⟩) (kx_ps hK hS_22 hB) rfl rfl hl.1 rfl (lv_room (Nat.le_of_ble_eq_true rfl)) dX3_contains_56 ⟨by first | exact Nat.le_of_ble_eq_true rfl | omega | (show _ ≤ _; omega) | (dsimp only [headSpec]; omega), by first | exact Nat.le_of_ble_eq_true rfl | omega | (show _ ≤ _; omega) | (dsimp only [headSpec]; omega)⟩) hS_22 (fun z_28 locs_25 hz_27 hS_26 => ?_)
            subst z_28
            refine kx_imul hx hb dX3_contains_59 ?_
            refine kx_iadd hx hb dX3_contains_60 ?_
            refine lv_aload_n hx hb dX3_contains_61 rfl (lv_at hl 0 rfl) ?_
            refine lv_iload_n hx hb dX3_contains_62 rfl (lv_at hl 1 rfl) ?_
            refine kx_iconst hx hb dX3_contains_63 ?_
            refine lv_iload hx hb dX3_contains_64 (lv_at hl 5 rfl) ?_
            refine kx_iadd hx hb dX3_contains_66 ?_
            refine kx_ci0 (va_runV (As := [.int (kI ((ln : Nat) : Int)), .int (kI ((4 + ((k : Nat) : Int))))]) (rest := [.int (kI ((ln_pos (st_ln S ln) k + (24 * dn (ln_d (st_ln S ln) k)))))]) ⟨hx, hb, hml, hown, hts⟩ (of_d l D s.heap a fs ra g S gap ln ((4 + ((k : Nat) : Int))) k hO_a hf_a_0 hA_ra (by first | assumption | omega) (by first | assumption | omega) (by first | assumption | omega) (by first | assumption | omega) (by first | assumption | omega)) (cwV 2 hts (lw_V q2304 q2306 qs40 q89 q2307) rfl rfl rfl (by decide +kernel) ⟨Nat.le_of_ble_eq_true rfl, Nat.le_of_ble_eq_true rfl⟩) (kx_pv hK hS_26 hB (kx_rc hK hO_a (C := RX3) (T := TX3) (N := 13) rfl)) rfl rfl hl.1 rfl (lv_room (Nat.le_of_ble_eq_true rfl)) dX3_contains_67 ⟨by first | exact Nat.le_of_ble_eq_true rfl | omega | (show _ ≤ _; omega) | (dsimp only [headSpec]; omega), by first | exact Nat.le_of_ble_eq_true rfl | omega | (show _ ≤ _; omega) | (dsimp only [headSpec]; omega)⟩) hS_26 (fun z_32 locs_29 hz_31 hS_30 => ?_)
            subst z_32
            refine kx_ci0 (va_runS (As := [.int (kI (ln_d (st_ln S ln) k))]) (rest := [.int (kI ((ln_pos (st_ln S ln) k + (24 * dn (ln_d (st_ln S ln) k)))))]) ⟨hx, hb, hml, hown, hts⟩ (m_X3_across l D s.heap (ln_d (st_ln S ln) k)  (by first | assumption | omega)) (va_cwS 1 hts (lw_S q2311 q2312 q89 q2313) rfl rfl rfl (by decide +kernel) ⟨Nat.le_of_ble_eq_true rfl, Nat.le_of_ble_eq_true rfl⟩) (kx_ps hK hS_30 hB) rfl rfl hl.1 rfl (lv_room (Nat.le_of_ble_eq_true rfl)) dX3_contains_70 ⟨by first | exact Nat.le_of_ble_eq_true rfl | omega | (show _ ≤ _; omega) | (dsimp only [headSpec]; omega), by first | exact Nat.le_of_ble_eq_true rfl | omega | (show _ ≤ _; omega) | (dsimp only [headSpec]; omega)⟩) hS_30 (fun z_36 locs_33 hz_35 hS_34 => ?_)
            subst z_36
            refine kx_iadd hx hb dX3_contains_73 ?_
            refine kx_eqi (ln_pos (st_ln S ln) (k + 1)) (by rw [ln_pos]; omega) ?_
            refine lv_istore (lv' := [(6, .int (kI (ln_pos (st_ln S ln) (k + 1)))), (0, .ref a), (1, .int (kI ((ln : Nat) : Int))), (2, .int (kI (q))), (3, .int (kI (kb (bb)))), (4, .int (kI (ln_pos (st_ln S ln) k))), (5, .int (kI ((k : Nat) : Int)))]) hx hb dX3_contains_74 hl (by decide) rfl (fun ls hl => ?_)
            refine lv_iload hx hb dX3_contains_76 (lv_at hl 5 rfl) ?_
            refine lv_iload hx hb dX3_contains_78 (lv_at hl 0 rfl) ?_
            refine kx_icmp_ge (x := ln_pos (st_ln S ln) k) (y := ln_pos (st_ln S ln) (k + 1)) (tgt := 88) hx hb dX3_contains_80 (by decide) (by omega) (by omega) (by omega) (by omega) (fun c_80_37 => ?_) (fun c_80_37 => ?_)
            · -- taken at 80
              refine lv_iload hx hb dX3_contains_88 (lv_at hl 0 rfl) ?_
              refine kx_eqi (ln_lo (st_ln S ln) k) (by unfold ln_lo; first | rw [if_pos (by omega)] | rw [if_neg (by omega)]) ?_
              refine lv_istore (lv' := [(7, .int (kI (ln_lo (st_ln S ln) k))), (6, .int (kI (ln_pos (st_ln S ln) (k + 1)))), (0, .ref a), (1, .int (kI ((ln : Nat) : Int))), (2, .int (kI (q))), (3, .int (kI (kb (bb)))), (4, .int (kI (ln_pos (st_ln S ln) k))), (5, .int (kI ((k : Nat) : Int)))]) hx hb dX3_contains_90 hl (by decide) rfl (fun ls hl => ?_)
              refine lv_iload hx hb dX3_contains_92 (lv_at hl 6 rfl) ?_
              refine kx_bipush hx hb (by decide) dX3_contains_94 ?_
              refine kx_idiv (x := ln_pos (st_ln S ln) k) (y := 24) hx hb (by omega) (by omega) (by omega) (by omega) dX3_contains_96 ?_
              refine lv_iload hx hb dX3_contains_97 (lv_at hl 1 rfl) ?_
              refine kx_bipush hx hb (by decide) dX3_contains_99 ?_
              refine kx_idiv (x := ln_pos (st_ln S ln) (k + 1)) (y := 24) hx hb (by omega) (by omega) (by omega) (by omega) dX3_contains_101 ?_
              refine kx_icmp_eq (x := (ln_pos (st_ln S ln) k / 24)) (y := (ln_pos (st_ln S ln) (k + 1) / 24)) (tgt := 121) hx hb dX3_contains_102 (by decide) (by omega) (by omega) (by omega) (by omega) (fun c_102_38 => ?_) (fun c_102_38 => ?_)
              · -- taken at 102
                refine kx_iconst hx hb dX3_contains_121 ?_
                refine lv_istore (lv' := [(8, .int (kI (0))), (7, .int (kI (ln_lo (st_ln S ln) k))), (6, .int (kI (ln_pos (st_ln S ln) (k + 1)))), (0, .ref a), (1, .int (kI ((ln : Nat) : Int))), (2, .int (kI (q))), (3, .int (kI (kb (bb)))), (4, .int (kI (ln_pos (st_ln S ln) k))), (5, .int (kI ((k : Nat) : Int)))]) hx hb dX3_contains_122 hl (by decide) rfl (fun ls hl => ?_)
                refine lv_iload_n hx hb dX3_contains_124 rfl (lv_at hl 6 rfl) ?_
                refine lv_iload hx hb dX3_contains_125 (lv_at hl 0 rfl) ?_
                refine kx_if_eq (x := 0) (tgt := 146) hx hb dX3_contains_127 (by decide) (by omega) (by omega) (fun c_127_39 => ?_) (fun c_127_39 => ?_)
                · -- taken at 127
                  refine kx_iconst hx hb dX3_contains_146 ?_
                  refine kx_bcmp_eq (x := bb) (y := false) (tgt := 154) hx hb dX3_contains_147 (by decide) (fun c_147_40 => ?_) (fun c_147_40 => ?_)
                  · -- taken at 147
                    refine kx_iconst hx hb dX3_contains_154 ?_
                    refine lv_istore_n (lv' := [(3, .int (kI (0))), (8, .int (kI (0))), (7, .int (kI (ln_lo (st_ln S ln) k))), (6, .int (kI (ln_pos (st_ln S ln) (k + 1)))), (0, .ref a), (1, .int (kI ((ln : Nat) : Int))), (2, .int (kI (q))), (4, .int (kI (ln_pos (st_ln S ln) k))), (5, .int (kI ((k : Nat) : Int)))]) hx hb dX3_contains_155 rfl hl (by decide) rfl (fun ls hl => ?_)
                    refine lv_iload hx hb dX3_contains_156 (lv_at hl 3 rfl) ?_
                    refine lv_istore (lv' := [(4, .int (kI (ln_pos (st_ln S ln) (k + 1)))), (3, .int (kI (0))), (8, .int (kI (0))), (7, .int (kI (ln_lo (st_ln S ln) k))), (6, .int (kI (ln_pos (st_ln S ln) (k + 1)))), (0, .ref a), (1, .int (kI ((ln : Nat) : Int))), (2, .int (kI (q))), (5, .int (kI ((k : Nat) : Int)))]) hx hb dX3_contains_158 hl (by decide) rfl (fun ls hl => ?_)
                    refine lv_iinc (v := kI (((k + 1 : Nat) : Int))) (lv' := [(5, .int (kI ((k + 1 : Nat) : Int))), (4, .int (kI (ln_pos (st_ln S ln) (k + 1)))), (3, .int (kI (0))), (8, .int (kI (0))), (7, .int (kI (ln_lo (st_ln S ln) k))), (6, .int (kI (ln_pos (st_ln S ln) (k + 1)))), (0, .ref a), (1, .int (kI ((ln : Nat) : Int))), (2, .int (kI (q)))]) hx hb dX3_contains_160 hl (k := 8) rfl (kI_incN _ _) (by decide) rfl (fun ls hl => ?_)
                    refine lv_goto (tgt := 32) hx hb dX3_contains_163 (by decide) ?_
                    exact ih_32  (k + 1) false (by first | assumption | omega | (simp_all; done) | grind) (by first | (exfalso; omega) | skip; rw [ln_rayTo, ← hbb]; first | (rw [ray_t (by omega) (by omega) (by omega)]; grind) | (rw [ray_f1 (by omega)]; grind) | (rw [ray_f2 (by omega) (by omega)]; grind) | (rw [ray_f3 (by omega) (by omega)]; grind)) _ hS_34 (by omega) ls (lv_sub hl [6, 7, 8, 2, 1, 0] rfl)
                  · -- not taken at 147
                    refine kx_iconst hx hb dX3_contains_150 ?_
                    refine lv_goto (tgt := 155) hx hb dX3_contains_151 (by decide) ?_
                    refine lv_istore_n (lv' := [(3, .int (kI (1))), (8, .int (kI (0))), (7, .int (kI (ln_lo (st_ln S ln) k))), (6, .int (kI (ln_pos (st_ln S ln) (k + 1)))), (0, .ref a), (1, .int (kI ((ln : Nat) : Int))), (2, .int (kI (q))), (4, .int (kI (ln_pos (st_ln S ln) k))), (5, .int (kI ((k : Nat) : Int)))]) hx hb dX3_contains_155 rfl hl (by decide) rfl (fun ls hl => ?_)
                    refine lv_iload hx hb dX3_contains_156 (lv_at hl 3 rfl) ?_
                    refine lv_istore (lv' := [(4, .int (kI (ln_pos (st_ln S ln) (k + 1)))), (3, .int (kI (1))), (8, .int (kI (0))), (7, .int (kI (ln_lo (st_ln S ln) k))), (6, .int (kI (ln_pos (st_ln S ln) (k + 1)))), (0, .ref a), (1, .int (kI ((ln : Nat) : Int))), (2, .int (kI (q))), (5, .int (kI ((k : Nat) : Int)))]) hx hb dX3_contains_158 hl (by decide) rfl (fun ls hl => ?_)
                    refine lv_iinc (v := kI (((k + 1 : Nat) : Int))) (lv' := [(5, .int (kI ((k + 1 : Nat) : Int))), (4, .int (kI (ln_pos (st_ln S ln) (k + 1)))), (3, .int (kI (1))), (8, .int (kI (0))), (7, .int (kI (ln_lo (st_ln S ln) k))), (6, .int (kI (ln_pos (st_ln S ln) (k + 1)))), (0, .ref a), (1, .int (kI ((ln : Nat) : Int))), (2, .int (kI (q)))]) hx hb dX3_contains_160 hl (k := 8) rfl (kI_incN _ _) (by decide) rfl (fun ls hl => ?_)
                    refine lv_goto (tgt := 32) hx hb dX3_contains_163 (by decide) ?_
                    exact ih_32  (k + 1) true (by first | assumption | omega | (simp_all; done) | grind) (by first | (exfalso; omega) | skip; rw [ln_rayTo, ← hbb]; first | (rw [ray_t (by omega) (by omega) (by omega)]; grind) | (rw [ray_f1 (by omega)]; grind) | (rw [ray_f2 (by omega) (by omega)]; grind) | (rw [ray_f3 (by omega) (by omega)]; grind)) _ hS_34 (by omega) ls (lv_sub hl [6, 7, 8, 2, 1, 0] rfl)
                · -- not taken at 127
                  exfalso; omega
              · -- not taken at 102
                refine lv_iload hx hb dX3_contains_105 (lv_at hl 0 rfl) ?_
                refine kx_bipush hx hb (by decide) dX3_contains_107 ?_
                refine kx_idiv (x := ln_lo (st_ln S ln) k) (y := 24) hx hb (by omega) (by omega) (by omega) (by omega) dX3_contains_109 ?_
                refine lv_iload_n hx hb dX3_contains_110 rfl (lv_at hl 4 rfl) ?_
                refine kx_bipush hx hb (by decide) dX3_contains_111 ?_
                refine kx_idiv (x := q) (y := 24) hx hb (by omega) (by omega) (by omega) (by omega) dX3_contains_113 ?_
                refine kx_icmp_ne (x := (ln_lo (st_ln S ln) k / 24)) (y := (q / 24)) (tgt := 121) hx hb dX3_contains_114 (by decide) (by omega) (by omega) (by omega) (by omega) (fun c_114_41 => ?_) (fun c_114_41 => ?_)
                · -- taken at 114
                  refine kx_iconst hx hb dX3_contains_121 ?_
                  refine lv_istore (lv' := [(8, .int (kI (0))), (7, .int (kI (ln_lo (st_ln S ln) k))), (6, .int (kI (ln_pos (st_ln S ln) (k + 1)))), (0, .ref a), (1, .int (kI ((ln : Nat) : Int))), (2, .int (kI (q))), (3, .int (kI (kb (bb)))), (4, .int (kI (ln_pos (st_ln S ln) k))), (5, .int (kI ((k : Nat) : Int)))]) hx hb dX3_contains_122 hl (by decide) rfl (fun ls hl => ?_)
                  refine lv_iload_n hx hb dX3_contains_124 rfl (lv_at hl 6 rfl) ?_
                  refine lv_iload hx hb dX3_contains_125 (lv_at hl 0 rfl) ?_
                  refine kx_if_eq (x := 0) (tgt := 146) hx hb dX3_contains_127 (by decide) (by omega) (by omega) (fun c_127_42 => ?_) (fun c_127_42 => ?_)
                  · -- taken at 127
                    refine kx_iconst hx hb dX3_contains_146 ?_
                    refine kx_bcmp_eq (x := bb) (y := false) (tgt := 154) hx hb dX3_contains_147 (by decide) (fun c_147_43 => ?_) (fun c_147_43 => ?_)
                    · -- taken at 147
                      refine kx_iconst hx hb dX3_contains_154 ?_
                      refine lv_istore_n (lv' := [(3, .int (kI (0))), (8, .int (kI (0))), (7, .int (kI (ln_lo (st_ln S ln) k))), (6, .int (kI (ln_pos (st_ln S ln) (k + 1)))), (0, .ref a), (1, .int (kI ((ln : Nat) : Int))), (2, .int (kI (q))), (4, .int (kI (ln_pos (st_ln S ln) k))), (5, .int (kI ((k : Nat) : Int)))]) hx hb dX3_contains_155 rfl hl (by decide) rfl (fun ls hl => ?_)
                      refine lv_iload hx hb dX3_contains_156 (lv_at hl 3 rfl) ?_
                      refine lv_istore (lv' := [(4, .int (kI (ln_pos (st_ln S ln) (k + 1)))), (3, .int (kI (0))), (8, .int (kI (0))), (7, .int (kI (ln_lo (st_ln S ln) k))), (6, .int (kI (ln_pos (st_ln S ln) (k + 1)))), (0, .ref a), (1, .int (kI ((ln : Nat) : Int))), (2, .int (kI (q))), (5, .int (kI ((k : Nat) : Int)))]) hx hb dX3_contains_158 hl (by decide) rfl (fun ls hl => ?_)
                      refine lv_iinc (v := kI (((k + 1 : Nat) : Int))) (lv' := [(5, .int (kI ((k + 1 : Nat) : Int))), (4, .int (kI (ln_pos (st_ln S ln) (k + 1)))), (3, .int (kI (0))), (8, .int (kI (0))), (7, .int (kI (ln_lo (st_ln S ln) k))), (6, .int (kI (ln_pos (st_ln S ln) (k + 1)))), (0, .ref a), (1, .int (kI ((ln : Nat) : Int))), (2, .int (kI (q)))]) hx hb dX3_contains_160 hl (k := 8) rfl (kI_incN _ _) (by decide) rfl (fun ls hl => ?_)
                      refine lv_goto (tgt := 32) hx hb dX3_contains_163 (by decide) ?_
                      exact ih_32  (k + 1) false (by first | assumption | omega | (simp_all; done) | grind) (by first | (exfalso; omega) | skip; rw [ln_rayTo, ← hbb]; first | (rw [ray_t (by omega) (by omega) (by omega)]; grind) | (rw [ray_f1 (by omega)]; grind) | (rw [ray_f2 (by omega) (by omega)]; grind) | (rw [ray_f3 (by omega) (by omega)]; grind)) _ hS_34 (by omega) ls (lv_sub hl [6, 7, 8, 2, 1, 0] rfl)
                    · -- not taken at 147
                      refine kx_iconst hx hb dX3_contains_150 ?_
                      refine lv_goto (tgt := 155) hx hb dX3_contains_151 (by decide) ?_
                      refine lv_istore_n (lv' := [(3, .int (kI (1))), (8, .int (kI (0))), (7, .int (kI (ln_lo (st_ln S ln) k))), (6, .int (kI (ln_pos (st_ln S ln) (k + 1)))), (0, .ref a), (1, .int (kI ((ln : Nat) : Int))), (2, .int (kI (q))), (4, .int (kI (ln_pos (st_ln S ln) k))), (5, .int (kI ((k : Nat) : Int)))]) hx hb dX3_contains_155 rfl hl (by decide) rfl (fun ls hl => ?_)
                      refine lv_iload hx hb dX3_contains_156 (lv_at hl 3 rfl) ?_
                      refine lv_istore (lv' := [(4, .int (kI (ln_pos (st_ln S ln) (k + 1)))), (3, .int (kI (1))), (8, .int (kI (0))), (7, .int (kI (ln_lo (st_ln S ln) k))), (6, .int (kI (ln_pos (st_ln S ln) (k + 1)))), (0, .ref a), (1, .int (kI ((ln : Nat) : Int))), (2, .int (kI (q))), (5, .int (kI ((k : Nat) : Int)))]) hx hb dX3_contains_158 hl (by decide) rfl (fun ls hl => ?_)
                      refine lv_iinc (v := kI (((k + 1 : Nat) : Int))) (lv' := [(5, .int (kI ((k + 1 : Nat) : Int))), (4, .int (kI (ln_pos (st_ln S ln) (k + 1)))), (3, .int (kI (1))), (8, .int (kI (0))), (7, .int (kI (ln_lo (st_ln S ln) k))), (6, .int (kI (ln_pos (st_ln S ln) (k + 1)))), (0, .ref a), (1, .int (kI ((ln : Nat) : Int))), (2, .int (kI (q)))]) hx hb dX3_contains_160 hl (k := 8) rfl (kI_incN _ _) (by decide) rfl (fun ls hl => ?_)
                      refine lv_goto (tgt := 32) hx hb dX3_contains_163 (by decide) ?_
                      exact ih_32  (k + 1) true (by first | assumption | omega | (simp_all; done) | grind) (by first | (exfalso; omega) | skip; rw [ln_rayTo, ← hbb]; first | (rw [ray_t (by omega) (by omega) (by omega)]; grind) | (rw [ray_f1 (by omega)]; grind) | (rw [ray_f2 (by omega) (by omega)]; grind) | (rw [ray_f3 (by omega) (by omega)]; grind)) _ hS_34 (by omega) ls (lv_sub hl [6, 7, 8, 2, 1, 0] rfl)
                  · -- not taken at 127
                    exfalso; omega
                · -- not taken at 114
                  refine kx_iconst hx hb dX3_contains_117 ?_
                  refine lv_goto (tgt := 122) hx hb dX3_contains_118 (by decide) ?_
                  refine lv_istore (lv' := [(8, .int (kI (1))), (7, .int (kI (ln_lo (st_ln S ln) k))), (6, .int (kI (ln_pos (st_ln S ln) (k + 1)))), (0, .ref a), (1, .int (kI ((ln : Nat) : Int))), (2, .int (kI (q))), (3, .int (kI (kb (bb)))), (4, .int (kI (ln_pos (st_ln S ln) k))), (5, .int (kI ((k : Nat) : Int)))]) hx hb dX3_contains_122 hl (by decide) rfl (fun ls hl => ?_)
                  refine lv_iload_n hx hb dX3_contains_124 rfl (lv_at hl 6 rfl) ?_
                  refine lv_iload hx hb dX3_contains_125 (lv_at hl 0 rfl) ?_
                  refine kx_if_eq (x := 1) (tgt := 146) hx hb dX3_contains_127 (by decide) (by omega) (by omega) (fun c_127_44 => ?_) (fun c_127_44 => ?_)
                  · -- taken at 127
                    exfalso; omega
                  · -- not taken at 127
                    refine lv_iload hx hb dX3_contains_130 (lv_at hl 1 rfl) ?_
                    refine kx_bipush hx hb (by decide) dX3_contains_132 ?_
                    refine kx_irem (x := ln_lo (st_ln S ln) k) (y := 24) hx hb (by omega) (by omega) (by omega) (by omega) dX3_contains_134 ?_
                    refine lv_iload_n hx hb dX3_contains_135 rfl (lv_at hl 5 rfl) ?_
                    refine kx_bipush hx hb (by decide) dX3_contains_136 ?_
                    refine kx_irem (x := q) (y := 24) hx hb (by omega) (by omega) (by omega) (by omega) dX3_contains_138 ?_
                    refine kx_icmp_le (x := (ln_lo (st_ln S ln) k % 24)) (y := (q % 24)) (tgt := 146) hx hb dX3_contains_139 (by decide) (by omega) (by omega) (by omega) (by omega) (fun c_139_45 => ?_) (fun c_139_45 => ?_)
                    · -- taken at 139
                      refine kx_iconst hx hb dX3_contains_146 ?_
                      refine kx_bcmp_eq (x := bb) (y := false) (tgt := 154) hx hb dX3_contains_147 (by decide) (fun c_147_46 => ?_) (fun c_147_46 => ?_)
                      · -- taken at 147
                        refine kx_iconst hx hb dX3_contains_154 ?_
                        refine lv_istore_n (lv' := [(3, .int (kI (0))), (8, .int (kI (1))), (7, .int (kI (ln_lo (st_ln S ln) k))), (6, .int (kI (ln_pos (st_ln S ln) (k + 1)))), (0, .ref a), (1, .int (kI ((ln : Nat) : Int))), (2, .int (kI (q))), (4, .int (kI (ln_pos (st_ln S ln) k))), (5, .int (kI ((k : Nat) : Int)))]) hx hb dX3_contains_155 rfl hl (by decide) rfl (fun ls hl => ?_)
                        refine lv_iload hx hb dX3_contains_156 (lv_at hl 3 rfl) ?_
                        refine lv_istore (lv' := [(4, .int (kI (ln_pos (st_ln S ln) (k + 1)))), (3, .int (kI (0))), (8, .int (kI (1))), (7, .int (kI (ln_lo (st_ln S ln) k))), (6, .int (kI (ln_pos (st_ln S ln) (k + 1)))), (0, .ref a), (1, .int (kI ((ln : Nat) : Int))), (2, .int (kI (q))), (5, .int (kI ((k : Nat) : Int)))]) hx hb dX3_contains_158 hl (by decide) rfl (fun ls hl => ?_)
                        refine lv_iinc (v := kI (((k + 1 : Nat) : Int))) (lv' := [(5, .int (kI ((k + 1 : Nat) : Int))), (4, .int (kI (ln_pos (st_ln S ln) (k + 1)))), (3, .int (kI (0))), (8, .int (kI (1))), (7, .int (kI (ln_lo (st_ln S ln) k))), (6, .int (kI (ln_pos (st_ln S ln) (k + 1)))), (0, .ref a), (1, .int (kI ((ln : Nat) : Int))), (2, .int (kI (q)))]) hx hb dX3_contains_160 hl (k := 8) rfl (kI_incN _ _) (by decide) rfl (fun ls hl => ?_)
                        refine lv_goto (tgt := 32) hx hb dX3_contains_163 (by decide) ?_
                        exact ih_32  (k + 1) false (by first | assumption | omega | (simp_all; done) | grind) (by first | (exfalso; omega) | skip; rw [ln_rayTo, ← hbb]; first | (rw [ray_t (by omega) (by omega) (by omega)]; grind) | (rw [ray_f1 (by omega)]; grind) | (rw [ray_f2 (by omega) (by omega)]; grind) | (rw [ray_f3 (by omega) (by omega)]; grind)) _ hS_34 (by omega) ls (lv_sub hl [6, 7, 8, 2, 1, 0] rfl)
                      · -- not taken at 147
                        refine kx_iconst hx hb dX3_contains_150 ?_
                        refine lv_goto (tgt := 155) hx hb dX3_contains_151 (by decide) ?_
                        refine lv_istore_n (lv' := [(3, .int (kI (1))), (8, .int (kI (1))), (7, .int (kI (ln_lo (st_ln S ln) k))), (6, .int (kI (ln_pos (st_ln S ln) (k + 1)))), (0, .ref a), (1, .int (kI ((ln : Nat) : Int))), (2, .int (kI (q))), (4, .int (kI (ln_pos (st_ln S ln) k))), (5, .int (kI ((k : Nat) : Int)))]) hx hb dX3_contains_155 rfl hl (by decide) rfl (fun ls hl => ?_)
                        refine lv_iload hx hb dX3_contains_156 (lv_at hl 3 rfl) ?_
                        refine lv_istore (lv' := [(4, .int (kI (ln_pos (st_ln S ln) (k + 1)))), (3, .int (kI (1))), (8, .int (kI (1))), (7, .int (kI (ln_lo (st_ln S ln) k))), (6, .int (kI (ln_pos (st_ln S ln) (k + 1)))), (0, .ref a), (1, .int (kI ((ln : Nat) : Int))), (2, .int (kI (q))), (5, .int (kI ((k : Nat) : Int)))]) hx hb dX3_contains_158 hl (by decide) rfl (fun ls hl => ?_)
                        refine lv_iinc (v := kI (((k + 1 : Nat) : Int))) (lv' := [(5, .int (kI ((k + 1 : Nat) : Int))), (4, .int (kI (ln_pos (st_ln S ln) (k + 1)))), (3, .int (kI (1))), (8, .int (kI (1))), (7, .int (kI (ln_lo (st_ln S ln) k))), (6, .int (kI (ln_pos (st_ln S ln) (k + 1)))), (0, .ref a), (1, .int (kI ((ln : Nat) : Int))), (2, .int (kI (q)))]) hx hb dX3_contains_160 hl (k := 8) rfl (kI_incN _ _) (by decide) rfl (fun ls hl => ?_)
                        refine lv_goto (tgt := 32) hx hb dX3_contains_163 (by decide) ?_
                        exact ih_32  (k + 1) true (by first | assumption | omega | (simp_all; done) | grind) (by first | (exfalso; omega) | skip; rw [ln_rayTo, ← hbb]; first | (rw [ray_t (by omega) (by omega) (by omega)]; grind) | (rw [ray_f1 (by omega)]; grind) | (rw [ray_f2 (by omega) (by omega)]; grind) | (rw [ray_f3 (by omega) (by omega)]; grind)) _ hS_34 (by omega) ls (lv_sub hl [6, 7, 8, 2, 1, 0] rfl)
                    · -- not taken at 139
                      refine kx_iconst hx hb dX3_contains_142 ?_
                      refine lv_goto (tgt := 147) hx hb dX3_contains_143 (by decide) ?_
                      refine kx_bcmp_eq (x := bb) (y := true) (tgt := 154) hx hb dX3_contains_147 (by decide) (fun c_147_47 => ?_) (fun c_147_47 => ?_)
                      · -- taken at 147
                        refine kx_iconst hx hb dX3_contains_154 ?_
                        refine lv_istore_n (lv' := [(3, .int (kI (0))), (8, .int (kI (1))), (7, .int (kI (ln_lo (st_ln S ln) k))), (6, .int (kI (ln_pos (st_ln S ln) (k + 1)))), (0, .ref a), (1, .int (kI ((ln : Nat) : Int))), (2, .int (kI (q))), (4, .int (kI (ln_pos (st_ln S ln) k))), (5, .int (kI ((k : Nat) : Int)))]) hx hb dX3_contains_155 rfl hl (by decide) rfl (fun ls hl => ?_)
                        refine lv_iload hx hb dX3_contains_156 (lv_at hl 3 rfl) ?_
                        refine lv_istore (lv' := [(4, .int (kI (ln_pos (st_ln S ln) (k + 1)))), (3, .int (kI (0))), (8, .int (kI (1))), (7, .int (kI (ln_lo (st_ln S ln) k))), (6, .int (kI (ln_pos (st_ln S ln) (k + 1)))), (0, .ref a), (1, .int (kI ((ln : Nat) : Int))), (2, .int (kI (q))), (5, .int (kI ((k : Nat) : Int)))]) hx hb dX3_contains_158 hl (by decide) rfl (fun ls hl => ?_)
                        refine lv_iinc (v := kI (((k + 1 : Nat) : Int))) (lv' := [(5, .int (kI ((k + 1 : Nat) : Int))), (4, .int (kI (ln_pos (st_ln S ln) (k + 1)))), (3, .int (kI (0))), (8, .int (kI (1))), (7, .int (kI (ln_lo (st_ln S ln) k))), (6, .int (kI (ln_pos (st_ln S ln) (k + 1)))), (0, .ref a), (1, .int (kI ((ln : Nat) : Int))), (2, .int (kI (q)))]) hx hb dX3_contains_160 hl (k := 8) rfl (kI_incN _ _) (by decide) rfl (fun ls hl => ?_)
                        refine lv_goto (tgt := 32) hx hb dX3_contains_163 (by decide) ?_
                        exact ih_32  (k + 1) false (by first | assumption | omega | (simp_all; done) | grind) (by first | (exfalso; omega) | skip; rw [ln_rayTo, ← hbb]; first | (rw [ray_t (by omega) (by omega) (by omega)]; grind) | (rw [ray_f1 (by omega)]; grind) | (rw [ray_f2 (by omega) (by omega)]; grind) | (rw [ray_f3 (by omega) (by omega)]; grind)) _ hS_34 (by omega) ls (lv_sub hl [6, 7, 8, 2, 1, 0] rfl)
                      · -- not taken at 147
                        refine kx_iconst hx hb dX3_contains_150 ?_
                        refine lv_goto (tgt := 155) hx hb dX3_contains_151 (by decide) ?_
                        refine lv_istore_n (lv' := [(3, .int (kI (1))), (8, .int (kI (1))), (7, .int (kI (ln_lo (st_ln S ln) k))), (6, .int (kI (ln_pos (st_ln S ln) (k + 1)))), (0, .ref a), (1, .int (kI ((ln : Nat) : Int))), (2, .int (kI (q))), (4, .int (kI (ln_pos (st_ln S ln) k))), (5, .int (kI ((k : Nat) : Int)))]) hx hb dX3_contains_155 rfl hl (by decide) rfl (fun ls hl => ?_)
                        refine lv_iload hx hb dX3_contains_156 (lv_at hl 3 rfl) ?_
                        refine lv_istore (lv' := [(4, .int (kI (ln_pos (st_ln S ln) (k + 1)))), (3, .int (kI (1))), (8, .int (kI (1))), (7, .int (kI (ln_lo (st_ln S ln) k))), (6, .int (kI (ln_pos (st_ln S ln) (k + 1)))), (0, .ref a), (1, .int (kI ((ln : Nat) : Int))), (2, .int (kI (q))), (5, .int (kI ((k : Nat) : Int)))]) hx hb dX3_contains_158 hl (by decide) rfl (fun ls hl => ?_)
                        refine lv_iinc (v := kI (((k + 1 : Nat) : Int))) (lv' := [(5, .int (kI ((k + 1 : Nat) : Int))), (4, .int (kI (ln_pos (st_ln S ln) (k + 1)))), (3, .int (kI (1))), (8, .int (kI (1))), (7, .int (kI (ln_lo (st_ln S ln) k))), (6, .int (kI (ln_pos (st_ln S ln) (k + 1)))), (0, .ref a), (1, .int (kI ((ln : Nat) : Int))), (2, .int (kI (q)))]) hx hb dX3_contains_160 hl (k := 8) rfl (kI_incN _ _) (by decide) rfl (fun ls hl => ?_)
                        refine lv_goto (tgt := 32) hx hb dX3_contains_163 (by decide) ?_
                        exact ih_32  (k + 1) true (by first | assumption | omega | (simp_all; done) | grind) (by first | (exfalso; omega) | skip; rw [ln_rayTo, ← hbb]; first | (rw [ray_t (by omega) (by omega) (by omega)]; grind) | (rw [ray_f1 (by omega)]; grind) | (rw [ray_f2 (by omega) (by omega)]; grind) | (rw [ray_f3 (by omega) (by omega)]; grind)) _ hS_34 (by omega) ls (lv_sub hl [6, 7, 8, 2, 1, 0] rfl)
            · -- not taken at 80
              refine lv_iload hx hb dX3_contains_83 (lv_at hl 5 rfl) ?_
              refine lv_goto (tgt := 90) hx hb dX3_contains_85 (by decide) ?_
              refine kx_eqi (ln_lo (st_ln S ln) k) (by unfold ln_lo; first | rw [if_pos (by omega)] | rw [if_neg (by omega)]) ?_
              refine lv_istore (lv' := [(7, .int (kI (ln_lo (st_ln S ln) k))), (6, .int (kI (ln_pos (st_ln S ln) (k + 1)))), (0, .ref a), (1, .int (kI ((ln : Nat) : Int))), (2, .int (kI (q))), (3, .int (kI (kb (bb)))), (4, .int (kI (ln_pos (st_ln S ln) k))), (5, .int (kI ((k : Nat) : Int)))]) hx hb dX3_contains_90 hl (by decide) rfl (fun ls hl => ?_)
              refine lv_iload hx hb dX3_contains_92 (lv_at hl 6 rfl) ?_
              refine kx_bipush hx hb (by decide) dX3_contains_94 ?_
              refine kx_idiv (x := ln_pos (st_ln S ln) k) (y := 24) hx hb (by omega) (by omega) (by omega) (by omega) dX3_contains_96 ?_
              refine lv_iload hx hb dX3_contains_97 (lv_at hl 1 rfl) ?_
              refine kx_bipush hx hb (by decide) dX3_contains_99 ?_
              refine kx_idiv (x := ln_pos (st_ln S ln) (k + 1)) (y := 24) hx hb (by omega) (by omega) (by omega) (by omega) dX3_contains_101 ?_
              refine kx_icmp_eq (x := (ln_pos (st_ln S ln) k / 24)) (y := (ln_pos (st_ln S ln) (k + 1) / 24)) (tgt := 121) hx hb dX3_contains_102 (by decide) (by omega) (by omega) (by omega) (by omega) (fun c_102_48 => ?_) (fun c_102_48 => ?_)
              · -- taken at 102
                refine kx_iconst hx hb dX3_contains_121 ?_
                refine lv_istore (lv' := [(8, .int (kI (0))), (7, .int (kI (ln_lo (st_ln S ln) k))), (6, .int (kI (ln_pos (st_ln S ln) (k + 1)))), (0, .ref a), (1, .int (kI ((ln : Nat) : Int))), (2, .int (kI (q))), (3, .int (kI (kb (bb)))), (4, .int (kI (ln_pos (st_ln S ln) k))), (5, .int (kI ((k : Nat) : Int)))]) hx hb dX3_contains_122 hl (by decide) rfl (fun ls hl => ?_)
                refine lv_iload_n hx hb dX3_contains_124 rfl (lv_at hl 6 rfl) ?_
                refine lv_iload hx hb dX3_contains_125 (lv_at hl 0 rfl) ?_
                refine kx_if_eq (x := 0) (tgt := 146) hx hb dX3_contains_127 (by decide) (by omega) (by omega) (fun c_127_49 => ?_) (fun c_127_49 => ?_)
                · -- taken at 127
                  refine kx_iconst hx hb dX3_contains_146 ?_
                  refine kx_bcmp_eq (x := bb) (y := false) (tgt := 154) hx hb dX3_contains_147 (by decide) (fun c_147_50 => ?_) (fun c_147_50 => ?_)
                  · -- taken at 147
                    refine kx_iconst hx hb dX3_contains_154 ?_
                    refine lv_istore_n (lv' := [(3, .int (kI (0))), (8, .int (kI (0))), (7, .int (kI (ln_lo (st_ln S ln) k))), (6, .int (kI (ln_pos (st_ln S ln) (k + 1)))), (0, .ref a), (1, .int (kI ((ln : Nat) : Int))), (2, .int (kI (q))), (4, .int (kI (ln_pos (st_ln S ln) k))), (5, .int (kI ((k : Nat) : Int)))]) hx hb dX3_contains_155 rfl hl (by decide) rfl (fun ls hl => ?_)
                    refine lv_iload hx hb dX3_contains_156 (lv_at hl 3 rfl) ?_
                    refine lv_istore (lv' := [(4, .int (kI (ln_pos (st_ln S ln) (k + 1)))), (3, .int (kI (0))), (8, .int (kI (0))), (7, .int (kI (ln_lo (st_ln S ln) k))), (6, .int (kI (ln_pos (st_ln S ln) (k + 1)))), (0, .ref a), (1, .int (kI ((ln : Nat) : Int))), (2, .int (kI (q))), (5, .int (kI ((k : Nat) : Int)))]) hx hb dX3_contains_158 hl (by decide) rfl (fun ls hl => ?_)
                    refine lv_iinc (v := kI (((k + 1 : Nat) : Int))) (lv' := [(5, .int (kI ((k + 1 : Nat) : Int))), (4, .int (kI (ln_pos (st_ln S ln) (k + 1)))), (3, .int (kI (0))), (8, .int (kI (0))), (7, .int (kI (ln_lo (st_ln S ln) k))), (6, .int (kI (ln_pos (st_ln S ln) (k + 1)))), (0, .ref a), (1, .int (kI ((ln : Nat) : Int))), (2, .int (kI (q)))]) hx hb dX3_contains_160 hl (k := 8) rfl (kI_incN _ _) (by decide) rfl (fun ls hl => ?_)
                    refine lv_goto (tgt := 32) hx hb dX3_contains_163 (by decide) ?_
                    exact ih_32  (k + 1) false (by first | assumption | omega | (simp_all; done) | grind) (by first | (exfalso; omega) | skip; rw [ln_rayTo, ← hbb]; first | (rw [ray_t (by omega) (by omega) (by omega)]; grind) | (rw [ray_f1 (by omega)]; grind) | (rw [ray_f2 (by omega) (by omega)]; grind) | (rw [ray_f3 (by omega) (by omega)]; grind)) _ hS_34 (by omega) ls (lv_sub hl [6, 7, 8, 2, 1, 0] rfl)
                  · -- not taken at 147
                    refine kx_iconst hx hb dX3_contains_150 ?_
                    refine lv_goto (tgt := 155) hx hb dX3_contains_151 (by decide) ?_
                    refine lv_istore_n (lv' := [(3, .int (kI (1))), (8, .int (kI (0))), (7, .int (kI (ln_lo (st_ln S ln) k))), (6, .int (kI (ln_pos (st_ln S ln) (k + 1)))), (0, .ref a), (1, .int (kI ((ln : Nat) : Int))), (2, .int (kI (q))), (4, .int (kI (ln_pos (st_ln S ln) k))), (5, .int (kI ((k : Nat) : Int)))]) hx hb dX3_contains_155 rfl hl (by decide) rfl (fun ls hl => ?_)
                    refine lv_iload hx hb dX3_contains_156 (lv_at hl 3 rfl) ?_
                    refine lv_istore (lv' := [(4, .int (kI (ln_pos (st_ln S ln) (k + 1)))), (3, .int (kI (1))), (8, .int (kI (0))), (7, .int (kI (ln_lo (st_ln S ln) k))), (6, .int (kI (ln_pos (st_ln S ln) (k + 1)))), (0, .ref a), (1, .int (kI ((ln : Nat) : Int))), (2, .int (kI (q))), (5, .int (kI ((k : Nat) : Int)))]) hx hb dX3_contains_158 hl (by decide) rfl (fun ls hl => ?_)
                    refine lv_iinc (v := kI (((k + 1 : Nat) : Int))) (lv' := [(5, .int (kI ((k + 1 : Nat) : Int))), (4, .int (kI (ln_pos (st_ln S ln) (k + 1)))), (3, .int (kI (1))), (8, .int (kI (0))), (7, .int (kI (ln_lo (st_ln S ln) k))), (6, .int (kI (ln_pos (st_ln S ln) (k + 1)))), (0, .ref a), (1, .int (kI ((ln : Nat) : Int))), (2, .int (kI (q)))]) hx hb dX3_contains_160 hl (k := 8) rfl (kI_incN _ _) (by decide) rfl (fun ls hl => ?_)
                    refine lv_goto (tgt := 32) hx hb dX3_contains_163 (by decide) ?_
                    exact ih_32  (k + 1) true (by first | assumption | omega | (simp_all; done) | grind) (by first | (exfalso; omega) | skip; rw [ln_rayTo, ← hbb]; first | (rw [ray_t (by omega) (by omega) (by omega)]; grind) | (rw [ray_f1 (by omega)]; grind) | (rw [ray_f2 (by omega) (by omega)]; grind) | (rw [ray_f3 (by omega) (by omega)]; grind)) _ hS_34 (by omega) ls (lv_sub hl [6, 7, 8, 2, 1, 0] rfl)
                · -- not taken at 127
                  exfalso; omega
              · -- not taken at 102
                refine lv_iload hx hb dX3_contains_105 (lv_at hl 0 rfl) ?_
                refine kx_bipush hx hb (by decide) dX3_contains_107 ?_
                refine kx_idiv (x := ln_lo (st_ln S ln) k) (y := 24) hx hb (by omega) (by omega) (by omega) (by omega) dX3_contains_109 ?_
                refine lv_iload_n hx hb dX3_contains_110 rfl (lv_at hl 4 rfl) ?_
                refine kx_bipush hx hb (by decide) dX3_contains_111 ?_
                refine kx_idiv (x := q) (y := 24) hx hb (by omega) (by omega) (by omega) (by omega) dX3_contains_113 ?_
                refine kx_icmp_ne (x := (ln_lo (st_ln S ln) k / 24)) (y := (q / 24)) (tgt := 121) hx hb dX3_contains_114 (by decide) (by omega) (by omega) (by omega) (by omega) (fun c_114_51 => ?_) (fun c_114_51 => ?_)
                · -- taken at 114
                  refine kx_iconst hx hb dX3_contains_121 ?_
                  refine lv_istore (lv' := [(8, .int (kI (0))), (7, .int (kI (ln_lo (st_ln S ln) k))), (6, .int (kI (ln_pos (st_ln S ln) (k + 1)))), (0, .ref a), (1, .int (kI ((ln : Nat) : Int))), (2, .int (kI (q))), (3, .int (kI (kb (bb)))), (4, .int (kI (ln_pos (st_ln S ln) k))), (5, .int (kI ((k : Nat) : Int)))]) hx hb dX3_contains_122 hl (by decide) rfl (fun ls hl => ?_)
                  refine lv_iload_n hx hb dX3_contains_124 rfl (lv_at hl 6 rfl) ?_
                  refine lv_iload hx hb dX3_contains_125 (lv_at hl 0 rfl) ?_
                  refine kx_if_eq (x := 0) (tgt := 146) hx hb dX3_contains_127 (by decide) (by omega) (by omega) (fun c_127_52 => ?_) (fun c_127_52 => ?_)
                  · -- taken at 127
                    refine kx_iconst hx hb dX3_contains_146 ?_
                    refine kx_bcmp_eq (x := bb) (y := false) (tgt := 154) hx hb dX3_contains_147 (by decide) (fun c_147_53 => ?_) (fun c_147_53 => ?_)
                    · -- taken at 147
                      refine kx_iconst hx hb dX3_contains_154 ?_
                      refine lv_istore_n (lv' := [(3, .int (kI (0))), (8, .int (kI (0))), (7, .int (kI (ln_lo (st_ln S ln) k))), (6, .int (kI (ln_pos (st_ln S ln) (k + 1)))), (0, .ref a), (1, .int (kI ((ln : Nat) : Int))), (2, .int (kI (q))), (4, .int (kI (ln_pos (st_ln S ln) k))), (5, .int (kI ((k : Nat) : Int)))]) hx hb dX3_contains_155 rfl hl (by decide) rfl (fun ls hl => ?_)
                      refine lv_iload hx hb dX3_contains_156 (lv_at hl 3 rfl) ?_
                      refine lv_istore (lv' := [(4, .int (kI (ln_pos (st_ln S ln) (k + 1)))), (3, .int (kI (0))), (8, .int (kI (0))), (7, .int (kI (ln_lo (st_ln S ln) k))), (6, .int (kI (ln_pos (st_ln S ln) (k + 1)))), (0, .ref a), (1, .int (kI ((ln : Nat) : Int))), (2, .int (kI (q))), (5, .int (kI ((k : Nat) : Int)))]) hx hb dX3_contains_158 hl (by decide) rfl (fun ls hl => ?_)
                      refine lv_iinc (v := kI (((k + 1 : Nat) : Int))) (lv' := [(5, .int (kI ((k + 1 : Nat) : Int))), (4, .int (kI (ln_pos (st_ln S ln) (k + 1)))), (3, .int (kI (0))), (8, .int (kI (0))), (7, .int (kI (ln_lo (st_ln S ln) k))), (6, .int (kI (ln_pos (st_ln S ln) (k + 1)))), (0, .ref a), (1, .int (kI ((ln : Nat) : Int))), (2, .int (kI (q)))]) hx hb dX3_contains_160 hl (k := 8) rfl (kI_incN _ _) (by decide) rfl (fun ls hl => ?_)
                      refine lv_goto (tgt := 32) hx hb dX3_contains_163 (by decide) ?_
                      exact ih_32  (k + 1) false (by first | assumption | omega | (simp_all; done) | grind) (by first | (exfalso; omega) | skip; rw [ln_rayTo, ← hbb]; first | (rw [ray_t (by omega) (by omega) (by omega)]; grind) | (rw [ray_f1 (by omega)]; grind) | (rw [ray_f2 (by omega) (by omega)]; grind) | (rw [ray_f3 (by omega) (by omega)]; grind)) _ hS_34 (by omega) ls (lv_sub hl [6, 7, 8, 2, 1, 0] rfl)
                    · -- not taken at 147
                      refine kx_iconst hx hb dX3_contains_150 ?_
                      refine lv_goto (tgt := 155) hx hb dX3_contains_151 (by decide) ?_
                      refine lv_istore_n (lv' := [(3, .int (kI (1))), (8, .int (kI (0))), (7, .int (kI (ln_lo (st_ln S ln) k))), (6, .int (kI (ln_pos (st_ln S ln) (k + 1)))), (0, .ref a), (1, .int (kI ((ln : Nat) : Int))), (2, .int (kI (q))), (4, .int (kI (ln_pos (st_ln S ln) k))), (5, .int (kI ((k : Nat) : Int)))]) hx hb dX3_contains_155 rfl hl (by decide) rfl (fun ls hl => ?_)
                      refine lv_iload hx hb dX3_contains_156 (lv_at hl 3 rfl) ?_
                      refine lv_istore (lv' := [(4, .int (kI (ln_pos (st_ln S ln) (k + 1)))), (3, .int (kI (1))), (8, .int (kI (0))), (7, .int (kI (ln_lo (st_ln S ln) k))), (6, .int (kI (ln_pos (st_ln S ln) (k + 1)))), (0, .ref a), (1, .int (kI ((ln : Nat) : Int))), (2, .int (kI (q))), (5, .int (kI ((k : Nat) : Int)))]) hx hb dX3_contains_158 hl (by decide) rfl (fun ls hl => ?_)
                      refine lv_iinc (v := kI (((k + 1 : Nat) : Int))) (lv' := [(5, .int (kI ((k + 1 : Nat) : Int))), (4, .int (kI (ln_pos (st_ln S ln) (k + 1)))), (3, .int (kI (1))), (8, .int (kI (0))), (7, .int (kI (ln_lo (st_ln S ln) k))), (6, .int (kI (ln_pos (st_ln S ln) (k + 1)))), (0, .ref a), (1, .int (kI ((ln : Nat) : Int))), (2, .int (kI (q)))]) hx hb dX3_contains_160 hl (k := 8) rfl (kI_incN _ _) (by decide) rfl (fun ls hl => ?_)
                      refine lv_goto (tgt := 32) hx hb dX3_contains_163 (by decide) ?_
                      exact ih_32  (k + 1) true (by first | assumption | omega | (simp_all; done) | grind) (by first | (exfalso; omega) | skip; rw [ln_rayTo, ← hbb]; first | (rw [ray_t (by omega) (by omega) (by omega)]; grind) | (rw [ray_f1 (by omega)]; grind) | (rw [ray_f2 (by omega) (by omega)]; grind) | (rw [ray_f3 (by omega) (by omega)]; grind)) _ hS_34 (by omega) ls (lv_sub hl [6, 7, 8, 2, 1, 0] rfl)
                  · -- not taken at 127
                    exfalso; omega
                · -- not taken at 114
                  refine kx_iconst hx hb dX3_contains_117 ?_
                  refine lv_goto (tgt := 122) hx hb dX3_contains_118 (by decide) ?_
                  refine lv_istore (lv' := [(8, .int (kI (1))), (7, .int (kI (ln_lo (st_ln S ln) k))), (6, .int (kI (ln_pos (st_ln S ln) (k + 1)))), (0, .ref a), (1, .int (kI ((ln : Nat) : Int))), (2, .int (kI (q))), (3, .int (kI (kb (bb)))), (4, .int (kI (ln_pos (st_ln S ln) k))), (5, .int (kI ((k : Nat) : Int)))]) hx hb dX3_contains_122 hl (by decide) rfl (fun ls hl => ?_)
                  refine lv_iload_n hx hb dX3_contains_124 rfl (lv_at hl 6 rfl) ?_
                  refine lv_iload hx hb dX3_contains_125 (lv_at hl 0 rfl) ?_
                  refine kx_if_eq (x := 1) (tgt := 146) hx hb dX3_contains_127 (by decide) (by omega) (by omega) (fun c_127_54 => ?_) (fun c_127_54 => ?_)
                  · -- taken at 127
                    exfalso; omega
                  · -- not taken at 127
                    refine lv_iload hx hb dX3_contains_130 (lv_at hl 1 rfl) ?_
                    refine kx_bipush hx hb (by decide) dX3_contains_132 ?_
                    refine kx_irem (x := ln_lo (st_ln S ln) k) (y := 24) hx hb (by omega) (by omega) (by omega) (by omega) dX3_contains_134 ?_
                    refine lv_iload_n hx hb dX3_contains_135 rfl (lv_at hl 5 rfl) ?_
                    refine kx_bipush hx hb (by decide) dX3_contains_136 ?_
                    refine kx_irem (x := q) (y := 24) hx hb (by omega) (by omega) (by omega) (by omega) dX3_contains_138 ?_
                    refine kx_icmp_le (x := (ln_lo (st_ln S ln) k % 24)) (y := (q % 24)) (tgt := 146) hx hb dX3_contains_139 (by decide) (by omega) (by omega) (by omega) (by omega) (fun c_139_55 => ?_) (fun c_139_55 => ?_)
                    · -- taken at 139
                      refine kx_iconst hx hb dX3_contains_146 ?_
                      refine kx_bcmp_eq (x := bb) (y := false) (tgt := 154) hx hb dX3_contains_147 (by decide) (fun c_147_56 => ?_) (fun c_147_56 => ?_)
                      · -- taken at 147
                        refine kx_iconst hx hb dX3_contains_154 ?_
                        refine lv_istore_n (lv' := [(3, .int (kI (0))), (8, .int (kI (1))), (7, .int (kI (ln_lo (st_ln S ln) k))), (6, .int (kI (ln_pos (st_ln S ln) (k + 1)))), (0, .ref a), (1, .int (kI ((ln : Nat) : Int))), (2, .int (kI (q))), (4, .int (kI (ln_pos (st_ln S ln) k))), (5, .int (kI ((k : Nat) : Int)))]) hx hb dX3_contains_155 rfl hl (by decide) rfl (fun ls hl => ?_)
                        refine lv_iload hx hb dX3_contains_156 (lv_at hl 3 rfl) ?_
                        refine lv_istore (lv' := [(4, .int (kI (ln_pos (st_ln S ln) (k + 1)))), (3, .int (kI (0))), (8, .int (kI (1))), (7, .int (kI (ln_lo (st_ln S ln) k))), (6, .int (kI (ln_pos (st_ln S ln) (k + 1)))), (0, .ref a), (1, .int (kI ((ln : Nat) : Int))), (2, .int (kI (q))), (5, .int (kI ((k : Nat) : Int)))]) hx hb dX3_contains_158 hl (by decide) rfl (fun ls hl => ?_)
                        refine lv_iinc (v := kI (((k + 1 : Nat) : Int))) (lv' := [(5, .int (kI ((k + 1 : Nat) : Int))), (4, .int (kI (ln_pos (st_ln S ln) (k + 1)))), (3, .int (kI (0))), (8, .int (kI (1))), (7, .int (kI (ln_lo (st_ln S ln) k))), (6, .int (kI (ln_pos (st_ln S ln) (k + 1)))), (0, .ref a), (1, .int (kI ((ln : Nat) : Int))), (2, .int (kI (q)))]) hx hb dX3_contains_160 hl (k := 8) rfl (kI_incN _ _) (by decide) rfl (fun ls hl => ?_)
                        refine lv_goto (tgt := 32) hx hb dX3_contains_163 (by decide) ?_
                        exact ih_32  (k + 1) false (by first | assumption | omega | (simp_all; done) | grind) (by first | (exfalso; omega) | skip; rw [ln_rayTo, ← hbb]; first | (rw [ray_t (by omega) (by omega) (by omega)]; grind) | (rw [ray_f1 (by omega)]; grind) | (rw [ray_f2 (by omega) (by omega)]; grind) | (rw [ray_f3 (by omega) (by omega)]; grind)) _ hS_34 (by omega) ls (lv_sub hl [6, 7, 8, 2, 1, 0] rfl)
                      · -- not taken at 147
                        refine kx_iconst hx hb dX3_contains_150 ?_
                        refine lv_goto (tgt := 155) hx hb dX3_contains_151 (by decide) ?_
                        refine lv_istore_n (lv' := [(3, .int (kI (1))), (8, .int (kI (1))), (7, .int (kI (ln_lo (st_ln S ln) k))), (6, .int (kI (ln_pos (st_ln S ln) (k + 1)))), (0, .ref a), (1, .int (kI ((ln : Nat) : Int))), (2, .int (kI (q))), (4, .int (kI (ln_pos (st_ln S ln) k))), (5, .int (kI ((k : Nat) : Int)))]) hx hb dX3_contains_155 rfl hl (by decide) rfl (fun ls hl => ?_)
                        refine lv_iload hx hb dX3_contains_156 (lv_at hl 3 rfl) ?_
                        refine lv_istore (lv' := [(4, .int (kI (ln_pos (st_ln S ln) (k + 1)))), (3, .int (kI (1))), (8, .int (kI (1))), (7, .int (kI (ln_lo (st_ln S ln) k))), (6, .int (kI (ln_pos (st_ln S ln) (k + 1)))), (0, .ref a), (1, .int (kI ((ln : Nat) : Int))), (2, .int (kI (q))), (5, .int (kI ((k : Nat) : Int)))]) hx hb dX3_contains_158 hl (by decide) rfl (fun ls hl => ?_)
                        refine lv_iinc (v := kI (((k + 1 : Nat) : Int))) (lv' := [(5, .int (kI ((k + 1 : Nat) : Int))), (4, .int (kI (ln_pos (st_ln S ln) (k + 1)))), (3, .int (kI (1))), (8, .int (kI (1))), (7, .int (kI (ln_lo (st_ln S ln) k))), (6, .int (kI (ln_pos (st_ln S ln) (k + 1)))), (0, .ref a), (1, .int (kI ((ln : Nat) : Int))), (2, .int (kI (q)))]) hx hb dX3_contains_160 hl (k := 8) rfl (kI_incN _ _) (by decide) rfl (fun ls hl => ?_)
                        refine lv_goto (tgt := 32) hx hb dX3_contains_163 (by decide) ?_
                        exact ih_32  (k + 1) true (by first | assumption | omega | (simp_all; done) | grind) (by first | (exfalso; omega) | skip; rw [ln_rayTo, ← hbb]; first | (rw [ray_t (by omega) (by omega) (by omega)]; grind) | (rw [ray_f1 (by omega)]; grind) | (rw [ray_f2 (by omega) (by omega)]; grind) | (rw [ray_f3 (by omega) (by omega)]; grind)) _ hS_34 (by omega) ls (lv_sub hl [6, 7, 8, 2, 1, 0] rfl)
                    · -- not taken at 139
                      refine kx_iconst hx hb dX3_contains_142 ?_
                      refine lv_goto (tgt := 147) hx hb dX3_contains_143 (by decide) ?_
                      refine kx_bcmp_eq (x := bb) (y := true) (tgt := 154) hx hb dX3_contains_147 (by decide) (fun c_147_57 => ?_) (fun c_147_57 => ?_)
                      · -- taken at 147
                        refine kx_iconst hx hb dX3_contains_154 ?_
                        refine lv_istore_n (lv' := [(3, .int (kI (0))), (8, .int (kI (1))), (7, .int (kI (ln_lo (st_ln S ln) k))), (6, .int (kI (ln_pos (st_ln S ln) (k + 1)))), (0, .ref a), (1, .int (kI ((ln : Nat) : Int))), (2, .int (kI (q))), (4, .int (kI (ln_pos (st_ln S ln) k))), (5, .int (kI ((k : Nat) : Int)))]) hx hb dX3_contains_155 rfl hl (by decide) rfl (fun ls hl => ?_)
                        refine lv_iload hx hb dX3_contains_156 (lv_at hl 3 rfl) ?_
                        refine lv_istore (lv' := [(4, .int (kI (ln_pos (st_ln S ln) (k + 1)))), (3, .int (kI (0))), (8, .int (kI (1))), (7, .int (kI (ln_lo (st_ln S ln) k))), (6, .int (kI (ln_pos (st_ln S ln) (k + 1)))), (0, .ref a), (1, .int (kI ((ln : Nat) : Int))), (2, .int (kI (q))), (5, .int (kI ((k : Nat) : Int)))]) hx hb dX3_contains_158 hl (by decide) rfl (fun ls hl => ?_)
                        refine lv_iinc (v := kI (((k + 1 : Nat) : Int))) (lv' := [(5, .int (kI ((k + 1 : Nat) : Int))), (4, .int (kI (ln_pos (st_ln S ln) (k + 1)))), (3, .int (kI (0))), (8, .int (kI (1))), (7, .int (kI (ln_lo (st_ln S ln) k))), (6, .int (kI (ln_pos (st_ln S ln) (k + 1)))), (0, .ref a), (1, .int (kI ((ln : Nat) : Int))), (2, .int (kI (q)))]) hx hb dX3_contains_160 hl (k := 8) rfl (kI_incN _ _) (by decide) rfl (fun ls hl => ?_)
                        refine lv_goto (tgt := 32) hx hb dX3_contains_163 (by decide) ?_
                        exact ih_32  (k + 1) false (by first | assumption | omega | (simp_all; done) | grind) (by first | (exfalso; omega) | skip; rw [ln_rayTo, ← hbb]; first | (rw [ray_t (by omega) (by omega) (by omega)]; grind) | (rw [ray_f1 (by omega)]; grind) | (rw [ray_f2 (by omega) (by omega)]; grind) | (rw [ray_f3 (by omega) (by omega)]; grind)) _ hS_34 (by omega) ls (lv_sub hl [6, 7, 8, 2, 1, 0] rfl)
                      · -- not taken at 147
                        refine kx_iconst hx hb dX3_contains_150 ?_
                        refine lv_goto (tgt := 155) hx hb dX3_contains_151 (by decide) ?_
                        refine lv_istore_n (lv' := [(3, .int (kI (1))), (8, .int (kI (1))), (7, .int (kI (ln_lo (st_ln S ln) k))), (6, .int (kI (ln_pos (st_ln S ln) (k + 1)))), (0, .ref a), (1, .int (kI ((ln : Nat) : Int))), (2, .int (kI (q))), (4, .int (kI (ln_pos (st_ln S ln) k))), (5, .int (kI ((k : Nat) : Int)))]) hx hb dX3_contains_155 rfl hl (by decide) rfl (fun ls hl => ?_)
                        refine lv_iload hx hb dX3_contains_156 (lv_at hl 3 rfl) ?_
                        refine lv_istore (lv' := [(4, .int (kI (ln_pos (st_ln S ln) (k + 1)))), (3, .int (kI (1))), (8, .int (kI (1))), (7, .int (kI (ln_lo (st_ln S ln) k))), (6, .int (kI (ln_pos (st_ln S ln) (k + 1)))), (0, .ref a), (1, .int (kI ((ln : Nat) : Int))), (2, .int (kI (q))), (5, .int (kI ((k : Nat) : Int)))]) hx hb dX3_contains_158 hl (by decide) rfl (fun ls hl => ?_)
                        refine lv_iinc (v := kI (((k + 1 : Nat) : Int))) (lv' := [(5, .int (kI ((k + 1 : Nat) : Int))), (4, .int (kI (ln_pos (st_ln S ln) (k + 1)))), (3, .int (kI (1))), (8, .int (kI (1))), (7, .int (kI (ln_lo (st_ln S ln) k))), (6, .int (kI (ln_pos (st_ln S ln) (k + 1)))), (0, .ref a), (1, .int (kI ((ln : Nat) : Int))), (2, .int (kI (q)))]) hx hb dX3_contains_160 hl (k := 8) rfl (kI_incN _ _) (by decide) rfl (fun ls hl => ?_)
                        refine lv_goto (tgt := 32) hx hb dX3_contains_163 (by decide) ?_
                        exact ih_32  (k + 1) true (by first | assumption | omega | (simp_all; done) | grind) (by first | (exfalso; omega) | skip; rw [ln_rayTo, ← hbb]; first | (rw [ray_t (by omega) (by omega) (by omega)]; grind) | (rw [ray_f1 (by omega)]; grind) | (rw [ray_f2 (by omega) (by omega)]; grind) | (rw [ray_f3 (by omega) (by omega)]; grind)) _ hS_34 (by omega) ls (lv_sub hl [6, 7, 8, 2, 1, 0] rfl)
      exact lp_32_x_15 (ln_n (st_ln S ln) - 0 + 1) 0 false (by first | assumption | omega | (simp_all; done) | grind) (rfl) _ hS_12 (Nat.lt_succ_self _) ls (lv_sub hl [3, 4, 5, 2, 1, 0] rfl)
    · -- not taken at 14
      refine kx_iconst hx hb dX3_contains_17 ?_
      exact kx_zret (z := false) hx hb hr hlk (⟨rfl, by unfold st_cont; grind⟩) hS_7 dX3_contains_18

set_option maxHeartbeats 4000000 in
set_option maxRecDepth 100000 in
theorem m_X3_slanting (l : Launch) (D : kG) (H : Heap) (a : Nat) (fs : List Value) (ra : Nat) (g : Nat → Int) (S : Ls) (gap : Int) (ln : Nat) (hO_a : kO D H a 2 fs) (hf_a_0 : fs[0]? = some (.ref ra)) (hA_ra : kAi D H ra 514 g) (hM : MRow g S gap) (hok : LsOK S gap) (hln : ln < S.length) : Met l yX3_slanting (ws_ yX3_slanting cX3_slanting 4 (some .int)) ({ frames := 1, cells := 0, slots := 0, locals := 22 } : Room) (kPre D H [.ref a, .int (kI ((ln : Nat) : Int))]) (kQi (fun (r : Int) H' => H' = H ∧ r = ln_sl (st_ln S ln)) kNO) (0) (0) (kNO) := by
  refine Met.ofW (cc := cX3_slanting) (maxL := 4) (ret := (some .int)) (by decide) rfl ?_
  intro p e s m args below meth c s₁ B hml hv
  obtain ⟨rfl, hH, hK⟩ := hv
  subst hH
  have hx := B.exec
  have hb := B.bytes
  have hr := B.returns
  have hts := atoms_spec (ws := ws_ yX3_slanting cX3_slanting 4 (some .int)) B.pre
  have hts : ∀ w ∈ lw_all, w.before _ s = true := fun w h => hts w (List.mem_cons_of_mem _ h)
  have hown : s.vm.findClass RX3 = some m.cls := findClass_of_methodNamed B.named
  have hlk := B.notSynchronized
  have hS : va_S kNO s.heap s.heap [] := va_S.rf
  have hB : ∀ q, kNO q → kBase D ≤ q := fun _ h => h.elim
  have hl := lv_entry ([.ref a, .int (kI ((ln : Nat) : Int))]) (n := 4) (Nat.le_of_ble_eq_true rfl)
  rw [lg_entry_eq]
  generalize (lg_sl ([.ref a, .int (kI ((ln : Nat) : Int))]) ++ List.replicate (4 - (lg_sl ([.ref a, .int (kI ((ln : Nat) : Int))])).length) Slot.unset).toArray = ls at hl ⊢
  have hl : lv_has ls 4 [(0, .ref a), (1, .int (kI ((ln : Nat) : Int)))] := hl
  have hL := hok.ln hln
  have hL60 := hL.n
  have hL8 := hok.1
  refine kx_iconst hx hb dX3_slanting_0 ?_
  refine lv_istore_n (lv' := [(2, .int (kI (0))), (0, .ref a), (1, .int (kI ((ln : Nat) : Int)))]) hx hb dX3_slanting_1 rfl hl (by decide) rfl (fun ls hl => ?_)
  refine kx_iconst hx hb dX3_slanting_2 ?_
  refine lv_istore_n (lv' := [(3, .int (kI (0))), (2, .int (kI (0))), (0, .ref a), (1, .int (kI ((ln : Nat) : Int)))]) hx hb dX3_slanting_3 rfl hl (by decide) rfl (fun ls hl => ?_)
  have lp_4_x_1 : ∀ (n_4 : Nat) (k : Nat) (sm : Int) (hk : k ≤ ln_n (st_ln S ln)) (hsm : sm = ln_slTo (st_ln S ln) k) (locs : List Loc) (hS : va_S kNO s.heap s.heap locs) (hm_4 : ln_n (st_ln S ln) - k < n_4) (ls : Array Slot), lv_has ls 4 [(0, .ref a), (1, .int (kI ((ln : Nat) : Int))), (2, .int (kI (sm))), (3, .int (kI ((k : Nat) : Int)))] → W p l e (headSpec (ws_ yX3_slanting cX3_slanting 4 (some .int)) ({ frames := 1, cells := 0, slots := 0, locals := 22 } : Room)).room s m ([.ref a, .int (kI ((ln : Nat) : Int))] : List Value).toArray below meth c s.heap locs (0) (0) (MQ below (kQi (fun (r : Int) H' => H' = s.heap ∧ r = ln_sl (st_ln S ln)) kNO) ([.ref a, .int (kI ((ln : Nat) : Int))] : List Value).toArray s (0) (0) (kNO)) (F0 m 4 ls []) := by
    intro n_4
    induction n_4 with
    | zero => intro k sm hk hsm locs hS hm_4; exact absurd hm_4 (Nat.not_lt_zero _)
    | succ n_4 ih_4 =>
      intro k sm hk hsm locs hS hm_4 ls hl
      refine lv_iload_n hx hb dX3_slanting_4 rfl (lv_at hl 3 rfl) ?_
      refine lv_aload_n hx hb dX3_slanting_5 rfl (lv_at hl 0 rfl) ?_
      refine lv_iload_n hx hb dX3_slanting_6 rfl (lv_at hl 1 rfl) ?_
      refine kx_iconst hx hb dX3_slanting_7 ?_
      refine kx_ci0 (va_runV (As := [.int (kI ((ln : Nat) : Int)), .int (kI (2))]) (rest := [.int (kI ((k : Nat) : Int))]) ⟨hx, hb, hml, hown, hts⟩ (of_n l D s.heap a fs ra g S gap ln hO_a hf_a_0 hA_ra (by first | assumption | omega) (by first | assumption | omega) (by first | assumption | omega)) (cwV 2 hts (lw_V q2304 q2306 qs40 q89 q2307) rfl rfl rfl (by decide +kernel) ⟨Nat.le_of_ble_eq_true rfl, Nat.le_of_ble_eq_true rfl⟩) (kx_pv hK hS hB (kx_rc hK hO_a (C := RX3) (T := TX3) (N := 13) rfl)) rfl rfl hl.1 rfl (lv_room (Nat.le_of_ble_eq_true rfl)) dX3_slanting_8 ⟨by first | exact Nat.le_of_ble_eq_true rfl | omega | (show _ ≤ _; omega) | (dsimp only [headSpec]; omega), by first | exact Nat.le_of_ble_eq_true rfl | omega | (show _ ≤ _; omega) | (dsimp only [headSpec]; omega)⟩) hS (fun z_5 locs_2 hz_4 hS_3 => ?_)
      subst z_5
      refine kx_icmp_ge (x := ((k : Nat) : Int)) (y := ((ln_n (st_ln S ln) : Nat) : Int)) (tgt := 33) hx hb dX3_slanting_11 (by decide) (by omega) (by omega) (by omega) (by omega) (fun c_11_6 => ?_) (fun c_11_6 => ?_)
      · -- taken at 11
        refine lv_iload_n hx hb dX3_slanting_33 rfl (lv_at hl 2 rfl) ?_
        exact kx_iret (z := sm) hx hb hr hlk (⟨rfl, by rw [hsm, ln_sl, show k = ln_n (st_ln S ln) by omega]⟩) hS_3 dX3_slanting_34
      · -- not taken at 11
        have hd := hL.d (k := k) (by omega)
        refine lv_iload_n hx hb dX3_slanting_14 rfl (lv_at hl 2 rfl) ?_
        refine lv_aload_n hx hb dX3_slanting_15 rfl (lv_at hl 0 rfl) ?_
        refine lv_iload_n hx hb dX3_slanting_16 rfl (lv_at hl 1 rfl) ?_
        refine kx_iconst hx hb dX3_slanting_17 ?_
        refine lv_iload_n hx hb dX3_slanting_18 rfl (lv_at hl 3 rfl) ?_
        refine kx_iadd hx hb dX3_slanting_19 ?_
        refine kx_ci0 (va_runV (As := [.int (kI ((ln : Nat) : Int)), .int (kI ((4 + ((k : Nat) : Int))))]) (rest := [.int (kI (sm))]) ⟨hx, hb, hml, hown, hts⟩ (of_d l D s.heap a fs ra g S gap ln ((4 + ((k : Nat) : Int))) k hO_a hf_a_0 hA_ra (by first | assumption | omega) (by first | assumption | omega) (by first | assumption | omega) (by first | assumption | omega) (by first | assumption | omega)) (cwV 2 hts (lw_V q2304 q2306 qs40 q89 q2307) rfl rfl rfl (by decide +kernel) ⟨Nat.le_of_ble_eq_true rfl, Nat.le_of_ble_eq_true rfl⟩) (kx_pv hK hS_3 hB (kx_rc hK hO_a (C := RX3) (T := TX3) (N := 13) rfl)) rfl rfl hl.1 rfl (lv_room (Nat.le_of_ble_eq_true rfl)) dX3_slanting_20 ⟨by first | exact Nat.le_of_ble_eq_true rfl | omega | (show _ ≤ _; omega) | (dsimp only [headSpec]; omega), by first | exact Nat.le_of_ble_eq_true rfl | omega | (show _ ≤ _; omega) | (dsimp only [headSpec]; omega)⟩) hS_3 (fun z_10 locs_7 hz_9 hS_8 => ?_)
        subst z_10
        refine kx_iconst hx hb dX3_slanting_23 ?_
        refine kx_irem (x := ln_d (st_ln S ln) k) (y := 2) hx hb (by omega) (by omega) (by omega) (by omega) dX3_slanting_24 ?_
        refine kx_iadd hx hb dX3_slanting_25 ?_
        refine lv_istore_n (lv' := [(2, .int (kI ((sm + (ln_d (st_ln S ln) k % 2))))), (0, .ref a), (1, .int (kI ((ln : Nat) : Int))), (3, .int (kI ((k : Nat) : Int)))]) hx hb dX3_slanting_26 rfl hl (by decide) rfl (fun ls hl => ?_)
        refine lv_iinc (v := kI (((k + 1 : Nat) : Int))) (lv' := [(3, .int (kI ((k + 1 : Nat) : Int))), (2, .int (kI ((sm + (ln_d (st_ln S ln) k % 2))))), (0, .ref a), (1, .int (kI ((ln : Nat) : Int)))]) hx hb dX3_slanting_27 hl (k := 3) rfl (kI_incN _ _) (by decide) rfl (fun ls hl => ?_)
        refine lv_goto (tgt := 4) hx hb dX3_slanting_30 (by decide) ?_
        exact ih_4  (k + 1) ((sm + (ln_d (st_ln S ln) k % 2))) (by first | assumption | omega | (simp_all; done) | grind) (by rw [ln_slTo, ← hsm]) _ hS_8 (by omega) ls (lv_sub hl [2, 3, 1, 0] rfl)
  exact lp_4_x_1 (ln_n (st_ln S ln) - 0 + 1) 0 0 (by first | assumption | omega | (simp_all; done) | grind) (rfl) _ hS (Nat.lt_succ_self _) ls (lv_sub hl [2, 3, 1, 0] rfl)

set_option maxHeartbeats 4000000 in
set_option maxRecDepth 100000 in
theorem m_X3_round (l : Launch) (D : kG) (H : Heap) (a : Nat) (fs : List Value) (ra : Nat) (g : Nat → Int) (S : Ls) (gap : Int) (ln : Nat) (hO_a : kO D H a 2 fs) (hf_a_0 : fs[0]? = some (.ref ra)) (hA_ra : kAi D H ra 514 g) (hM : MRow g S gap) (hok : LsOK S gap) (hln : ln < S.length) : Met l yX3_round (ws_ yX3_round cX3_round 5 (some .int)) ({ frames := 6, cells := 0, slots := 0, locals := 136 } : Room) (kPre D H [.ref a, .int (kI ((ln : Nat) : Int))]) (kQi (fun (r : Int) H' => H' = H ∧ r = st_round S ln) kNO) (0) (0) (kNO) := by
  refine Met.ofW (cc := cX3_round) (maxL := 5) (ret := (some .int)) (by decide) rfl ?_
  intro p e s m args below meth c s₁ B hml hv
  obtain ⟨rfl, hH, hK⟩ := hv
  subst hH
  have hx := B.exec
  have hb := B.bytes
  have hr := B.returns
  have hts := atoms_spec (ws := ws_ yX3_round cX3_round 5 (some .int)) B.pre
  have hts : ∀ w ∈ lw_all, w.before _ s = true := fun w h => hts w (List.mem_cons_of_mem _ h)
  have hown : s.vm.findClass RX3 = some m.cls := findClass_of_methodNamed B.named
  have hlk := B.notSynchronized
  have hS : va_S kNO s.heap s.heap [] := va_S.rf
  have hB : ∀ q, kNO q → kBase D ≤ q := fun _ h => h.elim
  have hl := lv_entry ([.ref a, .int (kI ((ln : Nat) : Int))]) (n := 5) (Nat.le_of_ble_eq_true rfl)
  rw [lg_entry_eq]
  generalize (lg_sl ([.ref a, .int (kI ((ln : Nat) : Int))]) ++ List.replicate (5 - (lg_sl ([.ref a, .int (kI ((ln : Nat) : Int))])).length) Slot.unset).toArray = ls at hl ⊢
  have hl : lv_has ls 5 [(0, .ref a), (1, .int (kI ((ln : Nat) : Int)))] := hl
  have hL8 := hok.1
  have hlen := hM.len
  have hL := hok.ln hln
  have hbg := hL.bg
  refine kx_iconst hx hb dX3_round_0 ?_
  refine lv_istore_n (lv' := [(2, .int (kI ((-1)))), (0, .ref a), (1, .int (kI ((ln : Nat) : Int)))]) hx hb dX3_round_1 rfl hl (by decide) rfl (fun ls hl => ?_)
  refine kx_iconst hx hb dX3_round_2 ?_
  refine lv_istore_n (lv' := [(3, .int (kI (0))), (2, .int (kI ((-1)))), (0, .ref a), (1, .int (kI ((ln : Nat) : Int)))]) hx hb dX3_round_3 rfl hl (by decide) rfl (fun ls hl => ?_)
  have lp_4_x_1 : ∀ (n_4 : Nat) (j : Nat) (f : Int) (hj : j ≤ S.length) (hfj : -1 ≤ f ∧ f < j) (hf : f = st_roundTo S ln j) (locs : List Loc) (hS : va_S kNO s.heap s.heap locs) (hm_4 : S.length - j < n_4) (ls : Array Slot), lv_has ls 5 [(0, .ref a), (1, .int (kI ((ln : Nat) : Int))), (2, .int (kI (f))), (3, .int (kI ((j : Nat) : Int)))] → W p l e (headSpec (ws_ yX3_round cX3_round 5 (some .int)) ({ frames := 6, cells := 0, slots := 0, locals := 136 } : Room)).room s m ([.ref a, .int (kI ((ln : Nat) : Int))] : List Value).toArray below meth c s.heap locs (0) (0) (MQ below (kQi (fun (r : Int) H' => H' = s.heap ∧ r = st_round S ln) kNO) ([.ref a, .int (kI ((ln : Nat) : Int))] : List Value).toArray s (0) (0) (kNO)) (F0 m 4 ls []) := by
    intro n_4
    induction n_4 with
    | zero => intro j f hj hfj hf locs hS hm_4; exact absurd hm_4 (Nat.not_lt_zero _)
    | succ n_4 ih_4 =>
      intro j f hj hfj hf locs hS hm_4 ls hl
      refine lv_iload_n hx hb dX3_round_4 rfl (lv_at hl 3 rfl) ?_
      refine lv_aload_n hx hb dX3_round_5 rfl (lv_at hl 0 rfl) ?_
      refine kx_get (v := .ref ra) (C := RX3) (T := TX3) (N := 13) hx hb hts in_X3 hown hK hO_a rfl 0 (by decide) q2238 (fun _ h9 => h9) hf_a_0 dX3_round_6 ?_
      refine kx_iconst hx hb dX3_round_9 ?_
      refine kx_iald (i := 0) hx hb hK hA_ra 0 (rfl) (by omega) (by omega) dX3_round_10 ?_
      refine kx_icmp_ge (x := ((j : Nat) : Int)) (y := (g 0)) (tgt := 63) hx hb dX3_round_11 (by decide) (by omega) (by omega) (by omega) (by omega) (fun c_11_2 => ?_) (fun c_11_2 => ?_)
      · -- taken at 11
        refine lv_iload_n hx hb dX3_round_63 rfl (lv_at hl 2 rfl) ?_
        exact kx_iret (z := f) hx hb hr hlk (⟨rfl, by rw [hf, st_round, show j = S.length by omega]⟩) hS dX3_round_64
      · -- not taken at 11
        have hj2 : j < S.length := by omega
        have hbj := (hok.ln hj2).bg
        refine lv_aload_n hx hb dX3_round_14 rfl (lv_at hl 0 rfl) ?_
        refine lv_iload_n hx hb dX3_round_15 rfl (lv_at hl 3 rfl) ?_
        refine lv_aload_n hx hb dX3_round_16 rfl (lv_at hl 0 rfl) ?_
        refine lv_iload_n hx hb dX3_round_17 rfl (lv_at hl 1 rfl) ?_
        refine kx_iconst hx hb dX3_round_18 ?_
        refine kx_ci0 (va_runV (As := [.int (kI ((ln : Nat) : Int)), .int (kI (1))]) (rest := [.int (kI ((j : Nat) : Int)), .ref a]) ⟨hx, hb, hml, hown, hts⟩ (of_bg l D s.heap a fs ra g S gap ln hO_a hf_a_0 hA_ra (by first | assumption | omega) (by first | assumption | omega) (by first | assumption | omega)) (cwV 2 hts (lw_V q2304 q2306 qs40 q89 q2307) rfl rfl rfl (by decide +kernel) ⟨Nat.le_of_ble_eq_true rfl, Nat.le_of_ble_eq_true rfl⟩) (kx_pv hK hS hB (kx_rc hK hO_a (C := RX3) (T := TX3) (N := 13) rfl)) rfl rfl hl.1 rfl (lv_room (Nat.le_of_ble_eq_true rfl)) dX3_round_19 ⟨by first | exact Nat.le_of_ble_eq_true rfl | omega | (show _ ≤ _; omega) | (dsimp only [headSpec]; omega), by first | exact Nat.le_of_ble_eq_true rfl | omega | (show _ ≤ _; omega) | (dsimp only [headSpec]; omega)⟩) hS (fun z_6 locs_3 hz_5 hS_4 => ?_)
        subst z_6
        refine kx_cb0 (va_runV (As := [.int (kI ((j : Nat) : Int)), .int (kI (ln_bg (st_ln S ln)))]) (rest := []) ⟨hx, hb, hml, hown, hts⟩ (m_X3_contains l D s.heap a fs ra g S gap j (ln_bg (st_ln S ln)) hO_a hf_a_0 hA_ra (by first | assumption | omega) (by first | assumption | omega) (by first | assumption | omega) (by first | assumption | omega)) (cwV 2 hts (lw_V q2560 q2562 qs70 q89 q2563) rfl rfl rfl (by decide +kernel) ⟨Nat.le_of_ble_eq_true rfl, Nat.le_of_ble_eq_true rfl⟩) (kx_pv hK hS_4 hB (kx_rc hK hO_a (C := RX3) (T := TX3) (N := 13) rfl)) rfl rfl hl.1 rfl (lv_room (Nat.le_of_ble_eq_true rfl)) dX3_round_22 ⟨by first | exact Nat.le_of_ble_eq_true rfl | omega | (show _ ≤ _; omega) | (dsimp only [headSpec]; omega), by first | exact Nat.le_of_ble_eq_true rfl | omega | (show _ ≤ _; omega) | (dsimp only [headSpec]; omega)⟩) hS_4 (fun z_10 locs_7 hz_9 hS_8 => ?_)
        subst z_10
        refine lv_istore (lv' := [(4, .int (kI (kb (st_cont S j (ln_bg (st_ln S ln)))))), (0, .ref a), (1, .int (kI ((ln : Nat) : Int))), (2, .int (kI (f))), (3, .int (kI ((j : Nat) : Int)))]) hx hb dX3_round_25 hl (by decide) rfl (fun ls hl => ?_)
        refine lv_iload hx hb dX3_round_27 (lv_at hl 0 rfl) ?_
        refine kx_ifz (tgt := 55) hx hb dX3_round_29 (by decide) (fun c_29_11 => ?_) (fun c_29_11 => ?_)
        · -- taken at 29
          refine lv_iload_n hx hb dX3_round_55 rfl (lv_at hl 3 rfl) ?_
          refine lv_istore_n (lv' := [(2, .int (kI (f))), (4, .int (kI (kb (st_cont S j (ln_bg (st_ln S ln)))))), (0, .ref a), (1, .int (kI ((ln : Nat) : Int))), (3, .int (kI ((j : Nat) : Int)))]) hx hb dX3_round_56 rfl hl (by decide) rfl (fun ls hl => ?_)
          refine lv_iinc (v := kI (((j + 1 : Nat) : Int))) (lv' := [(3, .int (kI ((j + 1 : Nat) : Int))), (2, .int (kI (f))), (4, .int (kI (kb (st_cont S j (ln_bg (st_ln S ln)))))), (0, .ref a), (1, .int (kI ((ln : Nat) : Int)))]) hx hb dX3_round_57 hl (k := 4) rfl (kI_incN _ _) (by decide) rfl (fun ls hl => ?_)
          refine lv_goto (tgt := 4) hx hb dX3_round_60 (by decide) ?_
          exact ih_4  (j + 1) f (by first | assumption | omega | (simp_all; done) | grind) (by first | assumption | omega | (simp_all; done) | grind) (by rw [st_roundTo, ← hf]; grind) _ hS_8 (by omega) ls (lv_sub hl [3, 4, 1, 0] rfl)
        · -- not taken at 29
          refine lv_iload_n hx hb dX3_round_32 rfl (lv_at hl 3 rfl) ?_
          refine kx_iconst hx hb dX3_round_33 ?_
          refine kx_icmp_eq (x := f) (y := (-1)) (tgt := 51) hx hb dX3_round_34 (by decide) (by omega) (by omega) (by omega) (by omega) (fun c_34_12 => ?_) (fun c_34_12 => ?_)
          · -- taken at 34
            refine lv_iload_n hx hb dX3_round_51 rfl (lv_at hl 4 rfl) ?_
            refine lv_goto (tgt := 56) hx hb dX3_round_52 (by decide) ?_
            refine lv_istore_n (lv' := [(2, .int (kI ((j : Nat) : Int))), (4, .int (kI (kb (st_cont S j (ln_bg (st_ln S ln)))))), (0, .ref a), (1, .int (kI ((ln : Nat) : Int))), (3, .int (kI ((j : Nat) : Int)))]) hx hb dX3_round_56 rfl hl (by decide) rfl (fun ls hl => ?_)
            refine lv_iinc (v := kI (((j + 1 : Nat) : Int))) (lv' := [(3, .int (kI ((j + 1 : Nat) : Int))), (2, .int (kI ((j : Nat) : Int))), (4, .int (kI (kb (st_cont S j (ln_bg (st_ln S ln)))))), (0, .ref a), (1, .int (kI ((ln : Nat) : Int)))]) hx hb dX3_round_57 hl (k := 4) rfl (kI_incN _ _) (by decide) rfl (fun ls hl => ?_)
            refine lv_goto (tgt := 4) hx hb dX3_round_60 (by decide) ?_
            exact ih_4  (j + 1) (((j : Nat) : Int)) (by first | assumption | omega | (simp_all; done) | grind) (by first | assumption | omega | (simp_all; done) | grind) (by rw [st_roundTo, ← hf]; grind) _ hS_8 (by omega) ls (lv_sub hl [3, 4, 1, 0] rfl)
          · -- not taken at 34
            refine lv_aload_n hx hb dX3_round_37 rfl (lv_at hl 1 rfl) ?_
            refine lv_iload_n hx hb dX3_round_38 rfl (lv_at hl 3 rfl) ?_
            refine kx_eqi (((f.toNat : Nat) : Int)) (by omega) ?_
            refine lv_aload_n hx hb dX3_round_39 rfl (lv_at hl 1 rfl) ?_
            refine lv_iload_n hx hb dX3_round_40 rfl (lv_at hl 4 rfl) ?_
            refine kx_iconst hx hb dX3_round_41 ?_
            refine kx_ci0 (va_runV (As := [.int (kI ((j : Nat) : Int)), .int (kI (1))]) (rest := [.int (kI ((f.toNat : Nat) : Int)), .ref a]) ⟨hx, hb, hml, hown, hts⟩ (of_bg l D s.heap a fs ra g S gap j hO_a hf_a_0 hA_ra (by first | assumption | omega) (by first | assumption | omega) (by first | assumption | omega)) (cwV 2 hts (lw_V q2304 q2306 qs40 q89 q2307) rfl rfl rfl (by decide +kernel) ⟨Nat.le_of_ble_eq_true rfl, Nat.le_of_ble_eq_true rfl⟩) (kx_pv hK hS_8 hB (kx_rc hK hO_a (C := RX3) (T := TX3) (N := 13) rfl)) rfl rfl hl.1 rfl (lv_room (Nat.le_of_ble_eq_true rfl)) dX3_round_42 ⟨by first | exact Nat.le_of_ble_eq_true rfl | omega | (show _ ≤ _; omega) | (dsimp only [headSpec]; omega), by first | exact Nat.le_of_ble_eq_true rfl | omega | (show _ ≤ _; omega) | (dsimp only [headSpec]; omega)⟩) hS_8 (fun z_16 locs_13 hz_15 hS_14 => ?_)
            subst z_16
            refine kx_cb0 (va_runV (As := [.int (kI ((f.toNat : Nat) : Int)), .int (kI (ln_bg (st_ln S j)))]) (rest := []) ⟨hx, hb, hml, hown, hts⟩ (m_X3_contains l D s.heap a fs ra g S gap f.toNat (ln_bg (st_ln S j)) hO_a hf_a_0 hA_ra (by first | assumption | omega) (by first | assumption | omega) (by first | assumption | omega) (by first | assumption | omega)) (cwV 2 hts (lw_V q2560 q2562 qs70 q89 q2563) rfl rfl rfl (by decide +kernel) ⟨Nat.le_of_ble_eq_true rfl, Nat.le_of_ble_eq_true rfl⟩) (kx_pv hK hS_14 hB (kx_rc hK hO_a (C := RX3) (T := TX3) (N := 13) rfl)) rfl rfl hl.1 rfl (lv_room (Nat.le_of_ble_eq_true rfl)) dX3_round_45 ⟨by first | exact Nat.le_of_ble_eq_true rfl | omega | (show _ ≤ _; omega) | (dsimp only [headSpec]; omega), by first | exact Nat.le_of_ble_eq_true rfl | omega | (show _ ≤ _; omega) | (dsimp only [headSpec]; omega)⟩) hS_14 (fun z_20 locs_17 hz_19 hS_18 => ?_)
            subst z_20
            refine kx_ifz (tgt := 55) hx hb dX3_round_48 (by decide) (fun c_48_21 => ?_) (fun c_48_21 => ?_)
            · -- taken at 48
              refine lv_iload_n hx hb dX3_round_55 rfl (lv_at hl 3 rfl) ?_
              refine lv_istore_n (lv' := [(2, .int (kI (f))), (4, .int (kI (kb (st_cont S j (ln_bg (st_ln S ln)))))), (0, .ref a), (1, .int (kI ((ln : Nat) : Int))), (3, .int (kI ((j : Nat) : Int)))]) hx hb dX3_round_56 rfl hl (by decide) rfl (fun ls hl => ?_)
              refine lv_iinc (v := kI (((j + 1 : Nat) : Int))) (lv' := [(3, .int (kI ((j + 1 : Nat) : Int))), (2, .int (kI (f))), (4, .int (kI (kb (st_cont S j (ln_bg (st_ln S ln)))))), (0, .ref a), (1, .int (kI ((ln : Nat) : Int)))]) hx hb dX3_round_57 hl (k := 4) rfl (kI_incN _ _) (by decide) rfl (fun ls hl => ?_)
              refine lv_goto (tgt := 4) hx hb dX3_round_60 (by decide) ?_
              exact ih_4  (j + 1) f (by first | assumption | omega | (simp_all; done) | grind) (by first | assumption | omega | (simp_all; done) | grind) (by rw [st_roundTo, ← hf]; grind) _ hS_18 (by omega) ls (lv_sub hl [3, 4, 1, 0] rfl)
            · -- not taken at 48
              refine lv_iload_n hx hb dX3_round_51 rfl (lv_at hl 4 rfl) ?_
              refine lv_goto (tgt := 56) hx hb dX3_round_52 (by decide) ?_
              refine lv_istore_n (lv' := [(2, .int (kI ((j : Nat) : Int))), (4, .int (kI (kb (st_cont S j (ln_bg (st_ln S ln)))))), (0, .ref a), (1, .int (kI ((ln : Nat) : Int))), (3, .int (kI ((j : Nat) : Int)))]) hx hb dX3_round_56 rfl hl (by decide) rfl (fun ls hl => ?_)
              refine lv_iinc (v := kI (((j + 1 : Nat) : Int))) (lv' := [(3, .int (kI ((j + 1 : Nat) : Int))), (2, .int (kI ((j : Nat) : Int))), (4, .int (kI (kb (st_cont S j (ln_bg (st_ln S ln)))))), (0, .ref a), (1, .int (kI ((ln : Nat) : Int)))]) hx hb dX3_round_57 hl (k := 4) rfl (kI_incN _ _) (by decide) rfl (fun ls hl => ?_)
              refine lv_goto (tgt := 4) hx hb dX3_round_60 (by decide) ?_
              exact ih_4  (j + 1) (((j : Nat) : Int)) (by first | assumption | omega | (simp_all; done) | grind) (by first | assumption | omega | (simp_all; done) | grind) (by rw [st_roundTo, ← hf]; grind) _ hS_18 (by omega) ls (lv_sub hl [3, 4, 1, 0] rfl)
  exact lp_4_x_1 (S.length - 0 + 1) 0 ((-1)) (by first | assumption | omega | (simp_all; done) | grind) (by first | assumption | omega | (simp_all; done) | grind) (rfl) _ hS (Nat.lt_succ_self _) ls (lv_sub hl [2, 3, 1, 0] rfl)

