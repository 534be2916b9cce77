/-! MATH 7: what is saved -/
abbrev Sg : Type := Ls × Int
def sg_at (h : List Sg) (i : Nat) : Sg := h.getD i ([], 2)
def MHist (gs : Nat → Int) (h : List Sg) (sn : Nat) : Prop := sn = h.length ∧ sn ≤ 5 ∧ ∀ i, i < h.length → LsOK (sg_at h i).1 (sg_at h i).2 ∧ MRow (fun k => gs (514 * i + k)) (sg_at h i).1 (sg_at h i).2
def pushH (h : List Sg) (x : Sg) : List Sg := (if h.length = 5 then h.drop 1 else h) ++ [x]
theorem pushH_len (h : List Sg) (x : Sg) (h5 : h.length ≤ 5) : (pushH h x).length = (if h.length = 5 then 4 else h.length) + 1 := by
  unfold pushH
  split <;> simp [*]
theorem pushH_at (h : List Sg) (x : Sg) (h5 : h.length ≤ 5) (i : Nat) (hi : i < (pushH h x).length) : sg_at (pushH h x) i = if i = (if h.length = 5 then 4 else h.length) then x else sg_at h (i + (if h.length = 5 then 1 else 0)) := by
  rw [pushH_len h x h5] at hi
  unfold sg_at pushH
  rw [List.getD_eq_getElem?_getD, List.getD_eq_getElem?_getD]
  by_cases q : h.length = 5
  · rw [if_pos q, if_pos q, if_pos q]
    rw [if_pos q] at hi
    by_cases z : i = 4
    · subst z
      rw [if_pos rfl, List.getElem?_append_right (by simp [q])]
      simp [q]
    · rw [if_neg z, List.getElem?_append_left (by simp [q]; omega), List.getElem?_drop, Nat.add_comm]
  · rw [if_neg q, if_neg q, if_neg q]
    rw [if_neg q] at hi
    by_cases z : i = h.length
    · subst z
      rw [if_pos rfl, List.getElem?_append_right (Nat.le_refl _)]
      simp
    · rw [if_neg z, List.getElem?_append_left (by omega), Nat.add_zero]
theorem LsOK.ns {S : Ls} {gap : Int} (h : LsOK S gap) : ∀ k, k < S.length → ln_n (st_ln S k) ≤ 60 := fun k hk => (h.ln hk).n
theorem MHist.push {gs gs2 g : Nat → Int} {h : List Sg} {sn sn2 : Nat} {S : Ls} {gap : Int} (hH : MHist gs h sn) (hok : LsOK S gap) (hM : MRow g S gap) (hs1 : sn2 = (if sn = 5 then 4 else sn) + 1) (hs2 : ∀ j, j < 514 * (if sn = 5 then 4 else sn) → gs2 j = gs (j + 514 * (if sn = 5 then 1 else 0))) (hs3 : ∀ j, j < 514 → gs2 (514 * (if sn = 5 then 4 else sn) + j) = g j) : MHist gs2 (pushH h (S, gap)) sn2 := by
  obtain ⟨h1, h5, h2⟩ := hH
  have h5' : h.length ≤ 5 := by omega
  refine ⟨by rw [pushH_len h _ h5', hs1, h1], by rw [hs1]; split <;> omega, fun i hi => ?_⟩
  rw [pushH_at h _ h5' i hi]
  rw [pushH_len h _ h5'] at hi
  rw [← h1] at hi ⊢
  by_cases z : i = (if sn = 5 then 4 else sn)
  · rw [if_pos z]
    refine ⟨hok, hM.congr hok.1 hok.ns (fun j hj => ?_)⟩
    show gs2 (514 * i + j) = g j
    rw [z]; exact hs3 j hj
  · rw [if_neg z]
    have hi2 : i < (if sn = 5 then 4 else sn) := by omega
    have hi3 : i + (if sn = 5 then 1 else 0) < h.length := by rw [← h1]; split <;> (split at hi2 <;> omega)
    obtain ⟨q1, q2⟩ := h2 _ hi3
    refine ⟨q1, q2.congr q1.1 q1.ns (fun j hj => ?_)⟩
    show gs2 (514 * i + j) = gs (514 * (i + (if sn = 5 then 1 else 0)) + j)
    rw [hs2 _ (by omega)]
    congr 1
    omega
theorem ln_d_lb (L : Ln) (v : Int) (k : Nat) : ln_d (w_lb L v) k = ln_d L k := rfl
theorem ln_n_lb (L : Ln) (v : Int) : ln_n (w_lb L v) = ln_n L := rfl
theorem ln_cl_lb (L : Ln) (v : Int) : ln_cl (w_lb L v) = ln_cl L := by unfold ln_cl ln_end; rw [ln_n_lb, ln_pos_lb]; rfl
theorem ln_bend_lb (L : Ln) (v : Int) (k : Nat) : ln_bend (w_lb L v) k = ln_bend L k := by unfold ln_bend; rw [ln_cl_lb]; rfl
theorem ln_bendsTo_lb (L : Ln) (v p : Int) (j : Nat) : ln_bendsTo (w_lb L v) p j = ln_bendsTo L p j := by
  induction j with
  | zero => rfl
  | succ j ih => rw [ln_bendsTo, ln_bendsTo, ih, ln_bend_lb]; rfl
theorem ln_bends_lb (L : Ln) (v p : Int) : ln_bends (w_lb L v) p = ln_bends L p := ln_bendsTo_lb L v p _
theorem MRow.step1 {g : Nat → Int} {S : Ls} {gap : Int} (h : MRow g S gap) (hok : LsOK S gap) {k : Nat} (hk : k < S.length) (hn : ln_n (st_ln S k) < 60) (d : Int) : MRow (kup g (2 + 64 * k + 4 + ln_n (st_ln S k)) d) S gap := by
  refine ⟨by rw [kup_ne (by omega)]; exact h.len, by rw [kup_ne (by omega)]; exact h.gap, fun j hj => ?_⟩
  have := (hok.ln hj).n
  refine ⟨by rw [kup_ne (by omega)]; exact h.lv hj, by rw [kup_ne (by omega)]; exact h.bg hj, by rw [kup_ne (by omega)]; exact h.n hj, by rw [kup_ne (by omega)]; exact h.lb hj, fun i hi => ?_⟩
  by_cases q : j = k
  · subst q; rw [kup_ne (by omega)]; exact h.d hj hi
  · rw [kup_ne (by omega)]; exact h.d hj hi
set_option maxHeartbeats 4000000 in
set_option maxRecDepth 100000 in
theorem m_do_b (l : Launch) (D : kG) (H : Heap) (a : Nat) (fs : List Value) (ra : Nat) (g : Nat → Int) (S : Ls) (gap : Int) (x : Int) (y : Int) (hO_a : kO D H a 2 fs) (hf_a_0 : fs[0]? = some (.ref ra)) (hA_ra : kAi D H ra 514 g) (hM : MRow g S gap) (hok : LsOK S gap) (ne_a_ra : a ≠ ra) (bs_ra : kBase D ≤ ra) (hl8 : S.length < 8) : Met l yX3_does (ws_ yX3_does cX3_does 6 (some .int)) ({ frames := 1, cells := 0, slots := 0, locals := 23 } : Room) (kPre D H [.ref a, .int (kI (110)), .int (kI (x)), .int (kI (y))]) (kQi (fun (r : Int) H' => ∃ (g2 : Nat → Int), (r = ((S.length : Nat) : Int)) ∧ (kAi D H' ra 514 g2) ∧ (MRow g2 (S ++ [w_new x y]) gap)) (fun q : Nat => q = ra)) (0) (0) ((fun q : Nat => q = ra)) := by
  refine Met.ofW (cc := cX3_does) (maxL := 6) (ret := (some .int)) (by decide) rfl ?_
  intro p e s m args below meth c s₁ B hml hv
  obtain ⟨rfl, hH, hK⟩ := hv
  subst hH
  have hx := B.exec
  have hb := B.bytes
  have hr := B.returns
  have hts := atoms_spec (ws := ws_ yX3_does cX3_does 6 (some .int)) B.pre
  have hts : ∀ w ∈ lw_all, w.before _ s = true := fun w h => hts w (List.mem_cons_of_mem _ h)
  have hown : s.vm.findClass RX3 = some m.cls := findClass_of_methodNamed B.named
  have hlk := B.notSynchronized
  have hS : va_S (fun q : Nat => q = ra) s.heap s.heap [] := va_S.rf
  have hB : ∀ q, (fun q : Nat => q = ra) q → kBase D ≤ q := fun q h => by (try dsimp only at h); (try simp only [kNW] at h); have hks := hK.size; omega
  have hl := lv_entry ([.ref a, .int (kI (110)), .int (kI (x)), .int (kI (y))]) (n := 6) (Nat.le_of_ble_eq_true rfl)
  rw [lg_entry_eq]
  generalize (lg_sl ([.ref a, .int (kI (110)), .int (kI (x)), .int (kI (y))]) ++ List.replicate (6 - (lg_sl ([.ref a, .int (kI (110)), .int (kI (x)), .int (kI (y))])).length) Slot.unset).toArray = ls at hl ⊢
  have hl : lv_has ls 6 [(0, .ref a), (1, .int (kI (110))), (2, .int (kI (x))), (3, .int (kI (y)))] := hl
  refine kx_iconst hx hb dX3_does_0 ?_
  refine lv_istore (lv' := [(4, .int (kI (0))), (0, .ref a), (1, .int (kI (110))), (2, .int (kI (x))), (3, .int (kI (y)))]) hx hb dX3_does_1 hl (by decide) rfl (fun ls hl => ?_)
  refine lv_iload_n hx hb dX3_does_3 rfl (lv_at hl 2 rfl) ?_
  refine lv_tableIn (off := 108) (tgt := 112) hx hb dX3_does_4 (by decide) (by decide) (by decide) (by decide) ?_
  refine lv_aload_n hx hb dX3_does_112 rfl (lv_at hl 1 rfl) ?_
  refine kx_get (v := .ref ra) (C := RX3) (T := TX3) (N := 13) hx hb hts in_X3 hown hK hO_a rfl 0 (by decide) q2238 (fun _ h9 => h9) hf_a_0 dX3_does_113 ?_
  refine kx_iconst hx hb dX3_does_116 ?_
  refine kx_iald (i := 0) hx hb hK hA_ra 0 (rfl) (by omega) (by omega) dX3_does_117 ?_
  refine kx_eqi (((S.length : Nat) : Int)) (hM.len) ?_
  refine lv_istore (lv' := [(5, .int (kI ((S.length : Nat) : Int))), (4, .int (kI (0))), (0, .ref a), (1, .int (kI (110))), (2, .int (kI (x))), (3, .int (kI (y)))]) hx hb dX3_does_118 hl (by decide) rfl (fun ls hl => ?_)
  refine lv_aload_n hx hb dX3_does_120 rfl (lv_at hl 2 rfl) ?_
  refine kx_get (v := .ref ra) (C := RX3) (T := TX3) (N := 13) hx hb hts in_X3 hown hK hO_a rfl 0 (by decide) q2238 (fun _ h9 => h9) hf_a_0 dX3_does_121 ?_
  refine kx_iconst hx hb dX3_does_124 ?_
  refine lv_dup2_11 hx hb dX3_does_125 rfl rfl ?_
  refine kx_iald (i := 0) hx hb hK hA_ra 0 (rfl) (by omega) (by omega) dX3_does_126 ?_
  refine kx_iconst hx hb dX3_does_127 ?_
  refine kx_iadd hx hb dX3_does_128 ?_
  refine kx_eqi (((S.length : Int) + 1)) (by rw [hM.len]) ?_
  refine kx_iast (i := 0) (x := ((S.length : Int) + 1)) hx hb hK hA_ra hS (by first | rfl | exact Or.inl rfl | exact Or.inr rfl | exact Or.inr (Or.inl rfl) | exact Or.inr (Or.inr rfl) | exact Or.inr (Or.inr (Or.inl rfl)) | exact Or.inr (Or.inr (Or.inr rfl)) | ((try dsimp only); (try simp only [kNW]); omega)) 0 (rfl) (by omega) (by omega) dX3_does_129 (fun H_3 locs_4 hA_2 hU_1 hS_5 => ?_)
  refine lv_aload_n hx hb dX3_does_130 rfl (lv_at hl 2 rfl) ?_
  refine lv_iload hx hb dX3_does_131 (lv_at hl 0 rfl) ?_
  refine kx_iconst hx hb dX3_does_133 ?_
  refine lv_iload_n hx hb dX3_does_134 rfl (lv_at hl 4 rfl) ?_
  have h_6 := hO_a.up hU_1 (by first | assumption | exact Ne.symm (by assumption) | omega)
  refine kx_cv (va_runV (As := [.int (kI ((S.length : Nat) : Int)), .int (kI (0)), .int (kI (x))]) (rest := []) ⟨hx, hb, hml, hown, hts⟩ (m_X3_puts l D H_3 a fs ra (kup g 0 (((S.length : Int) + 1))) (((S.length : Nat) : Int)) 0 x (2 + 64 * S.length) h_6 hf_a_0 hA_2 (by first | assumption | omega) (by first | assumption | omega) (by first | assumption | omega)) (cwV 3 hts (lw_V q2391 q2393 qs58 q89 q2394) rfl rfl rfl (by decide +kernel) ⟨Nat.le_of_ble_eq_true rfl, Nat.le_of_ble_eq_true rfl⟩) (kx_pv hK hS_5 hB (kx_rc hK h_6 (C := RX3) (T := TX3) (N := 13) rfl)) rfl rfl hl.1 rfl (lv_room (Nat.le_of_ble_eq_true rfl)) dX3_does_135 ⟨by first | exact Nat.le_of_ble_eq_true rfl | omega | (show _ ≤ _; omega) | (dsimp only [headSpec]; omega), by first | exact Nat.le_of_ble_eq_true rfl | omega | (show _ ≤ _; omega) | (dsimp only [headSpec]; omega)⟩) hS_5 (fun q _ h => by (try dsimp only at h); (try dsimp only); (try simp only [kNW] at h); (try simp only [kNW]); omega) (fun q h => by (try dsimp only at h); (try dsimp only); (try simp only [kNW] at h); (try simp only [kNW]); omega) (fun H_10 locs_7 hz_9 hF_11 hS_8 => ?_)
  refine W.widen (k := 0) (n := 0) (Nat.le_of_ble_eq_true rfl) (Nat.le_of_ble_eq_true rfl) ?_
  have ho_13 := hz_9
  refine lv_aload_n hx hb dX3_does_138 rfl (lv_at hl 2 rfl) ?_
  refine lv_iload hx hb dX3_does_139 (lv_at hl 0 rfl) ?_
  refine kx_iconst hx hb dX3_does_141 ?_
  refine lv_iload_n hx hb dX3_does_142 rfl (lv_at hl 5 rfl) ?_
  have h_14 := h_6.fr hF_11 (fun h => by (try dsimp only at h); (try simp only [kNW] at h); omega)
  refine kx_cv (va_runV (As := [.int (kI ((S.length : Nat) : Int)), .int (kI (1)), .int (kI (y))]) (rest := []) ⟨hx, hb, hml, hown, hts⟩ (m_X3_puts l D H_10 a fs ra (kup ((kup g 0 (((S.length : Int) + 1)))) (2 + 64 * S.length) x) (((S.length : Nat) : Int)) 1 y (2 + 64 * S.length + 1) h_14 hf_a_0 ho_13 (by first | assumption | omega) (by first | assumption | omega) (by first | assumption | omega)) (cwV 3 hts (lw_V q2391 q2393 qs58 q89 q2394) rfl rfl rfl (by decide +kernel) ⟨Nat.le_of_ble_eq_true rfl, Nat.le_of_ble_eq_true rfl⟩) (kx_pv hK hS_8 hB (kx_rc hK h_14 (C := RX3) (T := TX3) (N := 13) rfl)) rfl rfl hl.1 rfl (lv_room (Nat.le_of_ble_eq_true rfl)) dX3_does_143 ⟨by first | exact Nat.le_of_ble_eq_true rfl | omega | (show _ ≤ _; omega) | (dsimp only [headSpec]; omega), by first | exact Nat.le_of_ble_eq_true rfl | omega | (show _ ≤ _; omega) | (dsimp only [headSpec]; omega)⟩) hS_8 (fun q _ h => by (try dsimp only at h); (try dsimp only); (try simp only [kNW] at h); (try simp only [kNW]); omega) (fun q h => by (try dsimp only at h); (try dsimp only); (try simp only [kNW] at h); (try simp only [kNW]); omega) (fun H_18 locs_15 hz_17 hF_19 hS_16 => ?_)
  refine W.widen (k := 0) (n := 0) (Nat.le_of_ble_eq_true rfl) (Nat.le_of_ble_eq_true rfl) ?_
  have ho_21 := hz_17
  refine lv_aload_n hx hb dX3_does_146 rfl (lv_at hl 2 rfl) ?_
  refine lv_iload hx hb dX3_does_147 (lv_at hl 0 rfl) ?_
  refine kx_iconst hx hb dX3_does_149 ?_
  refine kx_iconst hx hb dX3_does_150 ?_
  have h_22 := h_14.fr hF_19 (fun h => by (try dsimp only at h); (try simp only [kNW] at h); omega)
  refine kx_cv (va_runV (As := [.int (kI ((S.length : Nat) : Int)), .int (kI (2)), .int (kI (0))]) (rest := []) ⟨hx, hb, hml, hown, hts⟩ (m_X3_puts l D H_18 a fs ra (kup ((kup ((kup g 0 (((S.length : Int) + 1)))) (2 + 64 * S.length) x)) (2 + 64 * S.length + 1) y) (((S.length : Nat) : Int)) 2 0 (2 + 64 * S.length + 2) h_22 hf_a_0 ho_21 (by first | assumption | omega) (by first | assumption | omega) (by first | assumption | omega)) (cwV 3 hts (lw_V q2391 q2393 qs58 q89 q2394) rfl rfl rfl (by decide +kernel) ⟨Nat.le_of_ble_eq_true rfl, Nat.le_of_ble_eq_true rfl⟩) (kx_pv hK hS_16 hB (kx_rc hK h_22 (C := RX3) (T := TX3) (N := 13) rfl)) rfl rfl hl.1 rfl (lv_room (Nat.le_of_ble_eq_true rfl)) dX3_does_151 ⟨by first | exact Nat.le_of_ble_eq_true rfl | omega | (show _ ≤ _; omega) | (dsimp only [headSpec]; omega), by first | exact Nat.le_of_ble_eq_true rfl | omega | (show _ ≤ _; omega) | (dsimp only [headSpec]; omega)⟩) hS_16 (fun q _ h => by (try dsimp only at h); (try dsimp only); (try simp only [kNW] at h); (try simp only [kNW]); omega) (fun q h => by (try dsimp only at h); (try dsimp only); (try simp only [kNW] at h); (try simp only [kNW]); omega) (fun H_26 locs_23 hz_25 hF_27 hS_24 => ?_)
  refine W.widen (k := 0) (n := 0) (Nat.le_of_ble_eq_true rfl) (Nat.le_of_ble_eq_true rfl) ?_
  have ho_29 := hz_25
  refine lv_aload_n hx hb dX3_does_154 rfl (lv_at hl 2 rfl) ?_
  refine lv_iload hx hb dX3_does_155 (lv_at hl 0 rfl) ?_
  refine kx_iconst hx hb dX3_does_157 ?_
  refine kx_iconst hx hb dX3_does_158 ?_
  have h_30 := h_22.fr hF_27 (fun h => by (try dsimp only at h); (try simp only [kNW] at h); omega)
  refine kx_cv (va_runV (As := [.int (kI ((S.length : Nat) : Int)), .int (kI (3)), .int (kI ((-1)))]) (rest := []) ⟨hx, hb, hml, hown, hts⟩ (m_X3_puts l D H_26 a fs ra (kup ((kup ((kup ((kup g 0 (((S.length : Int) + 1)))) (2 + 64 * S.length) x)) (2 + 64 * S.length + 1) y)) (2 + 64 * S.length + 2) 0) (((S.length : Nat) : Int)) 3 ((-1)) (2 + 64 * S.length + 3) h_30 hf_a_0 ho_29 (by first | assumption | omega) (by first | assumption | omega) (by first | assumption | omega)) (cwV 3 hts (lw_V q2391 q2393 qs58 q89 q2394) rfl rfl rfl (by decide +kernel) ⟨Nat.le_of_ble_eq_true rfl, Nat.le_of_ble_eq_true rfl⟩) (kx_pv hK hS_24 hB (kx_rc hK h_30 (C := RX3) (T := TX3) (N := 13) rfl)) rfl rfl hl.1 rfl (lv_room (Nat.le_of_ble_eq_true rfl)) dX3_does_159 ⟨by first | exact Nat.le_of_ble_eq_true rfl | omega | (show _ ≤ _; omega) | (dsimp only [headSpec]; omega), by first | exact Nat.le_of_ble_eq_true rfl | omega | (show _ ≤ _; omega) | (dsimp only [headSpec]; omega)⟩) hS_24 (fun q _ h => by (try dsimp only at h); (try dsimp only); (try simp only [kNW] at h); (try simp only [kNW]); omega) (fun q h => by (try dsimp only at h); (try dsimp only); (try simp only [kNW] at h); (try simp only [kNW]); omega) (fun H_34 locs_31 hz_33 hF_35 hS_32 => ?_)
  refine W.widen (k := 0) (n := 0) (Nat.le_of_ble_eq_true rfl) (Nat.le_of_ble_eq_true rfl) ?_
  have ho_37 := hz_33
  refine lv_iload hx hb dX3_does_162 (lv_at hl 0 rfl) ?_
  exact kx_iret (z := ((S.length : Nat) : Int)) hx hb hr hlk (⟨(kup ((kup ((kup ((kup ((kup g 0 (((S.length : Int) + 1)))) (2 + 64 * S.length) x)) (2 + 64 * S.length + 1) y)) (2 + 64 * S.length + 2) 0)) (2 + 64 * S.length + 3) (((-1)))), by rfl, ho_37, by exact hM.push hok x y (by rw [kup_ne (by omega), kup_ne (by omega), kup_ne (by omega), kup_ne (by omega), kup_self]) (by rw [kup_ne (by omega), kup_ne (by omega), kup_ne (by omega), kup_self]) (by rw [kup_ne (by omega), kup_ne (by omega), kup_self]) (by rw [kup_ne (by omega), kup_self]) (by rw [kup_self]) (fun j h0 hj => by rw [kup_ne (by omega), kup_ne (by omega), kup_ne (by omega), kup_ne (by omega), kup_ne (by omega)])⟩) hS_32 dX3_does_164

set_option maxHeartbeats 4000000 in
set_option maxRecDepth 100000 in
theorem m_do_s (l : Launch) (D : kG) (H : Heap) (a : Nat) (fs : List Value) (ra : Nat) (g : Nat → Int) (S : Ls) (gap : Int) (ln : Nat) (y : Int) (hO_a : kO D H a 2 fs) (hf_a_0 : fs[0]? = some (.ref ra)) (hA_ra : kAi D H ra 514 g) (hM : MRow g S gap) (hok : LsOK S gap) (ne_a_ra : a ≠ ra) (bs_ra : kBase D ≤ ra) (hln : ln < S.length) (hn : ln_n (st_ln S ln) < 60) (hy : 0 ≤ y ∧ y ≤ 7) (hnx : nx (ln_end (st_ln S ln)) y ≠ -1) : Met l yX3_does (ws_ yX3_does cX3_does 6 (some .int)) ({ frames := 5, cells := 0, slots := 0, locals := 108 } : Room) (kPre D H [.ref a, .int (kI (115)), .int (kI ((ln : Nat) : Int)), .int (kI (y))]) (kQi (fun (r : Int) H' => ∃ (g2 : Nat → Int), (r = kb (ln_cl (w_step (st_ln S ln) y))) ∧ (kAi D H' ra 514 g2) ∧ (MRow g2 (S.set ln (w_step (st_ln S ln) y)) gap)) (fun q : Nat => q = ra)) (0) (0) ((fun q : Nat => q = ra)) := by
  refine Met.ofW (cc := cX3_does) (maxL := 6) (ret := (some .int)) (by decide) rfl ?_
  intro p e s m args below meth c s₁ B hml hv
  obtain ⟨rfl, hH, hK⟩ := hv
  subst hH
  have hx := B.exec
  have hb := B.bytes
  have hr := B.returns
  have hts := atoms_spec (ws := ws_ yX3_does cX3_does 6 (some .int)) B.pre
  have hts : ∀ w ∈ lw_all, w.before _ s = true := fun w h => hts w (List.mem_cons_of_mem _ h)
  have hown : s.vm.findClass RX3 = some m.cls := findClass_of_methodNamed B.named
  have hlk := B.notSynchronized
  have hS : va_S (fun q : Nat => q = ra) s.heap s.heap [] := va_S.rf
  have hB : ∀ q, (fun q : Nat => q = ra) q → kBase D ≤ q := fun q h => by (try dsimp only at h); (try simp only [kNW] at h); have hks := hK.size; omega
  have hl := lv_entry ([.ref a, .int (kI (115)), .int (kI ((ln : Nat) : Int)), .int (kI (y))]) (n := 6) (Nat.le_of_ble_eq_true rfl)
  rw [lg_entry_eq]
  generalize (lg_sl ([.ref a, .int (kI (115)), .int (kI ((ln : Nat) : Int)), .int (kI (y))]) ++ List.replicate (6 - (lg_sl ([.ref a, .int (kI (115)), .int (kI ((ln : Nat) : Int)), .int (kI (y))])).length) Slot.unset).toArray = ls at hl ⊢
  have hl : lv_has ls 6 [(0, .ref a), (1, .int (kI (115))), (2, .int (kI ((ln : Nat) : Int))), (3, .int (kI (y)))] := hl
  have hL := hok.ln hln
  have hL60 := hL.n
  have hL8 := hok.1
  have hset : (S.set ln (w_step (st_ln S ln) y)).length = S.length := List.length_set
  have hse : st_ln (S.set ln (w_step (st_ln S ln) y)) ln = w_step (st_ln S ln) y := by rw [st_ln_set hln, if_pos rfl]
  refine kx_iconst hx hb dX3_does_0 ?_
  refine lv_istore (lv' := [(4, .int (kI (0))), (0, .ref a), (1, .int (kI (115))), (2, .int (kI ((ln : Nat) : Int))), (3, .int (kI (y)))]) hx hb dX3_does_1 hl (by decide) rfl (fun ls hl => ?_)
  refine lv_iload_n hx hb dX3_does_3 rfl (lv_at hl 2 rfl) ?_
  refine lv_tableIn (off := 161) (tgt := 165) hx hb dX3_does_4 (by decide) (by decide) (by decide) (by decide) ?_
  refine lv_aload_n hx hb dX3_does_165 rfl (lv_at hl 1 rfl) ?_
  refine lv_iload_n hx hb dX3_does_166 rfl (lv_at hl 3 rfl) ?_
  refine kx_iconst hx hb dX3_does_167 ?_
  refine lv_aload_n hx hb dX3_does_168 rfl (lv_at hl 1 rfl) ?_
  refine lv_iload_n hx hb dX3_does_169 rfl (lv_at hl 3 rfl) ?_
  refine kx_iconst hx hb dX3_does_170 ?_
  refine kx_ci0 (va_runV (As := [.int (kI ((ln : Nat) : Int)), .int (kI (2))]) (rest := [.int (kI (4)), .int (kI ((ln : Nat) : Int)), .ref a]) ⟨hx, hb, hml, hown, hts⟩ (of_n l D s.heap a fs ra g S gap ln hO_a hf_a_0 hA_ra (by first | assumption | omega) (by first | assumption | omega) (by first | assumption | omega)) (cwV 2 hts (lw_V q2304 q2306 qs40 q89 q2307) rfl rfl rfl (by decide +kernel) ⟨Nat.le_of_ble_eq_true rfl, Nat.le_of_ble_eq_true rfl⟩) (kx_pv hK hS hB (kx_rc hK hO_a (C := RX3) (T := TX3) (N := 13) rfl)) rfl rfl hl.1 rfl (lv_room (Nat.le_of_ble_eq_true rfl)) dX3_does_171 ⟨by first | exact Nat.le_of_ble_eq_true rfl | omega | (show _ ≤ _; omega) | (dsimp only [headSpec]; omega), by first | exact Nat.le_of_ble_eq_true rfl | omega | (show _ ≤ _; omega) | (dsimp only [headSpec]; omega)⟩) hS (fun z_4 locs_1 hz_3 hS_2 => ?_)
  subst z_4
  refine kx_iadd hx hb dX3_does_174 ?_
  refine lv_iload_n hx hb dX3_does_175 rfl (lv_at hl 4 rfl) ?_
  refine kx_cv (va_runV (As := [.int (kI ((ln : Nat) : Int)), .int (kI ((4 + ((ln_n (st_ln S ln) : Nat) : Int)))), .int (kI (y))]) (rest := []) ⟨hx, hb, hml, hown, hts⟩ (m_X3_puts l D s.heap a fs ra g (((ln : Nat) : Int)) ((4 + ((ln_n (st_ln S ln) : Nat) : Int))) y (2 + 64 * ln + 4 + ln_n (st_ln S ln)) hO_a hf_a_0 hA_ra (by first | assumption | omega) (by first | assumption | omega) (by first | assumption | omega)) (cwV 3 hts (lw_V q2391 q2393 qs58 q89 q2394) rfl rfl rfl (by decide +kernel) ⟨Nat.le_of_ble_eq_true rfl, Nat.le_of_ble_eq_true rfl⟩) (kx_pv hK hS_2 hB (kx_rc hK hO_a (C := RX3) (T := TX3) (N := 13) rfl)) rfl rfl hl.1 rfl (lv_room (Nat.le_of_ble_eq_true rfl)) dX3_does_176 ⟨by first | exact Nat.le_of_ble_eq_true rfl | omega | (show _ ≤ _; omega) | (dsimp only [headSpec]; omega), by first | exact Nat.le_of_ble_eq_true rfl | omega | (show _ ≤ _; omega) | (dsimp only [headSpec]; omega)⟩) hS_2 (fun q _ h => by (try dsimp only at h); (try dsimp only); (try simp only [kNW] at h); (try simp only [kNW]); omega) (fun q h => by (try dsimp only at h); (try dsimp only); (try simp only [kNW] at h); (try simp only [kNW]); omega) (fun H_8 locs_5 hz_7 hF_9 hS_6 => ?_)
  refine W.widen (k := 0) (n := 0) (Nat.le_of_ble_eq_true rfl) (Nat.le_of_ble_eq_true rfl) ?_
  have ho_11 := hz_7
  refine lv_aload_n hx hb dX3_does_179 rfl (lv_at hl 1 rfl) ?_
  refine lv_iload_n hx hb dX3_does_180 rfl (lv_at hl 3 rfl) ?_
  refine kx_iconst hx hb dX3_does_181 ?_
  refine lv_aload_n hx hb dX3_does_182 rfl (lv_at hl 1 rfl) ?_
  refine lv_iload_n hx hb dX3_does_183 rfl (lv_at hl 3 rfl) ?_
  refine kx_iconst hx hb dX3_does_184 ?_
  have h_12 := hO_a.fr hF_9 (fun h => by (try dsimp only at h); (try simp only [kNW] at h); omega)
  refine kx_ci0 (va_runV (As := [.int (kI ((ln : Nat) : Int)), .int (kI (2))]) (rest := [.int (kI (2)), .int (kI ((ln : Nat) : Int)), .ref a]) ⟨hx, hb, hml, hown, hts⟩ (of_n l D H_8 a fs ra (kup g ((2 + 64 * ln + 4 + ln_n (st_ln S ln))) y) S gap ln h_12 hf_a_0 ho_11 ((hM.step1 hok hln hn y)) (by first | assumption | omega) (by first | assumption | omega)) (cwV 2 hts (lw_V q2304 q2306 qs40 q89 q2307) rfl rfl rfl (by decide +kernel) ⟨Nat.le_of_ble_eq_true rfl, Nat.le_of_ble_eq_true rfl⟩) (kx_pv hK hS_6 hB (kx_rc hK h_12 (C := RX3) (T := TX3) (N := 13) rfl)) rfl rfl hl.1 rfl (lv_room (Nat.le_of_ble_eq_true rfl)) dX3_does_185 ⟨by first | exact Nat.le_of_ble_eq_true rfl | omega | (show _ ≤ _; omega) | (dsimp only [headSpec]; omega), by first | exact Nat.le_of_ble_eq_true rfl | omega | (show _ ≤ _; omega) | (dsimp only [headSpec]; omega)⟩) hS_6 (fun z_16 locs_13 hz_15 hS_14 => ?_)
  subst z_16
  refine kx_iconst hx hb dX3_does_188 ?_
  refine kx_iadd hx hb dX3_does_189 ?_
  refine kx_cv (va_runV (As := [.int (kI ((ln : Nat) : Int)), .int (kI (2)), .int (kI ((((ln_n (st_ln S ln) : Nat) : Int) + 1)))]) (rest := []) ⟨hx, hb, hml, hown, hts⟩ (m_X3_puts l D H_8 a fs ra (kup g ((2 + 64 * ln + 4 + ln_n (st_ln S ln))) y) (((ln : Nat) : Int)) 2 ((((ln_n (st_ln S ln) : Nat) : Int) + 1)) (2 + 64 * ln + 2) h_12 hf_a_0 ho_11 (by first | assumption | omega) (by first | assumption | omega) (by first | assumption | omega)) (cwV 3 hts (lw_V q2391 q2393 qs58 q89 q2394) rfl rfl rfl (by decide +kernel) ⟨Nat.le_of_ble_eq_true rfl, Nat.le_of_ble_eq_true rfl⟩) (kx_pv hK hS_14 hB (kx_rc hK h_12 (C := RX3) (T := TX3) (N := 13) rfl)) rfl rfl hl.1 rfl (lv_room (Nat.le_of_ble_eq_true rfl)) dX3_does_190 ⟨by first | exact Nat.le_of_ble_eq_true rfl | omega | (show _ ≤ _; omega) | (dsimp only [headSpec]; omega), by first | exact Nat.le_of_ble_eq_true rfl | omega | (show _ ≤ _; omega) | (dsimp only [headSpec]; omega)⟩) hS_14 (fun q _ h => by (try dsimp only at h); (try dsimp only); (try simp only [kNW] at h); (try simp only [kNW]); omega) (fun q h => by (try dsimp only at h); (try dsimp only); (try simp only [kNW] at h); (try simp only [kNW]); omega) (fun H_20 locs_17 hz_19 hF_21 hS_18 => ?_)
  refine W.widen (k := 0) (n := 0) (Nat.le_of_ble_eq_true rfl) (Nat.le_of_ble_eq_true rfl) ?_
  have ho_23 := hz_19
  refine lv_aload_n hx hb dX3_does_193 rfl (lv_at hl 1 rfl) ?_
  refine lv_iload_n hx hb dX3_does_194 rfl (lv_at hl 3 rfl) ?_
  have h_24 := h_12.fr hF_21 (fun h => by (try dsimp only at h); (try simp only [kNW] at h); omega)
  refine kx_cb0 (va_runV (As := [.int (kI ((ln : Nat) : Int))]) (rest := []) ⟨hx, hb, hml, hown, hts⟩ (m_X3_closes l D H_20 a fs ra (kup ((kup g ((2 + 64 * ln + 4 + ln_n (st_ln S ln))) y)) (2 + 64 * ln + 2) (((((ln_n (st_ln S ln) : Nat) : Int) + 1)))) (S.set ln (w_step (st_ln S ln) y)) gap ln h_24 hf_a_0 ho_23 ((hM.step hok hln hn y)) ((hok.set hln (hL.step hy hn hnx))) (by first | assumption | omega)) (cwV 1 hts (lw_V q2322 q2324 qs43 q89 q2325) rfl rfl rfl (by decide +kernel) ⟨Nat.le_of_ble_eq_true rfl, Nat.le_of_ble_eq_true rfl⟩) (kx_pv hK hS_18 hB (kx_rc hK h_24 (C := RX3) (T := TX3) (N := 13) rfl)) rfl rfl hl.1 rfl (lv_room (Nat.le_of_ble_eq_true rfl)) dX3_does_195 ⟨by first | exact Nat.le_of_ble_eq_true rfl | omega | (show _ ≤ _; omega) | (dsimp only [headSpec]; omega), by first | exact Nat.le_of_ble_eq_true rfl | omega | (show _ ≤ _; omega) | (dsimp only [headSpec]; omega)⟩) hS_18 (fun z_28 locs_25 hz_27 hS_26 => ?_)
  subst z_28
  refine kx_ifz (tgt := 205) hx hb dX3_does_198 (by decide) (fun c198 => ?_) (fun c198 => ?_)
  · -- taken at 198
    rw [hse] at c198
    refine kx_iconst hx hb dX3_does_205 ?_
    exact kx_iret (z := 0) hx hb hr hlk (⟨(kup ((kup g ((2 + 64 * ln + 4 + ln_n (st_ln S ln))) y)) (2 + 64 * ln + 2) (((((ln_n (st_ln S ln) : Nat) : Int) + 1)))), by rw [c198]; rfl, ho_23, by exact hM.step hok hln hn y⟩) hS_26 dX3_does_206
  · -- not taken at 198
    rw [hse] at c198
    refine kx_iconst hx hb dX3_does_201 ?_
    refine lv_goto (tgt := 206) hx hb dX3_does_202 (by decide) ?_
    exact kx_iret (z := 1) hx hb hr hlk (⟨(kup ((kup g ((2 + 64 * ln + 4 + ln_n (st_ln S ln))) y)) (2 + 64 * ln + 2) (((((ln_n (st_ln S ln) : Nat) : Int) + 1)))), by rw [c198]; rfl, ho_23, by exact hM.step hok hln hn y⟩) hS_26 dX3_does_206

set_option maxHeartbeats 4000000 in
set_option maxRecDepth 100000 in
theorem m_do_w (l : Launch) (D : kG) (H : Heap) (a : Nat) (fs : List Value) (ra : Nat) (g : Nat → Int) (S : Ls) (gap : Int) (ln : Nat) (y : Int) (hO_a : kO D H a 2 fs) (hf_a_0 : fs[0]? = some (.ref ra)) (hA_ra : kAi D H ra 514 g) (hM : MRow g S gap) (hok : LsOK S gap) (ne_a_ra : a ≠ ra) (bs_ra : kBase D ≤ ra) (hln : ln < S.length) : Met l yX3_does (ws_ yX3_does cX3_does 6 (some .int)) ({ frames := 1, cells := 0, slots := 0, locals := 22 } : Room) (kPre D H [.ref a, .int (kI (119)), .int (kI ((ln : Nat) : Int)), .int (kI (y))]) (kQi (fun (r : Int) H' => ∃ (g2 : Nat → Int), (r = ((S.length : Int) - 1)) ∧ (kAi D H' ra 514 g2) ∧ (MRow g2 (S.eraseIdx ln) gap)) (fun q : Nat => q = ra)) (0) (0) ((fun q : Nat => q = ra)) := by
  refine Met.ofW (cc := cX3_does) (maxL := 6) (ret := (some .int)) (by decide) rfl ?_
  intro p e s m args below meth c s₁ B hml hv
  obtain ⟨rfl, hH, hK⟩ := hv
  subst hH
  have hx := B.exec
  have hb := B.bytes
  have hr := B.returns
  have hts := atoms_spec (ws := ws_ yX3_does cX3_does 6 (some .int)) B.pre
  have hts : ∀ w ∈ lw_all, w.before _ s = true := fun w h => hts w (List.mem_cons_of_mem _ h)
  have hown : s.vm.findClass RX3 = some m.cls := findClass_of_methodNamed B.named
  have hlk := B.notSynchronized
  have hS : va_S (fun q : Nat => q = ra) s.heap s.heap [] := va_S.rf
  have hB : ∀ q, (fun q : Nat => q = ra) q → kBase D ≤ q := fun q h => by (try dsimp only at h); (try simp only [kNW] at h); have hks := hK.size; omega
  have hl := lv_entry ([.ref a, .int (kI (119)), .int (kI ((ln : Nat) : Int)), .int (kI (y))]) (n := 6) (Nat.le_of_ble_eq_true rfl)
  rw [lg_entry_eq]
  generalize (lg_sl ([.ref a, .int (kI (119)), .int (kI ((ln : Nat) : Int)), .int (kI (y))]) ++ List.replicate (6 - (lg_sl ([.ref a, .int (kI (119)), .int (kI ((ln : Nat) : Int)), .int (kI (y))])).length) Slot.unset).toArray = ls at hl ⊢
  have hl : lv_has ls 6 [(0, .ref a), (1, .int (kI (119))), (2, .int (kI ((ln : Nat) : Int))), (3, .int (kI (y)))] := hl
  refine kx_iconst hx hb dX3_does_0 ?_
  refine lv_istore (lv' := [(4, .int (kI (0))), (0, .ref a), (1, .int (kI (119))), (2, .int (kI ((ln : Nat) : Int))), (3, .int (kI (y)))]) hx hb dX3_does_1 hl (by decide) rfl (fun ls hl => ?_)
  refine lv_iload_n hx hb dX3_does_3 rfl (lv_at hl 2 rfl) ?_
  refine lv_tableIn (off := 203) (tgt := 207) hx hb dX3_does_4 (by decide) (by decide) (by decide) (by decide) ?_
  refine lv_aload_n hx hb dX3_does_207 rfl (lv_at hl 1 rfl) ?_
  refine lv_iload_n hx hb dX3_does_208 rfl (lv_at hl 3 rfl) ?_
  refine kx_ci (va_runV (As := [.int (kI ((ln : Nat) : Int))]) (rest := []) ⟨hx, hb, hml, hown, hts⟩ (m_X3_wipes l D s.heap a fs ra g S gap ln hO_a hf_a_0 hA_ra (by first | assumption | omega) (by first | assumption | omega) (by first | assumption | omega) (by first | assumption | omega) (by first | assumption | omega)) (cwV 1 hts (lw_V q2395 q2397 qs59 q89 q2398) rfl rfl rfl (by decide +kernel) ⟨Nat.le_of_ble_eq_true rfl, Nat.le_of_ble_eq_true rfl⟩) (kx_pv hK hS hB (kx_rc hK hO_a (C := RX3) (T := TX3) (N := 13) rfl)) rfl rfl hl.1 rfl (lv_room (Nat.le_of_ble_eq_true rfl)) dX3_does_209 ⟨by first | exact Nat.le_of_ble_eq_true rfl | omega | (show _ ≤ _; omega) | (dsimp only [headSpec]; omega), by first | exact Nat.le_of_ble_eq_true rfl | omega | (show _ ≤ _; omega) | (dsimp only [headSpec]; omega)⟩) hS (fun q _ h => by (try dsimp only at h); (try dsimp only); (try simp only [kNW] at h); (try simp only [kNW]); omega) (fun q h => by (try dsimp only at h); (try dsimp only); (try simp only [kNW] at h); (try simp only [kNW]); omega) (fun z_6 H_4 locs_1 hz_3 hF_5 hS_2 => ?_)
  refine W.widen (k := 0) (n := 0) (Nat.le_of_ble_eq_true rfl) (Nat.le_of_ble_eq_true rfl) ?_
  obtain ⟨g2_7, hv_8, ho_9, hM2_10⟩ := hz_3
  subst z_6
  exact kx_iret (z := ((S.length : Int) - 1)) hx hb hr hlk (⟨g2_7, by rfl, ho_9, by first | assumption | rfl | omega | grind⟩) hS_2 dX3_does_212

set_option maxHeartbeats 4000000 in
set_option maxRecDepth 100000 in
theorem m_do_l (l : Launch) (D : kG) (H : Heap) (a : Nat) (fs : List Value) (ra : Nat) (g : Nat → Int) (S : Ls) (gap : Int) (ln : Nat) (pl : Nat) (hO_a : kO D H a 2 fs) (hf_a_0 : fs[0]? = some (.ref ra)) (hA_ra : kAi D H ra 514 g) (hM : MRow g S gap) (hok : LsOK S gap) (ne_a_ra : a ≠ ra) (bs_ra : kBase D ≤ ra) (hln : ln < S.length) (hpl : (pl : Int) + ln_size (st_ln S ln) - 1 ≤ ln_n (st_ln S ln)) : Met l yX3_does (ws_ yX3_does cX3_does 6 (some .int)) ({ frames := 7, cells := 0, slots := 0, locals := 155 } : Room) (kPre D H [.ref a, .int (kI (108)), .int (kI ((ln : Nat) : Int)), .int (kI ((pl : Nat) : Int))]) (kQi (fun (r : Int) H' => ∃ (g2 : Nat → Int), (r = ln_bends (st_ln S ln) pl) ∧ (kAi D H' ra 514 g2) ∧ (MRow g2 (S.set ln (w_lb (st_ln S ln) (pl : Int))) gap)) (fun q : Nat => q = ra)) (0) (0) ((fun q : Nat => q = ra)) := by
  refine Met.ofW (cc := cX3_does) (maxL := 6) (ret := (some .int)) (by decide) rfl ?_
  intro p e s m args below meth c s₁ B hml hv
  obtain ⟨rfl, hH, hK⟩ := hv
  subst hH
  have hx := B.exec
  have hb := B.bytes
  have hr := B.returns
  have hts := atoms_spec (ws := ws_ yX3_does cX3_does 6 (some .int)) B.pre
  have hts : ∀ w ∈ lw_all, w.before _ s = true := fun w h => hts w (List.mem_cons_of_mem _ h)
  have hown : s.vm.findClass RX3 = some m.cls := findClass_of_methodNamed B.named
  have hlk := B.notSynchronized
  have hS : va_S (fun q : Nat => q = ra) s.heap s.heap [] := va_S.rf
  have hB : ∀ q, (fun q : Nat => q = ra) q → kBase D ≤ q := fun q h => by (try dsimp only at h); (try simp only [kNW] at h); have hks := hK.size; omega
  have hl := lv_entry ([.ref a, .int (kI (108)), .int (kI ((ln : Nat) : Int)), .int (kI ((pl : Nat) : Int))]) (n := 6) (Nat.le_of_ble_eq_true rfl)
  rw [lg_entry_eq]
  generalize (lg_sl ([.ref a, .int (kI (108)), .int (kI ((ln : Nat) : Int)), .int (kI ((pl : Nat) : Int))]) ++ List.replicate (6 - (lg_sl ([.ref a, .int (kI (108)), .int (kI ((ln : Nat) : Int)), .int (kI ((pl : Nat) : Int))])).length) Slot.unset).toArray = ls at hl ⊢
  have hl : lv_has ls 6 [(0, .ref a), (1, .int (kI (108))), (2, .int (kI ((ln : Nat) : Int))), (3, .int (kI ((pl : Nat) : Int)))] := hl
  have hL := hok.ln hln
  have hL60 := hL.n
  have hL8 := hok.1
  have hset : (S.set ln (w_lb (st_ln S ln) (pl : Int))).length = S.length := List.length_set
  have hse : st_ln (S.set ln (w_lb (st_ln S ln) (pl : Int))) ln = w_lb (st_ln S ln) (pl : Int) := by rw [st_ln_set hln, if_pos rfl]
  refine kx_iconst hx hb dX3_does_0 ?_
  refine lv_istore (lv' := [(4, .int (kI (0))), (0, .ref a), (1, .int (kI (108))), (2, .int (kI ((ln : Nat) : Int))), (3, .int (kI ((pl : Nat) : Int)))]) hx hb dX3_does_1 hl (by decide) rfl (fun ls hl => ?_)
  refine lv_iload_n hx hb dX3_does_3 rfl (lv_at hl 2 rfl) ?_
  refine lv_tableIn (off := 209) (tgt := 213) hx hb dX3_does_4 (by decide) (by decide) (by decide) (by decide) ?_
  refine lv_aload_n hx hb dX3_does_213 rfl (lv_at hl 1 rfl) ?_
  refine lv_iload_n hx hb dX3_does_214 rfl (lv_at hl 3 rfl) ?_
  refine kx_iconst hx hb dX3_does_215 ?_
  refine lv_iload_n hx hb dX3_does_216 rfl (lv_at hl 4 rfl) ?_
  refine kx_cv (va_runV (As := [.int (kI ((ln : Nat) : Int)), .int (kI (3)), .int (kI ((pl : Nat) : Int))]) (rest := []) ⟨hx, hb, hml, hown, hts⟩ (m_X3_puts l D s.heap a fs ra g (((ln : Nat) : Int)) 3 (((pl : Nat) : Int)) (2 + 64 * ln + 3) hO_a hf_a_0 hA_ra (by first | assumption | omega) (by first | assumption | omega) (by first | assumption | omega)) (cwV 3 hts (lw_V q2391 q2393 qs58 q89 q2394) rfl rfl rfl (by decide +kernel) ⟨Nat.le_of_ble_eq_true rfl, Nat.le_of_ble_eq_true rfl⟩) (kx_pv hK hS hB (kx_rc hK hO_a (C := RX3) (T := TX3) (N := 13) rfl)) rfl rfl hl.1 rfl (lv_room (Nat.le_of_ble_eq_true rfl)) dX3_does_217 ⟨by first | exact Nat.le_of_ble_eq_true rfl | omega | (show _ ≤ _; omega) | (dsimp only [headSpec]; omega), by first | exact Nat.le_of_ble_eq_true rfl | omega | (show _ ≤ _; omega) | (dsimp only [headSpec]; omega)⟩) hS (fun q _ h => by (try dsimp only at h); (try dsimp only); (try simp only [kNW] at h); (try simp only [kNW]); omega) (fun q h => by (try dsimp only at h); (try dsimp only); (try simp only [kNW] at h); (try simp only [kNW]); omega) (fun H_4 locs_1 hz_3 hF_5 hS_2 => ?_)
  refine W.widen (k := 0) (n := 0) (Nat.le_of_ble_eq_true rfl) (Nat.le_of_ble_eq_true rfl) ?_
  have ho_7 := hz_3
  refine lv_aload_n hx hb dX3_does_220 rfl (lv_at hl 1 rfl) ?_
  refine lv_iload_n hx hb dX3_does_221 rfl (lv_at hl 3 rfl) ?_
  refine lv_iload_n hx hb dX3_does_222 rfl (lv_at hl 4 rfl) ?_
  have h_8 := hO_a.fr hF_5 (fun h => by (try dsimp only at h); (try simp only [kNW] at h); omega)
  refine kx_ci0 (va_runV (As := [.int (kI ((ln : Nat) : Int)), .int (kI ((pl : Nat) : Int))]) (rest := []) ⟨hx, hb, hml, hown, hts⟩ (m_X3_bends l D H_4 a fs ra (kup g (2 + 64 * ln + 3) ((((pl : Nat) : Int)))) (S.set ln (w_lb (st_ln S ln) (pl : Int))) gap ln pl h_8 hf_a_0 ho_7 ((hM.setLb hok hln _)) ((hok.set hln (hL.setLb (by omega)))) (by first | assumption | omega) (by first | assumption | omega)) (cwV 2 hts (lw_V q2353 q2355 qs50 q89 q2356) rfl rfl rfl (by decide +kernel) ⟨Nat.le_of_ble_eq_true rfl, Nat.le_of_ble_eq_true rfl⟩) (kx_pv hK hS_2 hB (kx_rc hK h_8 (C := RX3) (T := TX3) (N := 13) rfl)) rfl rfl hl.1 rfl (lv_room (Nat.le_of_ble_eq_true rfl)) dX3_does_223 ⟨by first | exact Nat.le_of_ble_eq_true rfl | omega | (show _ ≤ _; omega) | (dsimp only [headSpec]; omega), by first | exact Nat.le_of_ble_eq_true rfl | omega | (show _ ≤ _; omega) | (dsimp only [headSpec]; omega)⟩) hS_2 (fun z_12 locs_9 hz_11 hS_10 => ?_)
  subst z_12
  exact kx_iret (z := ln_bends (st_ln (S.set ln (w_lb (st_ln S ln) (pl : Int))) ln) pl) hx hb hr hlk (⟨(kup g (2 + 64 * ln + 3) ((((pl : Nat) : Int)))), by rw [hse, ln_bends_lb], ho_7, by exact hM.setLb hok hln _⟩) hS_10 dX3_does_226

set_option maxHeartbeats 4000000 in
set_option maxRecDepth 100000 in
theorem m_do_u (l : Launch) (D : kG) (H : Heap) (a : Nat) (fs : List Value) (ra : Nat) (g : Nat → Int) (S : Ls) (gap : Int) (ln : Nat) (y : Int) (hO_a : kO D H a 2 fs) (hf_a_0 : fs[0]? = some (.ref ra)) (hA_ra : kAi D H ra 514 g) (hM : MRow g S gap) (hok : LsOK S gap) (ne_a_ra : a ≠ ra) (bs_ra : kBase D ≤ ra) (hln : ln < S.length) : Met l yX3_does (ws_ yX3_does cX3_does 6 (some .int)) ({ frames := 1, cells := 0, slots := 0, locals := 23 } : Room) (kPre D H [.ref a, .int (kI (117)), .int (kI ((ln : Nat) : Int)), .int (kI (y))]) (kQi (fun (r : Int) H' => ∃ (g2 : Nat → Int), (r = ln_lb (st_ln S ln)) ∧ (kAi D H' ra 514 g2) ∧ (MRow g2 (S.set ln (w_lb (st_ln S ln) (-1))) gap)) (fun q : Nat => q = ra)) (0) (0) ((fun q : Nat => q = ra)) := by
  refine Met.ofW (cc := cX3_does) (maxL := 6) (ret := (some .int)) (by decide) rfl ?_
  intro p e s m args below meth c s₁ B hml hv
  obtain ⟨rfl, hH, hK⟩ := hv
  subst hH
  have hx := B.exec
  have hb := B.bytes
  have hr := B.returns
  have hts := atoms_spec (ws := ws_ yX3_does cX3_does 6 (some .int)) B.pre
  have hts : ∀ w ∈ lw_all, w.before _ s = true := fun w h => hts w (List.mem_cons_of_mem _ h)
  have hown : s.vm.findClass RX3 = some m.cls := findClass_of_methodNamed B.named
  have hlk := B.notSynchronized
  have hS : va_S (fun q : Nat => q = ra) s.heap s.heap [] := va_S.rf
  have hB : ∀ q, (fun q : Nat => q = ra) q → kBase D ≤ q := fun q h => by (try dsimp only at h); (try simp only [kNW] at h); have hks := hK.size; omega
  have hl := lv_entry ([.ref a, .int (kI (117)), .int (kI ((ln : Nat) : Int)), .int (kI (y))]) (n := 6) (Nat.le_of_ble_eq_true rfl)
  rw [lg_entry_eq]
  generalize (lg_sl ([.ref a, .int (kI (117)), .int (kI ((ln : Nat) : Int)), .int (kI (y))]) ++ List.replicate (6 - (lg_sl ([.ref a, .int (kI (117)), .int (kI ((ln : Nat) : Int)), .int (kI (y))])).length) Slot.unset).toArray = ls at hl ⊢
  have hl : lv_has ls 6 [(0, .ref a), (1, .int (kI (117))), (2, .int (kI ((ln : Nat) : Int))), (3, .int (kI (y)))] := hl
  have hL := hok.ln hln
  have hL60 := hL.n
  have hL8 := hok.1
  refine kx_iconst hx hb dX3_does_0 ?_
  refine lv_istore (lv' := [(4, .int (kI (0))), (0, .ref a), (1, .int (kI (117))), (2, .int (kI ((ln : Nat) : Int))), (3, .int (kI (y)))]) hx hb dX3_does_1 hl (by decide) rfl (fun ls hl => ?_)
  refine lv_iload_n hx hb dX3_does_3 rfl (lv_at hl 2 rfl) ?_
  refine lv_tableIn (off := 223) (tgt := 227) hx hb dX3_does_4 (by decide) (by decide) (by decide) (by decide) ?_
  refine lv_aload_n hx hb dX3_does_227 rfl (lv_at hl 1 rfl) ?_
  refine lv_iload_n hx hb dX3_does_228 rfl (lv_at hl 3 rfl) ?_
  refine kx_iconst hx hb dX3_does_229 ?_
  refine kx_ci0 (va_runV (As := [.int (kI ((ln : Nat) : Int)), .int (kI (3))]) (rest := []) ⟨hx, hb, hml, hown, hts⟩ (of_lb l D s.heap a fs ra g S gap ln hO_a hf_a_0 hA_ra (by first | assumption | omega) (by first | assumption | omega) (by first | assumption | omega)) (cwV 2 hts (lw_V q2304 q2306 qs40 q89 q2307) rfl rfl rfl (by decide +kernel) ⟨Nat.le_of_ble_eq_true rfl, Nat.le_of_ble_eq_true rfl⟩) (kx_pv hK hS hB (kx_rc hK hO_a (C := RX3) (T := TX3) (N := 13) rfl)) rfl rfl hl.1 rfl (lv_room (Nat.le_of_ble_eq_true rfl)) dX3_does_230 ⟨by first | exact Nat.le_of_ble_eq_true rfl | omega | (show _ ≤ _; omega) | (dsimp only [headSpec]; omega), by first | exact Nat.le_of_ble_eq_true rfl | omega | (show _ ≤ _; omega) | (dsimp only [headSpec]; omega)⟩) hS (fun z_4 locs_1 hz_3 hS_2 => ?_)
  subst z_4
  refine lv_istore (lv' := [(4, .int (kI (ln_lb (st_ln S ln)))), (0, .ref a), (1, .int (kI (117))), (2, .int (kI ((ln : Nat) : Int))), (3, .int (kI (y)))]) hx hb dX3_does_233 hl (by decide) rfl (fun ls hl => ?_)
  refine lv_aload_n hx hb dX3_does_235 rfl (lv_at hl 1 rfl) ?_
  refine lv_iload_n hx hb dX3_does_236 rfl (lv_at hl 3 rfl) ?_
  refine kx_iconst hx hb dX3_does_237 ?_
  refine kx_iconst hx hb dX3_does_238 ?_
  refine kx_cv (va_runV (As := [.int (kI ((ln : Nat) : Int)), .int (kI (3)), .int (kI ((-1)))]) (rest := []) ⟨hx, hb, hml, hown, hts⟩ (m_X3_puts l D s.heap a fs ra g (((ln : Nat) : Int)) 3 ((-1)) (2 + 64 * ln + 3) hO_a hf_a_0 hA_ra (by first | assumption | omega) (by first | assumption | omega) (by first | assumption | omega)) (cwV 3 hts (lw_V q2391 q2393 qs58 q89 q2394) rfl rfl rfl (by decide +kernel) ⟨Nat.le_of_ble_eq_true rfl, Nat.le_of_ble_eq_true rfl⟩) (kx_pv hK hS_2 hB (kx_rc hK hO_a (C := RX3) (T := TX3) (N := 13) rfl)) rfl rfl hl.1 rfl (lv_room (Nat.le_of_ble_eq_true rfl)) dX3_does_239 ⟨by first | exact Nat.le_of_ble_eq_true rfl | omega | (show _ ≤ _; omega) | (dsimp only [headSpec]; omega), by first | exact Nat.le_of_ble_eq_true rfl | omega | (show _ ≤ _; omega) | (dsimp only [headSpec]; omega)⟩) hS_2 (fun q _ h => by (try dsimp only at h); (try dsimp only); (try simp only [kNW] at h); (try simp only [kNW]); omega) (fun q h => by (try dsimp only at h); (try dsimp only); (try simp only [kNW] at h); (try simp only [kNW]); omega) (fun H_8 locs_5 hz_7 hF_9 hS_6 => ?_)
  refine W.widen (k := 0) (n := 0) (Nat.le_of_ble_eq_true rfl) (Nat.le_of_ble_eq_true rfl) ?_
  have ho_11 := hz_7
  refine lv_iload hx hb dX3_does_242 (lv_at hl 0 rfl) ?_
  exact kx_iret (z := ln_lb (st_ln S ln)) hx hb hr hlk (⟨(kup g (2 + 64 * ln + 3) (((-1)))), by rfl, ho_11, by exact hM.setLb hok hln _⟩) hS_6 dX3_does_244

set_option maxHeartbeats 4000000 in
set_option maxRecDepth 100000 in
theorem m_do_best (l : Launch) (D : kG) (H : Heap) (a : Nat) (fs : List Value) (ra : Nat) (g : Nat → Int) (S : Ls) (gap : Int) (ln : Nat) (y : Int) (hO_a : kO D H a 2 fs) (hf_a_0 : fs[0]? = some (.ref ra)) (hA_ra : kAi D H ra 514 g) (hM : MRow g S gap) (hok : LsOK S gap) (ne_a_ra : a ≠ ra) (bs_ra : kBase D ≤ ra) (hln : ln < S.length) : Met l yX3_does (ws_ yX3_does cX3_does 6 (some .int)) ({ frames := 9, cells := 0, slots := 0, locals := 207 } : Room) (kPre D H [.ref a, .int (kI (98)), .int (kI ((ln : Nat) : Int)), .int (kI (y))]) (kQi (fun (r : Int) H' => ∃ (g2 : Nat → Int), (r = st_best S gap ln) ∧ (kAi D H' ra 514 g2) ∧ (MRow g2 (S.set ln (w_lb (st_ln S ln) (st_best S gap ln))) gap)) (fun q : Nat => q = ra)) (0) (0) ((fun q : Nat => q = ra)) := by
  refine Met.ofW (cc := cX3_does) (maxL := 6) (ret := (some .int)) (by decide) rfl ?_
  intro p e s m args below meth c s₁ B hml hv
  obtain ⟨rfl, hH, hK⟩ := hv
  subst hH
  have hx := B.exec
  have hb := B.bytes
  have hr := B.returns
  have hts := atoms_spec (ws := ws_ yX3_does cX3_does 6 (some .int)) B.pre
  have hts : ∀ w ∈ lw_all, w.before _ s = true := fun w h => hts w (List.mem_cons_of_mem _ h)
  have hown : s.vm.findClass RX3 = some m.cls := findClass_of_methodNamed B.named
  have hlk := B.notSynchronized
  have hS : va_S (fun q : Nat => q = ra) s.heap s.heap [] := va_S.rf
  have hB : ∀ q, (fun q : Nat => q = ra) q → kBase D ≤ q := fun q h => by (try dsimp only at h); (try simp only [kNW] at h); have hks := hK.size; omega
  have hl := lv_entry ([.ref a, .int (kI (98)), .int (kI ((ln : Nat) : Int)), .int (kI (y))]) (n := 6) (Nat.le_of_ble_eq_true rfl)
  rw [lg_entry_eq]
  generalize (lg_sl ([.ref a, .int (kI (98)), .int (kI ((ln : Nat) : Int)), .int (kI (y))]) ++ List.replicate (6 - (lg_sl ([.ref a, .int (kI (98)), .int (kI ((ln : Nat) : Int)), .int (kI (y))])).length) Slot.unset).toArray = ls at hl ⊢
  have hl : lv_has ls 6 [(0, .ref a), (1, .int (kI (98))), (2, .int (kI ((ln : Nat) : Int))), (3, .int (kI (y)))] := hl
  have hL := hok.ln hln
  have hL60 := hL.n
  have hL8 := hok.1
  refine kx_iconst hx hb dX3_does_0 ?_
  refine lv_istore (lv' := [(4, .int (kI (0))), (0, .ref a), (1, .int (kI (98))), (2, .int (kI ((ln : Nat) : Int))), (3, .int (kI (y)))]) hx hb dX3_does_1 hl (by decide) rfl (fun ls hl => ?_)
  refine lv_iload_n hx hb dX3_does_3 rfl (lv_at hl 2 rfl) ?_
  refine lv_tableIn (off := 241) (tgt := 245) hx hb dX3_does_4 (by decide) (by decide) (by decide) (by decide) ?_
  refine lv_aload_n hx hb dX3_does_245 rfl (lv_at hl 1 rfl) ?_
  refine lv_iload_n hx hb dX3_does_246 rfl (lv_at hl 3 rfl) ?_
  refine kx_iconst hx hb dX3_does_247 ?_
  refine lv_aload_n hx hb dX3_does_248 rfl (lv_at hl 1 rfl) ?_
  refine lv_iload_n hx hb dX3_does_249 rfl (lv_at hl 3 rfl) ?_
  refine kx_ci0 (va_runV (As := [.int (kI ((ln : Nat) : Int))]) (rest := [.int (kI (3)), .int (kI ((ln : Nat) : Int)), .ref a]) ⟨hx, hb, hml, hown, hts⟩ (m_X3_best l D s.heap a fs ra g S gap ln hO_a hf_a_0 hA_ra (by first | assumption | omega) (by first | assumption | omega) (by first | assumption | omega)) (cwV 1 hts (lw_V q2379 q2381 qs55 q89 q2382) rfl rfl rfl (by decide +kernel) ⟨Nat.le_of_ble_eq_true rfl, Nat.le_of_ble_eq_true rfl⟩) (kx_pv hK hS hB (kx_rc hK hO_a (C := RX3) (T := TX3) (N := 13) rfl)) rfl rfl hl.1 rfl (lv_room (Nat.le_of_ble_eq_true rfl)) dX3_does_250 ⟨by first | exact Nat.le_of_ble_eq_true rfl | omega | (show _ ≤ _; omega) | (dsimp only [headSpec]; omega), by first | exact Nat.le_of_ble_eq_true rfl | omega | (show _ ≤ _; omega) | (dsimp only [headSpec]; omega)⟩) hS (fun z_4 locs_1 hz_3 hS_2 => ?_)
  subst z_4
  refine kx_cv (va_runV (As := [.int (kI ((ln : Nat) : Int)), .int (kI (3)), .int (kI (st_best S gap ln))]) (rest := []) ⟨hx, hb, hml, hown, hts⟩ (m_X3_puts l D s.heap a fs ra g (((ln : Nat) : Int)) 3 (st_best S gap ln) (2 + 64 * ln + 3) hO_a hf_a_0 hA_ra (by first | assumption | omega) (by first | assumption | omega) (by first | assumption | omega)) (cwV 3 hts (lw_V q2391 q2393 qs58 q89 q2394) rfl rfl rfl (by decide +kernel) ⟨Nat.le_of_ble_eq_true rfl, Nat.le_of_ble_eq_true rfl⟩) (kx_pv hK hS_2 hB (kx_rc hK hO_a (C := RX3) (T := TX3) (N := 13) rfl)) rfl rfl hl.1 rfl (lv_room (Nat.le_of_ble_eq_true rfl)) dX3_does_253 ⟨by first | exact Nat.le_of_ble_eq_true rfl | omega | (show _ ≤ _; omega) | (dsimp only [headSpec]; omega), by first | exact Nat.le_of_ble_eq_true rfl | omega | (show _ ≤ _; omega) | (dsimp only [headSpec]; omega)⟩) hS_2 (fun q _ h => by (try dsimp only at h); (try dsimp only); (try simp only [kNW] at h); (try simp only [kNW]); omega) (fun q h => by (try dsimp only at h); (try dsimp only); (try simp only [kNW] at h); (try simp only [kNW]); omega) (fun H_8 locs_5 hz_7 hF_9 hS_6 => ?_)
  refine W.widen (k := 0) (n := 0) (Nat.le_of_ble_eq_true rfl) (Nat.le_of_ble_eq_true rfl) ?_
  have ho_11 := hz_7
  refine lv_aload_n hx hb dX3_does_256 rfl (lv_at hl 1 rfl) ?_
  refine lv_iload_n hx hb dX3_does_257 rfl (lv_at hl 3 rfl) ?_
  refine kx_iconst hx hb dX3_does_258 ?_
  have h_12 := hO_a.fr hF_9 (fun h => by (try dsimp only at h); (try simp only [kNW] at h); omega)
  refine kx_ci0 (va_runV (As := [.int (kI ((ln : Nat) : Int)), .int (kI (3))]) (rest := []) ⟨hx, hb, hml, hown, hts⟩ (m_X3_of l D H_8 a fs ra (kup g (2 + 64 * ln + 3) (st_best S gap ln)) (((ln : Nat) : Int)) 3 (2 + 64 * ln + 3) h_12 hf_a_0 ho_11 (by first | assumption | omega) (by first | assumption | omega)) (cwV 2 hts (lw_V q2304 q2306 qs40 q89 q2307) rfl rfl rfl (by decide +kernel) ⟨Nat.le_of_ble_eq_true rfl, Nat.le_of_ble_eq_true rfl⟩) (kx_pv hK hS_6 hB (kx_rc hK h_12 (C := RX3) (T := TX3) (N := 13) rfl)) rfl rfl hl.1 rfl (lv_room (Nat.le_of_ble_eq_true rfl)) dX3_does_259 ⟨by first | exact Nat.le_of_ble_eq_true rfl | omega | (show _ ≤ _; omega) | (dsimp only [headSpec]; omega), by first | exact Nat.le_of_ble_eq_true rfl | omega | (show _ ≤ _; omega) | (dsimp only [headSpec]; omega)⟩) hS_6 (fun z_16 locs_13 hz_15 hS_14 => ?_)
  subst z_16
  exact kx_iret (z := (kup g (2 + 64 * ln + 3) (st_best S gap ln)) (2 + 64 * ln + 3)) hx hb hr hlk (⟨(kup g (2 + 64 * ln + 3) (st_best S gap ln)), by exact kup_self _ _ _, ho_11, by exact hM.setLb hok hln _⟩) hS_14 dX3_does_262

set_option maxHeartbeats 4000000 in
set_option maxRecDepth 100000 in
theorem m_do_a (l : Launch) (D : kG) (H : Heap) (a : Nat) (fs : List Value) (ra : Nat) (g : Nat → Int) (S : Ls) (gap : Int) (x : Int) (y : Int) (hO_a : kO D H a 2 fs) (hf_a_0 : fs[0]? = some (.ref ra)) (hA_ra : kAi D H ra 514 g) (hM : MRow g S gap) (hok : LsOK S gap) (ne_a_ra : a ≠ ra) (bs_ra : kBase D ≤ ra) : Met l yX3_does (ws_ yX3_does cX3_does 6 (some .int)) ({ frames := 10, cells := 0, slots := 0, locals := 229 } : Room) (kPre D H [.ref a, .int (kI (97)), .int (kI (x)), .int (kI (y))]) (kQi (fun (r : Int) H' => ∃ (g2 : Nat → Int), (r = st_lab (st_la S gap)) ∧ (kAi D H' ra 514 g2) ∧ (MRow g2 (st_la S gap) gap)) (fun q : Nat => q = ra)) (0) (0) ((fun q : Nat => q = ra)) := by
  refine Met.ofW (cc := cX3_does) (maxL := 6) (ret := (some .int)) (by decide) rfl ?_
  intro p e s m args below meth c s₁ B hml hv
  obtain ⟨rfl, hH, hK⟩ := hv
  subst hH
  have hx := B.exec
  have hb := B.bytes
  have hr := B.returns
  have hts := atoms_spec (ws := ws_ yX3_does cX3_does 6 (some .int)) B.pre
  have hts : ∀ w ∈ lw_all, w.before _ s = true := fun w h => hts w (List.mem_cons_of_mem _ h)
  have hown : s.vm.findClass RX3 = some m.cls := findClass_of_methodNamed B.named
  have hlk := B.notSynchronized
  have hS : va_S (fun q : Nat => q = ra) s.heap s.heap [] := va_S.rf
  have hB : ∀ q, (fun q : Nat => q = ra) q → kBase D ≤ q := fun q h => by (try dsimp only at h); (try simp only [kNW] at h); have hks := hK.size; omega
  have hl := lv_entry ([.ref a, .int (kI (97)), .int (kI (x)), .int (kI (y))]) (n := 6) (Nat.le_of_ble_eq_true rfl)
  rw [lg_entry_eq]
  generalize (lg_sl ([.ref a, .int (kI (97)), .int (kI (x)), .int (kI (y))]) ++ List.replicate (6 - (lg_sl ([.ref a, .int (kI (97)), .int (kI (x)), .int (kI (y))])).length) Slot.unset).toArray = ls at hl ⊢
  have hl : lv_has ls 6 [(0, .ref a), (1, .int (kI (97))), (2, .int (kI (x))), (3, .int (kI (y)))] := hl
  refine kx_iconst hx hb dX3_does_0 ?_
  refine lv_istore (lv' := [(4, .int (kI (0))), (0, .ref a), (1, .int (kI (97))), (2, .int (kI (x))), (3, .int (kI (y)))]) hx hb dX3_does_1 hl (by decide) rfl (fun ls hl => ?_)
  refine lv_iload_n hx hb dX3_does_3 rfl (lv_at hl 2 rfl) ?_
  refine lv_tableIn (off := 259) (tgt := 263) hx hb dX3_does_4 (by decide) (by decide) (by decide) (by decide) ?_
  refine lv_aload_n hx hb dX3_does_263 rfl (lv_at hl 1 rfl) ?_
  refine kx_ci (va_runV (As := []) (rest := []) ⟨hx, hb, hml, hown, hts⟩ (m_X3_labelsAll l D s.heap a fs ra g S gap hO_a hf_a_0 hA_ra (by first | assumption | omega) (by first | assumption | omega) (by first | assumption | omega) (by first | assumption | omega)) (cwV 0 hts (lw_V q2399 q2401 qs60 q89 q2402) rfl rfl rfl (by decide +kernel) ⟨Nat.le_of_ble_eq_true rfl, Nat.le_of_ble_eq_true rfl⟩) (kx_pv hK hS hB (kx_rc hK hO_a (C := RX3) (T := TX3) (N := 13) rfl)) rfl rfl hl.1 rfl (lv_room (Nat.le_of_ble_eq_true rfl)) dX3_does_264 ⟨by first | exact Nat.le_of_ble_eq_true rfl | omega | (show _ ≤ _; omega) | (dsimp only [headSpec]; omega), by first | exact Nat.le_of_ble_eq_true rfl | omega | (show _ ≤ _; omega) | (dsimp only [headSpec]; omega)⟩) hS (fun q _ h => by (try dsimp only at h); (try dsimp only); (try simp only [kNW] at h); (try simp only [kNW]); omega) (fun q h => by (try dsimp only at h); (try dsimp only); (try simp only [kNW] at h); (try simp only [kNW]); omega) (fun z_6 H_4 locs_1 hz_3 hF_5 hS_2 => ?_)
  refine W.widen (k := 0) (n := 0) (Nat.le_of_ble_eq_true rfl) (Nat.le_of_ble_eq_true rfl) ?_
  obtain ⟨g2_7, hv_8, ho_9, hM2_10⟩ := hz_3
  subst z_6
  exact kx_iret (z := st_lab (st_la S gap)) hx hb hr hlk (⟨g2_7, by rfl, ho_9, by first | assumption | rfl | omega | grind⟩) hS_2 dX3_does_267

set_option maxHeartbeats 4000000 in
set_option maxRecDepth 100000 in
theorem m_do_g (l : Launch) (D : kG) (H : Heap) (a : Nat) (fs : List Value) (ra : Nat) (g : Nat → Int) (S : Ls) (gap : Int) (x : Int) (y : Int) (hO_a : kO D H a 2 fs) (hf_a_0 : fs[0]? = some (.ref ra)) (hA_ra : kAi D H ra 514 g) (hM : MRow g S gap) (hok : LsOK S gap) (ne_a_ra : a ≠ ra) (bs_ra : kBase D ≤ ra) : Met l yX3_does (ws_ yX3_does cX3_does 6 (some .int)) ({ frames := 0, cells := 0, slots := 0, locals := 0 } : Room) (kPre D H [.ref a, .int (kI (103)), .int (kI (x)), .int (kI (y))]) (kQi (fun (r : Int) H' => ∃ (g2 : Nat → Int), (r = gap) ∧ (kAi D H' ra 514 g2) ∧ (MRow g2 S x)) (fun q : Nat => q = ra)) (0) (0) ((fun q : Nat => q = ra)) := by
  refine Met.ofW (cc := cX3_does) (maxL := 6) (ret := (some .int)) (by decide) rfl ?_
  intro p e s m args below meth c s₁ B hml hv
  obtain ⟨rfl, hH, hK⟩ := hv
  subst hH
  have hx := B.exec
  have hb := B.bytes
  have hr := B.returns
  have hts := atoms_spec (ws := ws_ yX3_does cX3_does 6 (some .int)) B.pre
  have hts : ∀ w ∈ lw_all, w.before _ s = true := fun w h => hts w (List.mem_cons_of_mem _ h)
  have hown : s.vm.findClass RX3 = some m.cls := findClass_of_methodNamed B.named
  have hlk := B.notSynchronized
  have hS : va_S (fun q : Nat => q = ra) s.heap s.heap [] := va_S.rf
  have hB : ∀ q, (fun q : Nat => q = ra) q → kBase D ≤ q := fun q h => by (try dsimp only at h); (try simp only [kNW] at h); have hks := hK.size; omega
  have hl := lv_entry ([.ref a, .int (kI (103)), .int (kI (x)), .int (kI (y))]) (n := 6) (Nat.le_of_ble_eq_true rfl)
  rw [lg_entry_eq]
  generalize (lg_sl ([.ref a, .int (kI (103)), .int (kI (x)), .int (kI (y))]) ++ List.replicate (6 - (lg_sl ([.ref a, .int (kI (103)), .int (kI (x)), .int (kI (y))])).length) Slot.unset).toArray = ls at hl ⊢
  have hl : lv_has ls 6 [(0, .ref a), (1, .int (kI (103))), (2, .int (kI (x))), (3, .int (kI (y)))] := hl
  refine kx_iconst hx hb dX3_does_0 ?_
  refine lv_istore (lv' := [(4, .int (kI (0))), (0, .ref a), (1, .int (kI (103))), (2, .int (kI (x))), (3, .int (kI (y)))]) hx hb dX3_does_1 hl (by decide) rfl (fun ls hl => ?_)
  refine lv_iload_n hx hb dX3_does_3 rfl (lv_at hl 2 rfl) ?_
  refine lv_tableIn (off := 264) (tgt := 268) hx hb dX3_does_4 (by decide) (by decide) (by decide) (by decide) ?_
  refine lv_aload_n hx hb dX3_does_268 rfl (lv_at hl 1 rfl) ?_
  refine kx_get (v := .ref ra) (C := RX3) (T := TX3) (N := 13) hx hb hts in_X3 hown hK hO_a rfl 0 (by decide) q2238 (fun _ h9 => h9) hf_a_0 dX3_does_269 ?_
  refine kx_iconst hx hb dX3_does_272 ?_
  refine kx_iald (i := 1) hx hb hK hA_ra 1 (rfl) (by omega) (by omega) dX3_does_273 ?_
  refine lv_istore (lv' := [(4, .int (kI ((g 1)))), (0, .ref a), (1, .int (kI (103))), (2, .int (kI (x))), (3, .int (kI (y)))]) hx hb dX3_does_274 hl (by decide) rfl (fun ls hl => ?_)
  refine lv_aload_n hx hb dX3_does_276 rfl (lv_at hl 1 rfl) ?_
  refine kx_get (v := .ref ra) (C := RX3) (T := TX3) (N := 13) hx hb hts in_X3 hown hK hO_a rfl 0 (by decide) q2238 (fun _ h9 => h9) hf_a_0 dX3_does_277 ?_
  refine kx_iconst hx hb dX3_does_280 ?_
  refine lv_iload_n hx hb dX3_does_281 rfl (lv_at hl 3 rfl) ?_
  refine kx_iast (i := 1) (x := x) hx hb hK hA_ra hS (by first | rfl | exact Or.inl rfl | exact Or.inr rfl | exact Or.inr (Or.inl rfl) | exact Or.inr (Or.inr rfl) | exact Or.inr (Or.inr (Or.inl rfl)) | exact Or.inr (Or.inr (Or.inr rfl)) | ((try dsimp only); (try simp only [kNW]); omega)) 1 (rfl) (by omega) (by omega) dX3_does_282 (fun H_3 locs_4 hA_2 hU_1 hS_5 => ?_)
  refine lv_iload hx hb dX3_does_283 (lv_at hl 0 rfl) ?_
  exact kx_iret (z := (g 1)) hx hb hr hlk (⟨(kup g 1 x), by exact hM.gap, hA_2, by exact hM.gapSet x⟩) hS_5 dX3_does_285

set_option maxHeartbeats 4000000 in
set_option maxRecDepth 100000 in
theorem m_acts_b_no (l : Launch) (D : kG) (H : Heap) (a : Nat) (ra : Nat) (sa : Nat) (ka : Nat) (ta : Nat) (sn : Nat) (ik : Bool) (tn : Nat) (th : Int) (sp : Int) (iw : Bool) (le : Int) (fi : Int) (se : Int) (g : Nat → Int) (gs : Nat → Int) (S : Ls) (gap : Int) (hist : List Sg) (x : Int) (y : Int) (hO_a : kO D H a 2 [.ref ra, .ref sa, .int (kI ((sn : Nat) : Int)), .ref ka, .int (kI (kb (ik))), .ref ta, .int (kI ((tn : Nat) : Int)), .int (kI (th)), .int (kI (sp)), .int (kI (kb (iw))), .int (kI (le)), .int (kI (fi)), .int (kI (se))]) (hA_ra : kAi D H ra 514 g) (hA_sa : kAi D H sa 2570 gs) (hM : MRow g S gap) (hok : LsOK S gap) (hH : MHist gs hist sn) (ne_a_ra : a ≠ ra) (ne_a_sa : a ≠ sa) (ne_ra_sa : ra ≠ sa) (bs_a : kBase D ≤ a) (bs_ra : kBase D ≤ ra) (bs_sa : kBase D ≤ sa) (hr_x : -2147483648 ≤ x ∧ x ≤ 2147483647) (hr_y : -2147483648 ≤ y ∧ y ≤ 2147483647) (hr0 : 0 < ref_b S x y) (hr9 : ref_b S x y ≤ 5) : Met l yX3_acts (ws_ yX3_acts cX3_acts 4 (some .int)) ({ frames := 4, cells := 0, slots := 0, locals := 90 } : Room) (kPre D H [.ref a, .int (kI (110)), .int (kI (x)), .int (kI (y))]) (kQi (fun (r : Int) H' => (r = 0) ∧ (kO D H' a 2 [.ref ra, .ref sa, .int (kI ((sn : Nat) : Int)), .ref ka, .int (kI (kb (ik))), .ref ta, .int (kI ((tn : Nat) : Int)), .int (kI (ref_b S x y)), .int (kI (sp)), .int (kI (kb (iw))), .int (kI (le)), .int (kI (fi)), .int (kI (se))])) (fun q : Nat => q = a)) (0) (0) ((fun q : Nat => q = a)) := by
  refine Met.ofW (cc := cX3_acts) (maxL := 4) (ret := (some .int)) (by decide) rfl ?_
  intro p e s m args below meth c s₁ B hml hv
  obtain ⟨rfl, hH, hK⟩ := hv
  subst hH
  have hx := B.exec
  have hb := B.bytes
  have hr := B.returns
  have hts := atoms_spec (ws := ws_ yX3_acts cX3_acts 4 (some .int)) B.pre
  have hts : ∀ w ∈ lw_all, w.before _ s = true := fun w h => hts w (List.mem_cons_of_mem _ h)
  have hown : s.vm.findClass RX3 = some m.cls := findClass_of_methodNamed B.named
  have hlk := B.notSynchronized
  have hS : va_S (fun q : Nat => q = a) s.heap s.heap [] := va_S.rf
  have hB : ∀ q, (fun q : Nat => q = a) q → kBase D ≤ q := fun q h => by (try dsimp only at h); (try simp only [kNW] at h); have hks := hK.size; omega
  have hl := lv_entry ([.ref a, .int (kI (110)), .int (kI (x)), .int (kI (y))]) (n := 4) (Nat.le_of_ble_eq_true rfl)
  rw [lg_entry_eq]
  generalize (lg_sl ([.ref a, .int (kI (110)), .int (kI (x)), .int (kI (y))]) ++ List.replicate (4 - (lg_sl ([.ref a, .int (kI (110)), .int (kI (x)), .int (kI (y))])).length) Slot.unset).toArray = ls at hl ⊢
  have hl : lv_has ls 4 [(0, .ref a), (1, .int (kI (110))), (2, .int (kI (x))), (3, .int (kI (y)))] := hl
  refine lv_aload_n hx hb dX3_acts_0 rfl (lv_at hl 0 rfl) ?_
  refine lv_aload_n hx hb dX3_acts_1 rfl (lv_at hl 0 rfl) ?_
  refine lv_iload_n hx hb dX3_acts_2 rfl (lv_at hl 1 rfl) ?_
  refine lv_iload_n hx hb dX3_acts_3 rfl (lv_at hl 2 rfl) ?_
  refine lv_iload_n hx hb dX3_acts_4 rfl (lv_at hl 3 rfl) ?_
  refine kx_ci0 (va_runV (As := [.int (kI (110)), .int (kI (x)), .int (kI (y))]) (rest := [.ref a]) ⟨hx, hb, hml, hown, hts⟩ (m_ref_b l D s.heap a ([.ref ra, .ref sa, .int (kI ((sn : Nat) : Int)), .ref ka, .int (kI (kb (ik))), .ref ta, .int (kI ((tn : Nat) : Int)), .int (kI (th)), .int (kI (sp)), .int (kI (kb (iw))), .int (kI (le)), .int (kI (fi)), .int (kI (se))]) ra g S gap x y hO_a rfl hA_ra (by first | assumption | omega) (by first | assumption | omega) (by first | assumption | omega) (by first | assumption | omega)) (cwV 3 hts (lw_V q2290 q2292 qs38 q89 q2293) rfl rfl rfl (by decide +kernel) ⟨Nat.le_of_ble_eq_true rfl, Nat.le_of_ble_eq_true rfl⟩) (kx_pv hK hS hB (kx_rc hK hO_a (C := RX3) (T := TX3) (N := 13) rfl)) rfl rfl hl.1 rfl (lv_room (Nat.le_of_ble_eq_true rfl)) dX3_acts_5 ⟨by first | exact Nat.le_of_ble_eq_true rfl | omega | (show _ ≤ _; omega) | (dsimp only [headSpec]; omega), by first | exact Nat.le_of_ble_eq_true rfl | omega | (show _ ≤ _; omega) | (dsimp only [headSpec]; omega)⟩) hS (fun z_4 locs_1 hz_3 hS_2 => ?_)
  subst z_4
  refine kx_put (v := .int (kI (ref_b S x y))) (C := RX3) (T := TX3) (N := 13) hx hb hts in_X3 hown hK hO_a rfl 7 (by decide) tyX3 tyX3_ok nmX3 hS_2 (by first | rfl | exact Or.inl rfl | exact Or.inr rfl | exact Or.inr (Or.inl rfl) | exact Or.inr (Or.inr rfl) | exact Or.inr (Or.inr (Or.inl rfl)) | exact Or.inr (Or.inr (Or.inr rfl)) | ((try dsimp only); (try simp only [kNW]); omega)) q2245 (fun _ h9 => h9) rfl rfl rfl rfl (Nat.le_of_ble_eq_true rfl) dX3_acts_8 (fun H_7 locs_8 hO_6 hU_5 hS_9 => ?_)
  have hO_6 : kO D H_7 a 2 [.ref ra, .ref sa, .int (kI ((sn : Nat) : Int)), .ref ka, .int (kI (kb (ik))), .ref ta, .int (kI ((tn : Nat) : Int)), .int (kI (ref_b S x y)), .int (kI (sp)), .int (kI (kb (iw))), .int (kI (le)), .int (kI (fi)), .int (kI (se))] := hO_6
  refine lv_aload_n hx hb dX3_acts_11 rfl (lv_at hl 0 rfl) ?_
  refine kx_get (v := .int (kI (ref_b S x y))) (C := RX3) (T := TX3) (N := 13) hx hb hts in_X3 hown hK hO_6 rfl 7 (by decide) q2245 (fun _ h9 => h9) rfl dX3_acts_12 ?_
  refine kx_if_le (x := ref_b S x y) (tgt := 20) hx hb dX3_acts_15 (by decide) (by omega) (by omega) (fun c_15_10 => ?_) (fun c_15_10 => ?_)
  · -- taken at 15
    exfalso; omega
  · -- not taken at 15
    refine kx_iconst hx hb dX3_acts_18 ?_
    exact kx_iret (z := 0) hx hb hr hlk (⟨by rfl, hO_6⟩) hS_9 dX3_acts_19

set_option maxHeartbeats 4000000 in
set_option maxRecDepth 100000 in
theorem m_acts_s_no (l : Launch) (D : kG) (H : Heap) (a : Nat) (ra : Nat) (sa : Nat) (ka : Nat) (ta : Nat) (sn : Nat) (ik : Bool) (tn : Nat) (th : Int) (sp : Int) (iw : Bool) (le : Int) (fi : Int) (se : Int) (g : Nat → Int) (gs : Nat → Int) (S : Ls) (gap : Int) (hist : List Sg) (x : Int) (y : Int) (hO_a : kO D H a 2 [.ref ra, .ref sa, .int (kI ((sn : Nat) : Int)), .ref ka, .int (kI (kb (ik))), .ref ta, .int (kI ((tn : Nat) : Int)), .int (kI (th)), .int (kI (sp)), .int (kI (kb (iw))), .int (kI (le)), .int (kI (fi)), .int (kI (se))]) (hA_ra : kAi D H ra 514 g) (hA_sa : kAi D H sa 2570 gs) (hM : MRow g S gap) (hok : LsOK S gap) (hH : MHist gs hist sn) (ne_a_ra : a ≠ ra) (ne_a_sa : a ≠ sa) (ne_ra_sa : ra ≠ sa) (bs_a : kBase D ≤ a) (bs_ra : kBase D ≤ ra) (bs_sa : kBase D ≤ sa) (hr_x : -2147483648 ≤ x ∧ x ≤ 2147483647) (hr_y : -2147483648 ≤ y ∧ y ≤ 2147483647) (hr0 : 0 < ref_s S x y) (hr9 : ref_s S x y ≤ 5) : Met l yX3_acts (ws_ yX3_acts cX3_acts 4 (some .int)) ({ frames := 7, cells := 0, slots := 0, locals := 156 } : Room) (kPre D H [.ref a, .int (kI (115)), .int (kI (x)), .int (kI (y))]) (kQi (fun (r : Int) H' => (r = 0) ∧ (kO D H' a 2 [.ref ra, .ref sa, .int (kI ((sn : Nat) : Int)), .ref ka, .int (kI (kb (ik))), .ref ta, .int (kI ((tn : Nat) : Int)), .int (kI (ref_s S x y)), .int (kI (sp)), .int (kI (kb (iw))), .int (kI (le)), .int (kI (fi)), .int (kI (se))])) (fun q : Nat => q = a)) (0) (0) ((fun q : Nat => q = a)) := by
  refine Met.ofW (cc := cX3_acts) (maxL := 4) (ret := (some .int)) (by decide) rfl ?_
  intro p e s m args below meth c s₁ B hml hv
  obtain ⟨rfl, hH, hK⟩ := hv
  subst hH
  have hx := B.exec
  have hb := B.bytes
  have hr := B.returns
  have hts := atoms_spec (ws := ws_ yX3_acts cX3_acts 4 (some .int)) B.pre
  have hts : ∀ w ∈ lw_all, w.before _ s = true := fun w h => hts w (List.mem_cons_of_mem _ h)
  have hown : s.vm.findClass RX3 = some m.cls := findClass_of_methodNamed B.named
  have hlk := B.notSynchronized
  have hS : va_S (fun q : Nat => q = a) s.heap s.heap [] := va_S.rf
  have hB : ∀ q, (fun q : Nat => q = a) q → kBase D ≤ q := fun q h => by (try dsimp only at h); (try simp only [kNW] at h); have hks := hK.size; omega
  have hl := lv_entry ([.ref a, .int (kI (115)), .int (kI (x)), .int (kI (y))]) (n := 4) (Nat.le_of_ble_eq_true rfl)
  rw [lg_entry_eq]
  generalize (lg_sl ([.ref a, .int (kI (115)), .int (kI (x)), .int (kI (y))]) ++ List.replicate (4 - (lg_sl ([.ref a, .int (kI (115)), .int (kI (x)), .int (kI (y))])).length) Slot.unset).toArray = ls at hl ⊢
  have hl : lv_has ls 4 [(0, .ref a), (1, .int (kI (115))), (2, .int (kI (x))), (3, .int (kI (y)))] := hl
  refine lv_aload_n hx hb dX3_acts_0 rfl (lv_at hl 0 rfl) ?_
  refine lv_aload_n hx hb dX3_acts_1 rfl (lv_at hl 0 rfl) ?_
  refine lv_iload_n hx hb dX3_acts_2 rfl (lv_at hl 1 rfl) ?_
  refine lv_iload_n hx hb dX3_acts_3 rfl (lv_at hl 2 rfl) ?_
  refine lv_iload_n hx hb dX3_acts_4 rfl (lv_at hl 3 rfl) ?_
  refine kx_ci0 (va_runV (As := [.int (kI (115)), .int (kI (x)), .int (kI (y))]) (rest := [.ref a]) ⟨hx, hb, hml, hown, hts⟩ (m_ref_s l D s.heap a ([.ref ra, .ref sa, .int (kI ((sn : Nat) : Int)), .ref ka, .int (kI (kb (ik))), .ref ta, .int (kI ((tn : Nat) : Int)), .int (kI (th)), .int (kI (sp)), .int (kI (kb (iw))), .int (kI (le)), .int (kI (fi)), .int (kI (se))]) ra g S gap x y hO_a rfl hA_ra (by first | assumption | omega) (by first | assumption | omega) (by first | assumption | omega) (by first | assumption | omega)) (cwV 3 hts (lw_V q2290 q2292 qs38 q89 q2293) rfl rfl rfl (by decide +kernel) ⟨Nat.le_of_ble_eq_true rfl, Nat.le_of_ble_eq_true rfl⟩) (kx_pv hK hS hB (kx_rc hK hO_a (C := RX3) (T := TX3) (N := 13) rfl)) rfl rfl hl.1 rfl (lv_room (Nat.le_of_ble_eq_true rfl)) dX3_acts_5 ⟨by first | exact Nat.le_of_ble_eq_true rfl | omega | (show _ ≤ _; omega) | (dsimp only [headSpec]; omega), by first | exact Nat.le_of_ble_eq_true rfl | omega | (show _ ≤ _; omega) | (dsimp only [headSpec]; omega)⟩) hS (fun z_4 locs_1 hz_3 hS_2 => ?_)
  subst z_4
  refine kx_put (v := .int (kI (ref_s S x y))) (C := RX3) (T := TX3) (N := 13) hx hb hts in_X3 hown hK hO_a rfl 7 (by decide) tyX3 tyX3_ok nmX3 hS_2 (by first | rfl | exact Or.inl rfl | exact Or.inr rfl | exact Or.inr (Or.inl rfl) | exact Or.inr (Or.inr rfl) | exact Or.inr (Or.inr (Or.inl rfl)) | exact Or.inr (Or.inr (Or.inr rfl)) | ((try dsimp only); (try simp only [kNW]); omega)) q2245 (fun _ h9 => h9) rfl rfl rfl rfl (Nat.le_of_ble_eq_true rfl) dX3_acts_8 (fun H_7 locs_8 hO_6 hU_5 hS_9 => ?_)
  have hO_6 : kO D H_7 a 2 [.ref ra, .ref sa, .int (kI ((sn : Nat) : Int)), .ref ka, .int (kI (kb (ik))), .ref ta, .int (kI ((tn : Nat) : Int)), .int (kI (ref_s S x y)), .int (kI (sp)), .int (kI (kb (iw))), .int (kI (le)), .int (kI (fi)), .int (kI (se))] := hO_6
  refine lv_aload_n hx hb dX3_acts_11 rfl (lv_at hl 0 rfl) ?_
  refine kx_get (v := .int (kI (ref_s S x y))) (C := RX3) (T := TX3) (N := 13) hx hb hts in_X3 hown hK hO_6 rfl 7 (by decide) q2245 (fun _ h9 => h9) rfl dX3_acts_12 ?_
  refine kx_if_le (x := ref_s S x y) (tgt := 20) hx hb dX3_acts_15 (by decide) (by omega) (by omega) (fun c_15_10 => ?_) (fun c_15_10 => ?_)
  · -- taken at 15
    exfalso; omega
  · -- not taken at 15
    refine kx_iconst hx hb dX3_acts_18 ?_
    exact kx_iret (z := 0) hx hb hr hlk (⟨by rfl, hO_6⟩) hS_9 dX3_acts_19

set_option maxHeartbeats 4000000 in
set_option maxRecDepth 100000 in
theorem m_acts_w_no (l : Launch) (D : kG) (H : Heap) (a : Nat) (ra : Nat) (sa : Nat) (ka : Nat) (ta : Nat) (sn : Nat) (ik : Bool) (tn : Nat) (th : Int) (sp : Int) (iw : Bool) (le : Int) (fi : Int) (se : Int) (g : Nat → Int) (gs : Nat → Int) (S : Ls) (gap : Int) (hist : List Sg) (x : Int) (y : Int) (hO_a : kO D H a 2 [.ref ra, .ref sa, .int (kI ((sn : Nat) : Int)), .ref ka, .int (kI (kb (ik))), .ref ta, .int (kI ((tn : Nat) : Int)), .int (kI (th)), .int (kI (sp)), .int (kI (kb (iw))), .int (kI (le)), .int (kI (fi)), .int (kI (se))]) (hA_ra : kAi D H ra 514 g) (hA_sa : kAi D H sa 2570 gs) (hM : MRow g S gap) (hok : LsOK S gap) (hH : MHist gs hist sn) (ne_a_ra : a ≠ ra) (ne_a_sa : a ≠ sa) (ne_ra_sa : ra ≠ sa) (bs_a : kBase D ≤ a) (bs_ra : kBase D ≤ ra) (bs_sa : kBase D ≤ sa) (hr_x : -2147483648 ≤ x ∧ x ≤ 2147483647) (hr_y : -2147483648 ≤ y ∧ y ≤ 2147483647) (hr0 : 0 < ref_w S x) (hr9 : ref_w S x ≤ 5) : Met l yX3_acts (ws_ yX3_acts cX3_acts 4 (some .int)) ({ frames := 3, cells := 0, slots := 0, locals := 66 } : Room) (kPre D H [.ref a, .int (kI (119)), .int (kI (x)), .int (kI (y))]) (kQi (fun (r : Int) H' => (r = 0) ∧ (kO D H' a 2 [.ref ra, .ref sa, .int (kI ((sn : Nat) : Int)), .ref ka, .int (kI (kb (ik))), .ref ta, .int (kI ((tn : Nat) : Int)), .int (kI (ref_w S x)), .int (kI (sp)), .int (kI (kb (iw))), .int (kI (le)), .int (kI (fi)), .int (kI (se))])) (fun q : Nat => q = a)) (0) (0) ((fun q : Nat => q = a)) := by
  refine Met.ofW (cc := cX3_acts) (maxL := 4) (ret := (some .int)) (by decide) rfl ?_
  intro p e s m args below meth c s₁ B hml hv
  obtain ⟨rfl, hH, hK⟩ := hv
  subst hH
  have hx := B.exec
  have hb := B.bytes
  have hr := B.returns
  have hts := atoms_spec (ws := ws_ yX3_acts cX3_acts 4 (some .int)) B.pre
  have hts : ∀ w ∈ lw_all, w.before _ s = true := fun w h => hts w (List.mem_cons_of_mem _ h)
  have hown : s.vm.findClass RX3 = some m.cls := findClass_of_methodNamed B.named
  have hlk := B.notSynchronized
  have hS : va_S (fun q : Nat => q = a) s.heap s.heap [] := va_S.rf
  have hB : ∀ q, (fun q : Nat => q = a) q → kBase D ≤ q := fun q h => by (try dsimp only at h); (try simp only [kNW] at h); have hks := hK.size; omega
  have hl := lv_entry ([.ref a, .int (kI (119)), .int (kI (x)), .int (kI (y))]) (n := 4) (Nat.le_of_ble_eq_true rfl)
  rw [lg_entry_eq]
  generalize (lg_sl ([.ref a, .int (kI (119)), .int (kI (x)), .int (kI (y))]) ++ List.replicate (4 - (lg_sl ([.ref a, .int (kI (119)), .int (kI (x)), .int (kI (y))])).length) Slot.unset).toArray = ls at hl ⊢
  have hl : lv_has ls 4 [(0, .ref a), (1, .int (kI (119))), (2, .int (kI (x))), (3, .int (kI (y)))] := hl
  refine lv_aload_n hx hb dX3_acts_0 rfl (lv_at hl 0 rfl) ?_
  refine lv_aload_n hx hb dX3_acts_1 rfl (lv_at hl 0 rfl) ?_
  refine lv_iload_n hx hb dX3_acts_2 rfl (lv_at hl 1 rfl) ?_
  refine lv_iload_n hx hb dX3_acts_3 rfl (lv_at hl 2 rfl) ?_
  refine lv_iload_n hx hb dX3_acts_4 rfl (lv_at hl 3 rfl) ?_
  refine kx_ci0 (va_runV (As := [.int (kI (119)), .int (kI (x)), .int (kI (y))]) (rest := [.ref a]) ⟨hx, hb, hml, hown, hts⟩ (m_ref_w l D s.heap a ([.ref ra, .ref sa, .int (kI ((sn : Nat) : Int)), .ref ka, .int (kI (kb (ik))), .ref ta, .int (kI ((tn : Nat) : Int)), .int (kI (th)), .int (kI (sp)), .int (kI (kb (iw))), .int (kI (le)), .int (kI (fi)), .int (kI (se))]) ra g S gap x y hO_a rfl hA_ra (by first | assumption | omega) (by first | assumption | omega) (by first | assumption | omega) (by first | assumption | omega)) (cwV 3 hts (lw_V q2290 q2292 qs38 q89 q2293) rfl rfl rfl (by decide +kernel) ⟨Nat.le_of_ble_eq_true rfl, Nat.le_of_ble_eq_true rfl⟩) (kx_pv hK hS hB (kx_rc hK hO_a (C := RX3) (T := TX3) (N := 13) rfl)) rfl rfl hl.1 rfl (lv_room (Nat.le_of_ble_eq_true rfl)) dX3_acts_5 ⟨by first | exact Nat.le_of_ble_eq_true rfl | omega | (show _ ≤ _; omega) | (dsimp only [headSpec]; omega), by first | exact Nat.le_of_ble_eq_true rfl | omega | (show _ ≤ _; omega) | (dsimp only [headSpec]; omega)⟩) hS (fun z_4 locs_1 hz_3 hS_2 => ?_)
  subst z_4
  refine kx_put (v := .int (kI (ref_w S x))) (C := RX3) (T := TX3) (N := 13) hx hb hts in_X3 hown hK hO_a rfl 7 (by decide) tyX3 tyX3_ok nmX3 hS_2 (by first | rfl | exact Or.inl rfl | exact Or.inr rfl | exact Or.inr (Or.inl rfl) | exact Or.inr (Or.inr rfl) | exact Or.inr (Or.inr (Or.inl rfl)) | exact Or.inr (Or.inr (Or.inr rfl)) | ((try dsimp only); (try simp only [kNW]); omega)) q2245 (fun _ h9 => h9) rfl rfl rfl rfl (Nat.le_of_ble_eq_true rfl) dX3_acts_8 (fun H_7 locs_8 hO_6 hU_5 hS_9 => ?_)
  have hO_6 : kO D H_7 a 2 [.ref ra, .ref sa, .int (kI ((sn : Nat) : Int)), .ref ka, .int (kI (kb (ik))), .ref ta, .int (kI ((tn : Nat) : Int)), .int (kI (ref_w S x)), .int (kI (sp)), .int (kI (kb (iw))), .int (kI (le)), .int (kI (fi)), .int (kI (se))] := hO_6
  refine lv_aload_n hx hb dX3_acts_11 rfl (lv_at hl 0 rfl) ?_
  refine kx_get (v := .int (kI (ref_w S x))) (C := RX3) (T := TX3) (N := 13) hx hb hts in_X3 hown hK hO_6 rfl 7 (by decide) q2245 (fun _ h9 => h9) rfl dX3_acts_12 ?_
  refine kx_if_le (x := ref_w S x) (tgt := 20) hx hb dX3_acts_15 (by decide) (by omega) (by omega) (fun c_15_10 => ?_) (fun c_15_10 => ?_)
  · -- taken at 15
    exfalso; omega
  · -- not taken at 15
    refine kx_iconst hx hb dX3_acts_18 ?_
    exact kx_iret (z := 0) hx hb hr hlk (⟨by rfl, hO_6⟩) hS_9 dX3_acts_19

set_option maxHeartbeats 4000000 in
set_option maxRecDepth 100000 in
theorem m_acts_l_no (l : Launch) (D : kG) (H : Heap) (a : Nat) (ra : Nat) (sa : Nat) (ka : Nat) (ta : Nat) (sn : Nat) (ik : Bool) (tn : Nat) (th : Int) (sp : Int) (iw : Bool) (le : Int) (fi : Int) (se : Int) (g : Nat → Int) (gs : Nat → Int) (S : Ls) (gap : Int) (hist : List Sg) (x : Int) (y : Int) (hO_a : kO D H a 2 [.ref ra, .ref sa, .int (kI ((sn : Nat) : Int)), .ref ka, .int (kI (kb (ik))), .ref ta, .int (kI ((tn : Nat) : Int)), .int (kI (th)), .int (kI (sp)), .int (kI (kb (iw))), .int (kI (le)), .int (kI (fi)), .int (kI (se))]) (hA_ra : kAi D H ra 514 g) (hA_sa : kAi D H sa 2570 gs) (hM : MRow g S gap) (hok : LsOK S gap) (hH : MHist gs hist sn) (ne_a_ra : a ≠ ra) (ne_a_sa : a ≠ sa) (ne_ra_sa : ra ≠ sa) (bs_a : kBase D ≤ a) (bs_ra : kBase D ≤ ra) (bs_sa : kBase D ≤ sa) (hr_x : -2147483648 ≤ x ∧ x ≤ 2147483647) (hr_y : -2147483648 ≤ y ∧ y ≤ 2147483647) (hr0 : 0 < ref_l S gap x y) (hr9 : ref_l S gap x y ≤ 5) : Met l yX3_acts (ws_ yX3_acts cX3_acts 4 (some .int)) ({ frames := 9, cells := 0, slots := 0, locals := 202 } : Room) (kPre D H [.ref a, .int (kI (108)), .int (kI (x)), .int (kI (y))]) (kQi (fun (r : Int) H' => (r = 0) ∧ (kO D H' a 2 [.ref ra, .ref sa, .int (kI ((sn : Nat) : Int)), .ref ka, .int (kI (kb (ik))), .ref ta, .int (kI ((tn : Nat) : Int)), .int (kI (ref_l S gap x y)), .int (kI (sp)), .int (kI (kb (iw))), .int (kI (le)), .int (kI (fi)), .int (kI (se))])) (fun q : Nat => q = a)) (0) (0) ((fun q : Nat => q = a)) := by
  refine Met.ofW (cc := cX3_acts) (maxL := 4) (ret := (some .int)) (by decide) rfl ?_
  intro p e s m args below meth c s₁ B hml hv
  obtain ⟨rfl, hH, hK⟩ := hv
  subst hH
  have hx := B.exec
  have hb := B.bytes
  have hr := B.returns
  have hts := atoms_spec (ws := ws_ yX3_acts cX3_acts 4 (some .int)) B.pre
  have hts : ∀ w ∈ lw_all, w.before _ s = true := fun w h => hts w (List.mem_cons_of_mem _ h)
  have hown : s.vm.findClass RX3 = some m.cls := findClass_of_methodNamed B.named
  have hlk := B.notSynchronized
  have hS : va_S (fun q : Nat => q = a) s.heap s.heap [] := va_S.rf
  have hB : ∀ q, (fun q : Nat => q = a) q → kBase D ≤ q := fun q h => by (try dsimp only at h); (try simp only [kNW] at h); have hks := hK.size; omega
  have hl := lv_entry ([.ref a, .int (kI (108)), .int (kI (x)), .int (kI (y))]) (n := 4) (Nat.le_of_ble_eq_true rfl)
  rw [lg_entry_eq]
  generalize (lg_sl ([.ref a, .int (kI (108)), .int (kI (x)), .int (kI (y))]) ++ List.replicate (4 - (lg_sl ([.ref a, .int (kI (108)), .int (kI (x)), .int (kI (y))])).length) Slot.unset).toArray = ls at hl ⊢
  have hl : lv_has ls 4 [(0, .ref a), (1, .int (kI (108))), (2, .int (kI (x))), (3, .int (kI (y)))] := hl
  refine lv_aload_n hx hb dX3_acts_0 rfl (lv_at hl 0 rfl) ?_
  refine lv_aload_n hx hb dX3_acts_1 rfl (lv_at hl 0 rfl) ?_
  refine lv_iload_n hx hb dX3_acts_2 rfl (lv_at hl 1 rfl) ?_
  refine lv_iload_n hx hb dX3_acts_3 rfl (lv_at hl 2 rfl) ?_
  refine lv_iload_n hx hb dX3_acts_4 rfl (lv_at hl 3 rfl) ?_
  refine kx_ci0 (va_runV (As := [.int (kI (108)), .int (kI (x)), .int (kI (y))]) (rest := [.ref a]) ⟨hx, hb, hml, hown, hts⟩ (m_ref_l l D s.heap a ([.ref ra, .ref sa, .int (kI ((sn : Nat) : Int)), .ref ka, .int (kI (kb (ik))), .ref ta, .int (kI ((tn : Nat) : Int)), .int (kI (th)), .int (kI (sp)), .int (kI (kb (iw))), .int (kI (le)), .int (kI (fi)), .int (kI (se))]) ra g S gap x y hO_a rfl hA_ra (by first | assumption | omega) (by first | assumption | omega) (by first | assumption | omega) (by first | assumption | omega)) (cwV 3 hts (lw_V q2290 q2292 qs38 q89 q2293) rfl rfl rfl (by decide +kernel) ⟨Nat.le_of_ble_eq_true rfl, Nat.le_of_ble_eq_true rfl⟩) (kx_pv hK hS hB (kx_rc hK hO_a (C := RX3) (T := TX3) (N := 13) rfl)) rfl rfl hl.1 rfl (lv_room (Nat.le_of_ble_eq_true rfl)) dX3_acts_5 ⟨by first | exact Nat.le_of_ble_eq_true rfl | omega | (show _ ≤ _; omega) | (dsimp only [headSpec]; omega), by first | exact Nat.le_of_ble_eq_true rfl | omega | (show _ ≤ _; omega) | (dsimp only [headSpec]; omega)⟩) hS (fun z_4 locs_1 hz_3 hS_2 => ?_)
  subst z_4
  refine kx_put (v := .int (kI (ref_l S gap x y))) (C := RX3) (T := TX3) (N := 13) hx hb hts in_X3 hown hK hO_a rfl 7 (by decide) tyX3 tyX3_ok nmX3 hS_2 (by first | rfl | exact Or.inl rfl | exact Or.inr rfl | exact Or.inr (Or.inl rfl) | exact Or.inr (Or.inr rfl) | exact Or.inr (Or.inr (Or.inl rfl)) | exact Or.inr (Or.inr (Or.inr rfl)) | ((try dsimp only); (try simp only [kNW]); omega)) q2245 (fun _ h9 => h9) rfl rfl rfl rfl (Nat.le_of_ble_eq_true rfl) dX3_acts_8 (fun H_7 locs_8 hO_6 hU_5 hS_9 => ?_)
  have hO_6 : kO D H_7 a 2 [.ref ra, .ref sa, .int (kI ((sn : Nat) : Int)), .ref ka, .int (kI (kb (ik))), .ref ta, .int (kI ((tn : Nat) : Int)), .int (kI (ref_l S gap x y)), .int (kI (sp)), .int (kI (kb (iw))), .int (kI (le)), .int (kI (fi)), .int (kI (se))] := hO_6
  refine lv_aload_n hx hb dX3_acts_11 rfl (lv_at hl 0 rfl) ?_
  refine kx_get (v := .int (kI (ref_l S gap x y))) (C := RX3) (T := TX3) (N := 13) hx hb hts in_X3 hown hK hO_6 rfl 7 (by decide) q2245 (fun _ h9 => h9) rfl dX3_acts_12 ?_
  refine kx_if_le (x := ref_l S gap x y) (tgt := 20) hx hb dX3_acts_15 (by decide) (by omega) (by omega) (fun c_15_10 => ?_) (fun c_15_10 => ?_)
  · -- taken at 15
    exfalso; omega
  · -- not taken at 15
    refine kx_iconst hx hb dX3_acts_18 ?_
    exact kx_iret (z := 0) hx hb hr hlk (⟨by rfl, hO_6⟩) hS_9 dX3_acts_19

set_option maxHeartbeats 4000000 in
set_option maxRecDepth 100000 in
theorem m_acts_u_no (l : Launch) (D : kG) (H : Heap) (a : Nat) (ra : Nat) (sa : Nat) (ka : Nat) (ta : Nat) (sn : Nat) (ik : Bool) (tn : Nat) (th : Int) (sp : Int) (iw : Bool) (le : Int) (fi : Int) (se : Int) (g : Nat → Int) (gs : Nat → Int) (S : Ls) (gap : Int) (hist : List Sg) (x : Int) (y : Int) (hO_a : kO D H a 2 [.ref ra, .ref sa, .int (kI ((sn : Nat) : Int)), .ref ka, .int (kI (kb (ik))), .ref ta, .int (kI ((tn : Nat) : Int)), .int (kI (th)), .int (kI (sp)), .int (kI (kb (iw))), .int (kI (le)), .int (kI (fi)), .int (kI (se))]) (hA_ra : kAi D H ra 514 g) (hA_sa : kAi D H sa 2570 gs) (hM : MRow g S gap) (hok : LsOK S gap) (hH : MHist gs hist sn) (ne_a_ra : a ≠ ra) (ne_a_sa : a ≠ sa) (ne_ra_sa : ra ≠ sa) (bs_a : kBase D ≤ a) (bs_ra : kBase D ≤ ra) (bs_sa : kBase D ≤ sa) (hr_x : -2147483648 ≤ x ∧ x ≤ 2147483647) (hr_y : -2147483648 ≤ y ∧ y ≤ 2147483647) (hr0 : 0 < ref_u S x) (hr9 : ref_u S x ≤ 5) : Met l yX3_acts (ws_ yX3_acts cX3_acts 4 (some .int)) ({ frames := 3, cells := 0, slots := 0, locals := 66 } : Room) (kPre D H [.ref a, .int (kI (117)), .int (kI (x)), .int (kI (y))]) (kQi (fun (r : Int) H' => (r = 0) ∧ (kO D H' a 2 [.ref ra, .ref sa, .int (kI ((sn : Nat) : Int)), .ref ka, .int (kI (kb (ik))), .ref ta, .int (kI ((tn : Nat) : Int)), .int (kI (ref_u S x)), .int (kI (sp)), .int (kI (kb (iw))), .int (kI (le)), .int (kI (fi)), .int (kI (se))])) (fun q : Nat => q = a)) (0) (0) ((fun q : Nat => q = a)) := by
  refine Met.ofW (cc := cX3_acts) (maxL := 4) (ret := (some .int)) (by decide) rfl ?_
  intro p e s m args below meth c s₁ B hml hv
  obtain ⟨rfl, hH, hK⟩ := hv
  subst hH
  have hx := B.exec
  have hb := B.bytes
  have hr := B.returns
  have hts := atoms_spec (ws := ws_ yX3_acts cX3_acts 4 (some .int)) B.pre
  have hts : ∀ w ∈ lw_all, w.before _ s = true := fun w h => hts w (List.mem_cons_of_mem _ h)
  have hown : s.vm.findClass RX3 = some m.cls := findClass_of_methodNamed B.named
  have hlk := B.notSynchronized
  have hS : va_S (fun q : Nat => q = a) s.heap s.heap [] := va_S.rf
  have hB : ∀ q, (fun q : Nat => q = a) q → kBase D ≤ q := fun q h => by (try dsimp only at h); (try simp only [kNW] at h); have hks := hK.size; omega
  have hl := lv_entry ([.ref a, .int (kI (117)), .int (kI (x)), .int (kI (y))]) (n := 4) (Nat.le_of_ble_eq_true rfl)
  rw [lg_entry_eq]
  generalize (lg_sl ([.ref a, .int (kI (117)), .int (kI (x)), .int (kI (y))]) ++ List.replicate (4 - (lg_sl ([.ref a, .int (kI (117)), .int (kI (x)), .int (kI (y))])).length) Slot.unset).toArray = ls at hl ⊢
  have hl : lv_has ls 4 [(0, .ref a), (1, .int (kI (117))), (2, .int (kI (x))), (3, .int (kI (y)))] := hl
  refine lv_aload_n hx hb dX3_acts_0 rfl (lv_at hl 0 rfl) ?_
  refine lv_aload_n hx hb dX3_acts_1 rfl (lv_at hl 0 rfl) ?_
  refine lv_iload_n hx hb dX3_acts_2 rfl (lv_at hl 1 rfl) ?_
  refine lv_iload_n hx hb dX3_acts_3 rfl (lv_at hl 2 rfl) ?_
  refine lv_iload_n hx hb dX3_acts_4 rfl (lv_at hl 3 rfl) ?_
  refine kx_ci0 (va_runV (As := [.int (kI (117)), .int (kI (x)), .int (kI (y))]) (rest := [.ref a]) ⟨hx, hb, hml, hown, hts⟩ (m_ref_u l D s.heap a ([.ref ra, .ref sa, .int (kI ((sn : Nat) : Int)), .ref ka, .int (kI (kb (ik))), .ref ta, .int (kI ((tn : Nat) : Int)), .int (kI (th)), .int (kI (sp)), .int (kI (kb (iw))), .int (kI (le)), .int (kI (fi)), .int (kI (se))]) ra g S gap x y hO_a rfl hA_ra (by first | assumption | omega) (by first | assumption | omega) (by first | assumption | omega) (by first | assumption | omega)) (cwV 3 hts (lw_V q2290 q2292 qs38 q89 q2293) rfl rfl rfl (by decide +kernel) ⟨Nat.le_of_ble_eq_true rfl, Nat.le_of_ble_eq_true rfl⟩) (kx_pv hK hS hB (kx_rc hK hO_a (C := RX3) (T := TX3) (N := 13) rfl)) rfl rfl hl.1 rfl (lv_room (Nat.le_of_ble_eq_true rfl)) dX3_acts_5 ⟨by first | exact Nat.le_of_ble_eq_true rfl | omega | (show _ ≤ _; omega) | (dsimp only [headSpec]; omega), by first | exact Nat.le_of_ble_eq_true rfl | omega | (show _ ≤ _; omega) | (dsimp only [headSpec]; omega)⟩) hS (fun z_4 locs_1 hz_3 hS_2 => ?_)
  subst z_4
  refine kx_put (v := .int (kI (ref_u S x))) (C := RX3) (T := TX3) (N := 13) hx hb hts in_X3 hown hK hO_a rfl 7 (by decide) tyX3 tyX3_ok nmX3 hS_2 (by first | rfl | exact Or.inl rfl | exact Or.inr rfl | exact Or.inr (Or.inl rfl) | exact Or.inr (Or.inr rfl) | exact Or.inr (Or.inr (Or.inl rfl)) | exact Or.inr (Or.inr (Or.inr rfl)) | ((try dsimp only); (try simp only [kNW]); omega)) q2245 (fun _ h9 => h9) rfl rfl rfl rfl (Nat.le_of_ble_eq_true rfl) dX3_acts_8 (fun H_7 locs_8 hO_6 hU_5 hS_9 => ?_)
  have hO_6 : kO D H_7 a 2 [.ref ra, .ref sa, .int (kI ((sn : Nat) : Int)), .ref ka, .int (kI (kb (ik))), .ref ta, .int (kI ((tn : Nat) : Int)), .int (kI (ref_u S x)), .int (kI (sp)), .int (kI (kb (iw))), .int (kI (le)), .int (kI (fi)), .int (kI (se))] := hO_6
  refine lv_aload_n hx hb dX3_acts_11 rfl (lv_at hl 0 rfl) ?_
  refine kx_get (v := .int (kI (ref_u S x))) (C := RX3) (T := TX3) (N := 13) hx hb hts in_X3 hown hK hO_6 rfl 7 (by decide) q2245 (fun _ h9 => h9) rfl dX3_acts_12 ?_
  refine kx_if_le (x := ref_u S x) (tgt := 20) hx hb dX3_acts_15 (by decide) (by omega) (by omega) (fun c_15_10 => ?_) (fun c_15_10 => ?_)
  · -- taken at 15
    exfalso; omega
  · -- not taken at 15
    refine kx_iconst hx hb dX3_acts_18 ?_
    exact kx_iret (z := 0) hx hb hr hlk (⟨by rfl, hO_6⟩) hS_9 dX3_acts_19

set_option maxHeartbeats 4000000 in
set_option maxRecDepth 100000 in
theorem m_acts_best_no (l : Launch) (D : kG) (H : Heap) (a : Nat) (ra : Nat) (sa : Nat) (ka : Nat) (ta : Nat) (sn : Nat) (ik : Bool) (tn : Nat) (th : Int) (sp : Int) (iw : Bool) (le : Int) (fi : Int) (se : Int) (g : Nat → Int) (gs : Nat → Int) (S : Ls) (gap : Int) (hist : List Sg) (x : Int) (y : Int) (hO_a : kO D H a 2 [.ref ra, .ref sa, .int (kI ((sn : Nat) : Int)), .ref ka, .int (kI (kb (ik))), .ref ta, .int (kI ((tn : Nat) : Int)), .int (kI (th)), .int (kI (sp)), .int (kI (kb (iw))), .int (kI (le)), .int (kI (fi)), .int (kI (se))]) (hA_ra : kAi D H ra 514 g) (hA_sa : kAi D H sa 2570 gs) (hM : MRow g S gap) (hok : LsOK S gap) (hH : MHist gs hist sn) (ne_a_ra : a ≠ ra) (ne_a_sa : a ≠ sa) (ne_ra_sa : ra ≠ sa) (bs_a : kBase D ≤ a) (bs_ra : kBase D ≤ ra) (bs_sa : kBase D ≤ sa) (hr_x : -2147483648 ≤ x ∧ x ≤ 2147483647) (hr_y : -2147483648 ≤ y ∧ y ≤ 2147483647) (hr0 : 0 < ref_best S gap x) (hr9 : ref_best S gap x ≤ 5) : Met l yX3_acts (ws_ yX3_acts cX3_acts 4 (some .int)) ({ frames := 10, cells := 0, slots := 0, locals := 230 } : Room) (kPre D H [.ref a, .int (kI (98)), .int (kI (x)), .int (kI (y))]) (kQi (fun (r : Int) H' => (r = 0) ∧ (kO D H' a 2 [.ref ra, .ref sa, .int (kI ((sn : Nat) : Int)), .ref ka, .int (kI (kb (ik))), .ref ta, .int (kI ((tn : Nat) : Int)), .int (kI (ref_best S gap x)), .int (kI (sp)), .int (kI (kb (iw))), .int (kI (le)), .int (kI (fi)), .int (kI (se))])) (fun q : Nat => q = a)) (0) (0) ((fun q : Nat => q = a)) := by
  refine Met.ofW (cc := cX3_acts) (maxL := 4) (ret := (some .int)) (by decide) rfl ?_
  intro p e s m args below meth c s₁ B hml hv
  obtain ⟨rfl, hH, hK⟩ := hv
  subst hH
  have hx := B.exec
  have hb := B.bytes
  have hr := B.returns
  have hts := atoms_spec (ws := ws_ yX3_acts cX3_acts 4 (some .int)) B.pre
  have hts : ∀ w ∈ lw_all, w.before _ s = true := fun w h => hts w (List.mem_cons_of_mem _ h)
  have hown : s.vm.findClass RX3 = some m.cls := findClass_of_methodNamed B.named
  have hlk := B.notSynchronized
  have hS : va_S (fun q : Nat => q = a) s.heap s.heap [] := va_S.rf
  have hB : ∀ q, (fun q : Nat => q = a) q → kBase D ≤ q := fun q h => by (try dsimp only at h); (try simp only [kNW] at h); have hks := hK.size; omega
  have hl := lv_entry ([.ref a, .int (kI (98)), .int (kI (x)), .int (kI (y))]) (n := 4) (Nat.le_of_ble_eq_true rfl)
  rw [lg_entry_eq]
  generalize (lg_sl ([.ref a, .int (kI (98)), .int (kI (x)), .int (kI (y))]) ++ List.replicate (4 - (lg_sl ([.ref a, .int (kI (98)), .int (kI (x)), .int (kI (y))])).length) Slot.unset).toArray = ls at hl ⊢
  have hl : lv_has ls 4 [(0, .ref a), (1, .int (kI (98))), (2, .int (kI (x))), (3, .int (kI (y)))] := hl
  refine lv_aload_n hx hb dX3_acts_0 rfl (lv_at hl 0 rfl) ?_
  refine lv_aload_n hx hb dX3_acts_1 rfl (lv_at hl 0 rfl) ?_
  refine lv_iload_n hx hb dX3_acts_2 rfl (lv_at hl 1 rfl) ?_
  refine lv_iload_n hx hb dX3_acts_3 rfl (lv_at hl 2 rfl) ?_
  refine lv_iload_n hx hb dX3_acts_4 rfl (lv_at hl 3 rfl) ?_
  refine kx_ci0 (va_runV (As := [.int (kI (98)), .int (kI (x)), .int (kI (y))]) (rest := [.ref a]) ⟨hx, hb, hml, hown, hts⟩ (m_ref_best l D s.heap a ([.ref ra, .ref sa, .int (kI ((sn : Nat) : Int)), .ref ka, .int (kI (kb (ik))), .ref ta, .int (kI ((tn : Nat) : Int)), .int (kI (th)), .int (kI (sp)), .int (kI (kb (iw))), .int (kI (le)), .int (kI (fi)), .int (kI (se))]) ra g S gap x y hO_a rfl hA_ra (by first | assumption | omega) (by first | assumption | omega) (by first | assumption | omega) (by first | assumption | omega)) (cwV 3 hts (lw_V q2290 q2292 qs38 q89 q2293) rfl rfl rfl (by decide +kernel) ⟨Nat.le_of_ble_eq_true rfl, Nat.le_of_ble_eq_true rfl⟩) (kx_pv hK hS hB (kx_rc hK hO_a (C := RX3) (T := TX3) (N := 13) rfl)) rfl rfl hl.1 rfl (lv_room (Nat.le_of_ble_eq_true rfl)) dX3_acts_5 ⟨by first | exact Nat.le_of_ble_eq_true rfl | omega | (show _ ≤ _; omega) | (dsimp only [headSpec]; omega), by first | exact Nat.le_of_ble_eq_true rfl | omega | (show _ ≤ _; omega) | (dsimp only [headSpec]; omega)⟩) hS (fun z_4 locs_1 hz_3 hS_2 => ?_)
  subst z_4
  refine kx_put (v := .int (kI (ref_best S gap x))) (C := RX3) (T := TX3) (N := 13) hx hb hts in_X3 hown hK hO_a rfl 7 (by decide) tyX3 tyX3_ok nmX3 hS_2 (by first | rfl | exact Or.inl rfl | exact Or.inr rfl | exact Or.inr (Or.inl rfl) | exact Or.inr (Or.inr rfl) | exact Or.inr (Or.inr (Or.inl rfl)) | exact Or.inr (Or.inr (Or.inr rfl)) | ((try dsimp only); (try simp only [kNW]); omega)) q2245 (fun _ h9 => h9) rfl rfl rfl rfl (Nat.le_of_ble_eq_true rfl) dX3_acts_8 (fun H_7 locs_8 hO_6 hU_5 hS_9 => ?_)
  have hO_6 : kO D H_7 a 2 [.ref ra, .ref sa, .int (kI ((sn : Nat) : Int)), .ref ka, .int (kI (kb (ik))), .ref ta, .int (kI ((tn : Nat) : Int)), .int (kI (ref_best S gap x)), .int (kI (sp)), .int (kI (kb (iw))), .int (kI (le)), .int (kI (fi)), .int (kI (se))] := hO_6
  refine lv_aload_n hx hb dX3_acts_11 rfl (lv_at hl 0 rfl) ?_
  refine kx_get (v := .int (kI (ref_best S gap x))) (C := RX3) (T := TX3) (N := 13) hx hb hts in_X3 hown hK hO_6 rfl 7 (by decide) q2245 (fun _ h9 => h9) rfl dX3_acts_12 ?_
  refine kx_if_le (x := ref_best S gap x) (tgt := 20) hx hb dX3_acts_15 (by decide) (by omega) (by omega) (fun c_15_10 => ?_) (fun c_15_10 => ?_)
  · -- taken at 15
    exfalso; omega
  · -- not taken at 15
    refine kx_iconst hx hb dX3_acts_18 ?_
    exact kx_iret (z := 0) hx hb hr hlk (⟨by rfl, hO_6⟩) hS_9 dX3_acts_19

set_option maxHeartbeats 4000000 in
set_option maxRecDepth 100000 in
theorem m_acts_g_no (l : Launch) (D : kG) (H : Heap) (a : Nat) (ra : Nat) (sa : Nat) (ka : Nat) (ta : Nat) (sn : Nat) (ik : Bool) (tn : Nat) (th : Int) (sp : Int) (iw : Bool) (le : Int) (fi : Int) (se : Int) (g : Nat → Int) (gs : Nat → Int) (S : Ls) (gap : Int) (hist : List Sg) (x : Int) (y : Int) (hO_a : kO D H a 2 [.ref ra, .ref sa, .int (kI ((sn : Nat) : Int)), .ref ka, .int (kI (kb (ik))), .ref ta, .int (kI ((tn : Nat) : Int)), .int (kI (th)), .int (kI (sp)), .int (kI (kb (iw))), .int (kI (le)), .int (kI (fi)), .int (kI (se))]) (hA_ra : kAi D H ra 514 g) (hA_sa : kAi D H sa 2570 gs) (hM : MRow g S gap) (hok : LsOK S gap) (hH : MHist gs hist sn) (ne_a_ra : a ≠ ra) (ne_a_sa : a ≠ sa) (ne_ra_sa : ra ≠ sa) (bs_a : kBase D ≤ a) (bs_ra : kBase D ≤ ra) (bs_sa : kBase D ≤ sa) (hr_x : -2147483648 ≤ x ∧ x ≤ 2147483647) (hr_y : -2147483648 ≤ y ∧ y ≤ 2147483647) (hr0 : 0 < ref_g x) (hr9 : ref_g x ≤ 5) : Met l yX3_acts (ws_ yX3_acts cX3_acts 4 (some .int)) ({ frames := 2, cells := 0, slots := 0, locals := 45 } : Room) (kPre D H [.ref a, .int (kI (103)), .int (kI (x)), .int (kI (y))]) (kQi (fun (r : Int) H' => (r = 0) ∧ (kO D H' a 2 [.ref ra, .ref sa, .int (kI ((sn : Nat) : Int)), .ref ka, .int (kI (kb (ik))), .ref ta, .int (kI ((tn : Nat) : Int)), .int (kI (ref_g x)), .int (kI (sp)), .int (kI (kb (iw))), .int (kI (le)), .int (kI (fi)), .int (kI (se))])) (fun q : Nat => q = a)) (0) (0) ((fun q : Nat => q = a)) := by
  refine Met.ofW (cc := cX3_acts) (maxL := 4) (ret := (some .int)) (by decide) rfl ?_
  intro p e s m args below meth c s₁ B hml hv
  obtain ⟨rfl, hH, hK⟩ := hv
  subst hH
  have hx := B.exec
  have hb := B.bytes
  have hr := B.returns
  have hts := atoms_spec (ws := ws_ yX3_acts cX3_acts 4 (some .int)) B.pre
  have hts : ∀ w ∈ lw_all, w.before _ s = true := fun w h => hts w (List.mem_cons_of_mem _ h)
  have hown : s.vm.findClass RX3 = some m.cls := findClass_of_methodNamed B.named
  have hlk := B.notSynchronized
  have hS : va_S (fun q : Nat => q = a) s.heap s.heap [] := va_S.rf
  have hB : ∀ q, (fun q : Nat => q = a) q → kBase D ≤ q := fun q h => by (try dsimp only at h); (try simp only [kNW] at h); have hks := hK.size; omega
  have hl := lv_entry ([.ref a, .int (kI (103)), .int (kI (x)), .int (kI (y))]) (n := 4) (Nat.le_of_ble_eq_true rfl)
  rw [lg_entry_eq]
  generalize (lg_sl ([.ref a, .int (kI (103)), .int (kI (x)), .int (kI (y))]) ++ List.replicate (4 - (lg_sl ([.ref a, .int (kI (103)), .int (kI (x)), .int (kI (y))])).length) Slot.unset).toArray = ls at hl ⊢
  have hl : lv_has ls 4 [(0, .ref a), (1, .int (kI (103))), (2, .int (kI (x))), (3, .int (kI (y)))] := hl
  refine lv_aload_n hx hb dX3_acts_0 rfl (lv_at hl 0 rfl) ?_
  refine lv_aload_n hx hb dX3_acts_1 rfl (lv_at hl 0 rfl) ?_
  refine lv_iload_n hx hb dX3_acts_2 rfl (lv_at hl 1 rfl) ?_
  refine lv_iload_n hx hb dX3_acts_3 rfl (lv_at hl 2 rfl) ?_
  refine lv_iload_n hx hb dX3_acts_4 rfl (lv_at hl 3 rfl) ?_
  refine kx_ci0 (va_runV (As := [.int (kI (103)), .int (kI (x)), .int (kI (y))]) (rest := [.ref a]) ⟨hx, hb, hml, hown, hts⟩ (m_ref_g l D s.heap a ([.ref ra, .ref sa, .int (kI ((sn : Nat) : Int)), .ref ka, .int (kI (kb (ik))), .ref ta, .int (kI ((tn : Nat) : Int)), .int (kI (th)), .int (kI (sp)), .int (kI (kb (iw))), .int (kI (le)), .int (kI (fi)), .int (kI (se))]) ra g S gap x y hO_a rfl hA_ra (by first | assumption | omega) (by first | assumption | omega) (by first | assumption | omega) (by first | assumption | omega)) (cwV 3 hts (lw_V q2290 q2292 qs38 q89 q2293) rfl rfl rfl (by decide +kernel) ⟨Nat.le_of_ble_eq_true rfl, Nat.le_of_ble_eq_true rfl⟩) (kx_pv hK hS hB (kx_rc hK hO_a (C := RX3) (T := TX3) (N := 13) rfl)) rfl rfl hl.1 rfl (lv_room (Nat.le_of_ble_eq_true rfl)) dX3_acts_5 ⟨by first | exact Nat.le_of_ble_eq_true rfl | omega | (show _ ≤ _; omega) | (dsimp only [headSpec]; omega), by first | exact Nat.le_of_ble_eq_true rfl | omega | (show _ ≤ _; omega) | (dsimp only [headSpec]; omega)⟩) hS (fun z_4 locs_1 hz_3 hS_2 => ?_)
  subst z_4
  refine kx_put (v := .int (kI (ref_g x))) (C := RX3) (T := TX3) (N := 13) hx hb hts in_X3 hown hK hO_a rfl 7 (by decide) tyX3 tyX3_ok nmX3 hS_2 (by first | rfl | exact Or.inl rfl | exact Or.inr rfl | exact Or.inr (Or.inl rfl) | exact Or.inr (Or.inr rfl) | exact Or.inr (Or.inr (Or.inl rfl)) | exact Or.inr (Or.inr (Or.inr rfl)) | ((try dsimp only); (try simp only [kNW]); omega)) q2245 (fun _ h9 => h9) rfl rfl rfl rfl (Nat.le_of_ble_eq_true rfl) dX3_acts_8 (fun H_7 locs_8 hO_6 hU_5 hS_9 => ?_)
  have hO_6 : kO D H_7 a 2 [.ref ra, .ref sa, .int (kI ((sn : Nat) : Int)), .ref ka, .int (kI (kb (ik))), .ref ta, .int (kI ((tn : Nat) : Int)), .int (kI (ref_g x)), .int (kI (sp)), .int (kI (kb (iw))), .int (kI (le)), .int (kI (fi)), .int (kI (se))] := hO_6
  refine lv_aload_n hx hb dX3_acts_11 rfl (lv_at hl 0 rfl) ?_
  refine kx_get (v := .int (kI (ref_g x))) (C := RX3) (T := TX3) (N := 13) hx hb hts in_X3 hown hK hO_6 rfl 7 (by decide) q2245 (fun _ h9 => h9) rfl dX3_acts_12 ?_
  refine kx_if_le (x := ref_g x) (tgt := 20) hx hb dX3_acts_15 (by decide) (by omega) (by omega) (fun c_15_10 => ?_) (fun c_15_10 => ?_)
  · -- taken at 15
    exfalso; omega
  · -- not taken at 15
    refine kx_iconst hx hb dX3_acts_18 ?_
    exact kx_iret (z := 0) hx hb hr hlk (⟨by rfl, hO_6⟩) hS_9 dX3_acts_19

set_option maxHeartbeats 4000000 in
set_option maxRecDepth 100000 in
theorem m_acts_b (l : Launch) (D : kG) (H : Heap) (a : Nat) (ra : Nat) (sa : Nat) (ka : Nat) (ta : Nat) (sn : Nat) (ik : Bool) (tn : Nat) (th : Int) (sp : Int) (iw : Bool) (le : Int) (fi : Int) (se : Int) (g : Nat → Int) (gs : Nat → Int) (S : Ls) (gap : Int) (hist : List Sg) (x : Int) (y : Int) (hO_a : kO D H a 2 [.ref ra, .ref sa, .int (kI ((sn : Nat) : Int)), .ref ka, .int (kI (kb (ik))), .ref ta, .int (kI ((tn : Nat) : Int)), .int (kI (th)), .int (kI (sp)), .int (kI (kb (iw))), .int (kI (le)), .int (kI (fi)), .int (kI (se))]) (hA_ra : kAi D H ra 514 g) (hA_sa : kAi D H sa 2570 gs) (hM : MRow g S gap) (hok : LsOK S gap) (hH : MHist gs hist sn) (ne_a_ra : a ≠ ra) (ne_a_sa : a ≠ sa) (ne_ra_sa : ra ≠ sa) (bs_a : kBase D ≤ a) (bs_ra : kBase D ≤ ra) (bs_sa : kBase D ≤ sa) (hr_x : -2147483648 ≤ x ∧ x ≤ 2147483647) (hr_y : -2147483648 ≤ y ∧ y ≤ 2147483647) (hl8 : S.length < 8) (hr0 : ref_b S x y = 0) : Met l yX3_acts (ws_ yX3_acts cX3_acts 4 (some .int)) ({ frames := 4, cells := 0, slots := 0, locals := 90 } : Room) (kPre D H [.ref a, .int (kI (110)), .int (kI (x)), .int (kI (y))]) (kQi (fun (r : Int) H' => ∃ (g2 : Nat → Int) (gs2 : Nat → Int) (sn2 : Nat), (r = ((S.length : Nat) : Int)) ∧ (kO D H' a 2 [.ref ra, .ref sa, .int (kI ((sn2 : Nat) : Int)), .ref ka, .int (kI (kb (ik))), .ref ta, .int (kI ((tn : Nat) : Int)), .int (kI (0)), .int (kI (sp)), .int (kI (kb (iw))), .int (kI (le)), .int (kI (fi)), .int (kI (se))]) ∧ (kAi D H' ra 514 g2) ∧ (kAi D H' sa 2570 gs2) ∧ (MRow g2 (S ++ [w_new x y]) (gap)) ∧ (MHist gs2 (pushH hist (S, gap)) sn2)) (fun q : Nat => q = a ∨ q = ra ∨ q = sa)) (0) (0) ((fun q : Nat => q = a ∨ q = ra ∨ q = sa)) := by
  refine Met.ofW (cc := cX3_acts) (maxL := 4) (ret := (some .int)) (by decide) rfl ?_
  intro p e s m args below meth c s₁ B hml hv
  obtain ⟨rfl, hH, hK⟩ := hv
  subst hH
  have hx := B.exec
  have hb := B.bytes
  have hr := B.returns
  have hts := atoms_spec (ws := ws_ yX3_acts cX3_acts 4 (some .int)) B.pre
  have hts : ∀ w ∈ lw_all, w.before _ s = true := fun w h => hts w (List.mem_cons_of_mem _ h)
  have hown : s.vm.findClass RX3 = some m.cls := findClass_of_methodNamed B.named
  have hlk := B.notSynchronized
  have hS : va_S (fun q : Nat => q = a ∨ q = ra ∨ q = sa) s.heap s.heap [] := va_S.rf
  have hB : ∀ q, (fun q : Nat => q = a ∨ q = ra ∨ q = sa) q → kBase D ≤ q := fun q h => by (try dsimp only at h); (try simp only [kNW] at h); have hks := hK.size; omega
  have hl := lv_entry ([.ref a, .int (kI (110)), .int (kI (x)), .int (kI (y))]) (n := 4) (Nat.le_of_ble_eq_true rfl)
  rw [lg_entry_eq]
  generalize (lg_sl ([.ref a, .int (kI (110)), .int (kI (x)), .int (kI (y))]) ++ List.replicate (4 - (lg_sl ([.ref a, .int (kI (110)), .int (kI (x)), .int (kI (y))])).length) Slot.unset).toArray = ls at hl ⊢
  have hl : lv_has ls 4 [(0, .ref a), (1, .int (kI (110))), (2, .int (kI (x))), (3, .int (kI (y)))] := hl
  have hL8 := hok.1
  have hsn5 := hH.2.1
  refine lv_aload_n hx hb dX3_acts_0 rfl (lv_at hl 0 rfl) ?_
  refine lv_aload_n hx hb dX3_acts_1 rfl (lv_at hl 0 rfl) ?_
  refine lv_iload_n hx hb dX3_acts_2 rfl (lv_at hl 1 rfl) ?_
  refine lv_iload_n hx hb dX3_acts_3 rfl (lv_at hl 2 rfl) ?_
  refine lv_iload_n hx hb dX3_acts_4 rfl (lv_at hl 3 rfl) ?_
  refine kx_ci0 (va_runV (As := [.int (kI (110)), .int (kI (x)), .int (kI (y))]) (rest := [.ref a]) ⟨hx, hb, hml, hown, hts⟩ (m_ref_b l D s.heap a ([.ref ra, .ref sa, .int (kI ((sn : Nat) : Int)), .ref ka, .int (kI (kb (ik))), .ref ta, .int (kI ((tn : Nat) : Int)), .int (kI (th)), .int (kI (sp)), .int (kI (kb (iw))), .int (kI (le)), .int (kI (fi)), .int (kI (se))]) ra g S gap x y hO_a rfl hA_ra (by first | assumption | omega) (by first | assumption | omega) (by first | assumption | omega) (by first | assumption | omega)) (cwV 3 hts (lw_V q2290 q2292 qs38 q89 q2293) rfl rfl rfl (by decide +kernel) ⟨Nat.le_of_ble_eq_true rfl, Nat.le_of_ble_eq_true rfl⟩) (kx_pv hK hS hB (kx_rc hK hO_a (C := RX3) (T := TX3) (N := 13) rfl)) rfl rfl hl.1 rfl (lv_room (Nat.le_of_ble_eq_true rfl)) dX3_acts_5 ⟨by first | exact Nat.le_of_ble_eq_true rfl | omega | (show _ ≤ _; omega) | (dsimp only [headSpec]; omega), by first | exact Nat.le_of_ble_eq_true rfl | omega | (show _ ≤ _; omega) | (dsimp only [headSpec]; omega)⟩) hS (fun z_4 locs_1 hz_3 hS_2 => ?_)
  subst z_4
  refine kx_eqi (0) (hr0) ?_
  refine kx_put (v := .int (kI (0))) (C := RX3) (T := TX3) (N := 13) hx hb hts in_X3 hown hK hO_a rfl 7 (by decide) tyX3 tyX3_ok nmX3 hS_2 (by first | rfl | exact Or.inl rfl | exact Or.inr rfl | exact Or.inr (Or.inl rfl) | exact Or.inr (Or.inr rfl) | exact Or.inr (Or.inr (Or.inl rfl)) | exact Or.inr (Or.inr (Or.inr rfl)) | ((try dsimp only); (try simp only [kNW]); omega)) q2245 (fun _ h9 => h9) rfl rfl rfl rfl (Nat.le_of_ble_eq_true rfl) dX3_acts_8 (fun H_7 locs_8 hO_6 hU_5 hS_9 => ?_)
  have hO_6 : kO D H_7 a 2 [.ref ra, .ref sa, .int (kI ((sn : Nat) : Int)), .ref ka, .int (kI (kb (ik))), .ref ta, .int (kI ((tn : Nat) : Int)), .int (kI (0)), .int (kI (sp)), .int (kI (kb (iw))), .int (kI (le)), .int (kI (fi)), .int (kI (se))] := hO_6
  refine lv_aload_n hx hb dX3_acts_11 rfl (lv_at hl 0 rfl) ?_
  refine kx_get (v := .int (kI (0))) (C := RX3) (T := TX3) (N := 13) hx hb hts in_X3 hown hK hO_6 rfl 7 (by decide) q2245 (fun _ h9 => h9) rfl dX3_acts_12 ?_
  refine kx_if_le (x := 0) (tgt := 20) hx hb dX3_acts_15 (by decide) (by omega) (by omega) (fun c_15_10 => ?_) (fun c_15_10 => ?_)
  · -- taken at 15
    refine lv_aload_n hx hb dX3_acts_20 rfl (lv_at hl 0 rfl) ?_
    have h_11 := hA_ra.up hU_5 (by first | assumption | exact Ne.symm (by assumption) | omega)
    have h_12 := hA_sa.up hU_5 (by first | assumption | exact Ne.symm (by assumption) | omega)
    refine kx_cv (va_runV (As := []) (rest := []) ⟨hx, hb, hml, hown, hts⟩ (m_X3_records l D H_7 a ra sa ka ta sn ik tn 0 sp iw le fi se g gs hO_6 h_11 h_12 (by first | assumption | omega) (by first | assumption | omega) (by first | assumption | omega) (by first | assumption | omega) (by first | assumption | omega) (by first | assumption | omega)) (cwV 0 hts (lw_V q2383 q2385 qs56 q89 q2386) rfl rfl rfl (by decide +kernel) ⟨Nat.le_of_ble_eq_true rfl, Nat.le_of_ble_eq_true rfl⟩) (kx_pv hK hS_9 hB (kx_rc hK hO_6 (C := RX3) (T := TX3) (N := 13) rfl)) rfl rfl hl.1 rfl (lv_room (Nat.le_of_ble_eq_true rfl)) dX3_acts_21 ⟨by first | exact Nat.le_of_ble_eq_true rfl | omega | (show _ ≤ _; omega) | (dsimp only [headSpec]; omega), by first | exact Nat.le_of_ble_eq_true rfl | omega | (show _ ≤ _; omega) | (dsimp only [headSpec]; omega)⟩) hS_9 (fun q _ h => by (try dsimp only at h); (try dsimp only); (try simp only [kNW] at h); (try simp only [kNW]); omega) (fun q h => by (try dsimp only at h); (try dsimp only); (try simp only [kNW] at h); (try simp only [kNW]); omega) (fun H_16 locs_13 hz_15 hF_17 hS_14 => ?_)
    refine W.widen (k := 0) (n := 0) (Nat.le_of_ble_eq_true rfl) (Nat.le_of_ble_eq_true rfl) ?_
    obtain ⟨gs2_19, sn2_20, ho_21, ho_22, hs1, hs2, hs3⟩ := hz_15
    refine lv_aload_n hx hb dX3_acts_24 rfl (lv_at hl 0 rfl) ?_
    refine lv_iload_n hx hb dX3_acts_25 rfl (lv_at hl 1 rfl) ?_
    refine lv_iload_n hx hb dX3_acts_26 rfl (lv_at hl 2 rfl) ?_
    refine lv_iload_n hx hb dX3_acts_27 rfl (lv_at hl 3 rfl) ?_
    have h_23 := h_11.fr hF_17 (fun h => by (try dsimp only at h); (try simp only [kNW] at h); omega)
    refine kx_ci (va_runV (As := [.int (kI (110)), .int (kI (x)), .int (kI (y))]) (rest := []) ⟨hx, hb, hml, hown, hts⟩ (m_do_b l D H_16 a ([.ref ra, .ref sa, .int (kI ((sn2_20 : Nat) : Int)), .ref ka, .int (kI (kb (ik))), .ref ta, .int (kI ((tn : Nat) : Int)), .int (kI (0)), .int (kI (sp)), .int (kI (kb (iw))), .int (kI (le)), .int (kI (fi)), .int (kI (se))]) ra g S gap x y ho_21 rfl h_23 (by first | assumption | omega) (by first | assumption | omega) (by first | assumption | omega) (by first | assumption | omega) (by first | assumption | omega)) (cwV 3 hts (lw_V q2387 q2389 qs57 q89 q2390) rfl rfl rfl (by decide +kernel) ⟨Nat.le_of_ble_eq_true rfl, Nat.le_of_ble_eq_true rfl⟩) (kx_pv hK hS_14 hB (kx_rc hK ho_21 (C := RX3) (T := TX3) (N := 13) rfl)) rfl rfl hl.1 rfl (lv_room (Nat.le_of_ble_eq_true rfl)) dX3_acts_28 ⟨by first | exact Nat.le_of_ble_eq_true rfl | omega | (show _ ≤ _; omega) | (dsimp only [headSpec]; omega), by first | exact Nat.le_of_ble_eq_true rfl | omega | (show _ ≤ _; omega) | (dsimp only [headSpec]; omega)⟩) hS_14 (fun q _ h => by (try dsimp only at h); (try dsimp only); (try simp only [kNW] at h); (try simp only [kNW]); omega) (fun q h => by (try dsimp only at h); (try dsimp only); (try simp only [kNW] at h); (try simp only [kNW]); omega) (fun z_29 H_27 locs_24 hz_26 hF_28 hS_25 => ?_)
    refine W.widen (k := 0) (n := 0) (Nat.le_of_ble_eq_true rfl) (Nat.le_of_ble_eq_true rfl) ?_
    obtain ⟨g2_30, hv_31, ho_32, hM9⟩ := hz_26
    subst z_29
    have h_33 := ho_21.fr hF_28 (fun h => by (try dsimp only at h); (try simp only [kNW] at h); omega)
    have h_34 := ho_22.fr hF_28 (fun h => by (try dsimp only at h); (try simp only [kNW] at h); omega)
    exact kx_iret (z := ((S.length : Nat) : Int)) hx hb hr hlk (⟨g2_30, gs2_19, sn2_20, by rfl, h_33, ho_32, h_34, by exact hM9, by exact hH.push hok hM hs1 hs2 hs3⟩) hS_25 dX3_acts_31
  · -- not taken at 15
    exfalso; omega

set_option maxHeartbeats 4000000 in
set_option maxRecDepth 100000 in
theorem m_acts_s (l : Launch) (D : kG) (H : Heap) (a : Nat) (ra : Nat) (sa : Nat) (ka : Nat) (ta : Nat) (sn : Nat) (ik : Bool) (tn : Nat) (th : Int) (sp : Int) (iw : Bool) (le : Int) (fi : Int) (se : Int) (g : Nat → Int) (gs : Nat → Int) (S : Ls) (gap : Int) (hist : List Sg) (ln : Nat) (y : Int) (hO_a : kO D H a 2 [.ref ra, .ref sa, .int (kI ((sn : Nat) : Int)), .ref ka, .int (kI (kb (ik))), .ref ta, .int (kI ((tn : Nat) : Int)), .int (kI (th)), .int (kI (sp)), .int (kI (kb (iw))), .int (kI (le)), .int (kI (fi)), .int (kI (se))]) (hA_ra : kAi D H ra 514 g) (hA_sa : kAi D H sa 2570 gs) (hM : MRow g S gap) (hok : LsOK S gap) (hH : MHist gs hist sn) (ne_a_ra : a ≠ ra) (ne_a_sa : a ≠ sa) (ne_ra_sa : ra ≠ sa) (bs_a : kBase D ≤ a) (bs_ra : kBase D ≤ ra) (bs_sa : kBase D ≤ sa) (hr_y : -2147483648 ≤ y ∧ y ≤ 2147483647) (hln : ln < S.length) (hn : ln_n (st_ln S ln) < 60) (hy : 0 ≤ y ∧ y ≤ 7) (hnx : nx (ln_end (st_ln S ln)) y ≠ -1) (hr0 : ref_s S (ln : Int) y = 0) : Met l yX3_acts (ws_ yX3_acts cX3_acts 4 (some .int)) ({ frames := 7, cells := 0, slots := 0, locals := 156 } : Room) (kPre D H [.ref a, .int (kI (115)), .int (kI ((ln : Nat) : Int)), .int (kI (y))]) (kQi (fun (r : Int) H' => ∃ (g2 : Nat → Int) (gs2 : Nat → Int) (sn2 : Nat), (r = kb (ln_cl (w_step (st_ln S ln) y))) ∧ (kO D H' a 2 [.ref ra, .ref sa, .int (kI ((sn2 : Nat) : Int)), .ref ka, .int (kI (kb (ik))), .ref ta, .int (kI ((tn : Nat) : Int)), .int (kI (0)), .int (kI (sp)), .int (kI (kb (iw))), .int (kI (le)), .int (kI (fi)), .int (kI (se))]) ∧ (kAi D H' ra 514 g2) ∧ (kAi D H' sa 2570 gs2) ∧ (MRow g2 (S.set ln (w_step (st_ln S ln) y)) (gap)) ∧ (MHist gs2 (pushH hist (S, gap)) sn2)) (fun q : Nat => q = a ∨ q = ra ∨ q = sa)) (0) (0) ((fun q : Nat => q = a ∨ q = ra ∨ q = sa)) := by
  refine Met.ofW (cc := cX3_acts) (maxL := 4) (ret := (some .int)) (by decide) rfl ?_
  intro p e s m args below meth c s₁ B hml hv
  obtain ⟨rfl, hH, hK⟩ := hv
  subst hH
  have hx := B.exec
  have hb := B.bytes
  have hr := B.returns
  have hts := atoms_spec (ws := ws_ yX3_acts cX3_acts 4 (some .int)) B.pre
  have hts : ∀ w ∈ lw_all, w.before _ s = true := fun w h => hts w (List.mem_cons_of_mem _ h)
  have hown : s.vm.findClass RX3 = some m.cls := findClass_of_methodNamed B.named
  have hlk := B.notSynchronized
  have hS : va_S (fun q : Nat => q = a ∨ q = ra ∨ q = sa) s.heap s.heap [] := va_S.rf
  have hB : ∀ q, (fun q : Nat => q = a ∨ q = ra ∨ q = sa) q → kBase D ≤ q := fun q h => by (try dsimp only at h); (try simp only [kNW] at h); have hks := hK.size; omega
  have hl := lv_entry ([.ref a, .int (kI (115)), .int (kI ((ln : Nat) : Int)), .int (kI (y))]) (n := 4) (Nat.le_of_ble_eq_true rfl)
  rw [lg_entry_eq]
  generalize (lg_sl ([.ref a, .int (kI (115)), .int (kI ((ln : Nat) : Int)), .int (kI (y))]) ++ List.replicate (4 - (lg_sl ([.ref a, .int (kI (115)), .int (kI ((ln : Nat) : Int)), .int (kI (y))])).length) Slot.unset).toArray = ls at hl ⊢
  have hl : lv_has ls 4 [(0, .ref a), (1, .int (kI (115))), (2, .int (kI ((ln : Nat) : Int))), (3, .int (kI (y)))] := hl
  have hL8 := hok.1
  have hsn5 := hH.2.1
  refine lv_aload_n hx hb dX3_acts_0 rfl (lv_at hl 0 rfl) ?_
  refine lv_aload_n hx hb dX3_acts_1 rfl (lv_at hl 0 rfl) ?_
  refine lv_iload_n hx hb dX3_acts_2 rfl (lv_at hl 1 rfl) ?_
  refine lv_iload_n hx hb dX3_acts_3 rfl (lv_at hl 2 rfl) ?_
  refine lv_iload_n hx hb dX3_acts_4 rfl (lv_at hl 3 rfl) ?_
  refine kx_ci0 (va_runV (As := [.int (kI (115)), .int (kI ((ln : Nat) : Int)), .int (kI (y))]) (rest := [.ref a]) ⟨hx, hb, hml, hown, hts⟩ (m_ref_s l D s.heap a ([.ref ra, .ref sa, .int (kI ((sn : Nat) : Int)), .ref ka, .int (kI (kb (ik))), .ref ta, .int (kI ((tn : Nat) : Int)), .int (kI (th)), .int (kI (sp)), .int (kI (kb (iw))), .int (kI (le)), .int (kI (fi)), .int (kI (se))]) ra g S gap ((ln : Int)) y hO_a rfl hA_ra (by first | assumption | omega) (by first | assumption | omega) (by first | assumption | omega) (by first | assumption | omega)) (cwV 3 hts (lw_V q2290 q2292 qs38 q89 q2293) rfl rfl rfl (by decide +kernel) ⟨Nat.le_of_ble_eq_true rfl, Nat.le_of_ble_eq_true rfl⟩) (kx_pv hK hS hB (kx_rc hK hO_a (C := RX3) (T := TX3) (N := 13) rfl)) rfl rfl hl.1 rfl (lv_room (Nat.le_of_ble_eq_true rfl)) dX3_acts_5 ⟨by first | exact Nat.le_of_ble_eq_true rfl | omega | (show _ ≤ _; omega) | (dsimp only [headSpec]; omega), by first | exact Nat.le_of_ble_eq_true rfl | omega | (show _ ≤ _; omega) | (dsimp only [headSpec]; omega)⟩) hS (fun z_4 locs_1 hz_3 hS_2 => ?_)
  subst z_4
  refine kx_eqi (0) (hr0) ?_
  refine kx_put (v := .int (kI (0))) (C := RX3) (T := TX3) (N := 13) hx hb hts in_X3 hown hK hO_a rfl 7 (by decide) tyX3 tyX3_ok nmX3 hS_2 (by first | rfl | exact Or.inl rfl | exact Or.inr rfl | exact Or.inr (Or.inl rfl) | exact Or.inr (Or.inr rfl) | exact Or.inr (Or.inr (Or.inl rfl)) | exact Or.inr (Or.inr (Or.inr rfl)) | ((try dsimp only); (try simp only [kNW]); omega)) q2245 (fun _ h9 => h9) rfl rfl rfl rfl (Nat.le_of_ble_eq_true rfl) dX3_acts_8 (fun H_7 locs_8 hO_6 hU_5 hS_9 => ?_)
  have hO_6 : kO D H_7 a 2 [.ref ra, .ref sa, .int (kI ((sn : Nat) : Int)), .ref ka, .int (kI (kb (ik))), .ref ta, .int (kI ((tn : Nat) : Int)), .int (kI (0)), .int (kI (sp)), .int (kI (kb (iw))), .int (kI (le)), .int (kI (fi)), .int (kI (se))] := hO_6
  refine lv_aload_n hx hb dX3_acts_11 rfl (lv_at hl 0 rfl) ?_
  refine kx_get (v := .int (kI (0))) (C := RX3) (T := TX3) (N := 13) hx hb hts in_X3 hown hK hO_6 rfl 7 (by decide) q2245 (fun _ h9 => h9) rfl dX3_acts_12 ?_
  refine kx_if_le (x := 0) (tgt := 20) hx hb dX3_acts_15 (by decide) (by omega) (by omega) (fun c_15_10 => ?_) (fun c_15_10 => ?_)
  · -- taken at 15
    refine lv_aload_n hx hb dX3_acts_20 rfl (lv_at hl 0 rfl) ?_
    have h_11 := hA_ra.up hU_5 (by first | assumption | exact Ne.symm (by assumption) | omega)
    have h_12 := hA_sa.up hU_5 (by first | assumption | exact Ne.symm (by assumption) | omega)
    refine kx_cv (va_runV (As := []) (rest := []) ⟨hx, hb, hml, hown, hts⟩ (m_X3_records l D H_7 a ra sa ka ta sn ik tn 0 sp iw le fi se g gs hO_6 h_11 h_12 (by first | assumption | omega) (by first | assumption | omega) (by first | assumption | omega) (by first | assumption | omega) (by first | assumption | omega) (by first | assumption | omega)) (cwV 0 hts (lw_V q2383 q2385 qs56 q89 q2386) rfl rfl rfl (by decide +kernel) ⟨Nat.le_of_ble_eq_true rfl, Nat.le_of_ble_eq_true rfl⟩) (kx_pv hK hS_9 hB (kx_rc hK hO_6 (C := RX3) (T := TX3) (N := 13) rfl)) rfl rfl hl.1 rfl (lv_room (Nat.le_of_ble_eq_true rfl)) dX3_acts_21 ⟨by first | exact Nat.le_of_ble_eq_true rfl | omega | (show _ ≤ _; omega) | (dsimp only [headSpec]; omega), by first | exact Nat.le_of_ble_eq_true rfl | omega | (show _ ≤ _; omega) | (dsimp only [headSpec]; omega)⟩) hS_9 (fun q _ h => by (try dsimp only at h); (try dsimp only); (try simp only [kNW] at h); (try simp only [kNW]); omega) (fun q h => by (try dsimp only at h); (try dsimp only); (try simp only [kNW] at h); (try simp only [kNW]); omega) (fun H_16 locs_13 hz_15 hF_17 hS_14 => ?_)
    refine W.widen (k := 0) (n := 0) (Nat.le_of_ble_eq_true rfl) (Nat.le_of_ble_eq_true rfl) ?_
    obtain ⟨gs2_19, sn2_20, ho_21, ho_22, hs1, hs2, hs3⟩ := hz_15
    refine lv_aload_n hx hb dX3_acts_24 rfl (lv_at hl 0 rfl) ?_
    refine lv_iload_n hx hb dX3_acts_25 rfl (lv_at hl 1 rfl) ?_
    refine lv_iload_n hx hb dX3_acts_26 rfl (lv_at hl 2 rfl) ?_
    refine lv_iload_n hx hb dX3_acts_27 rfl (lv_at hl 3 rfl) ?_
    have h_23 := h_11.fr hF_17 (fun h => by (try dsimp only at h); (try simp only [kNW] at h); omega)
    refine kx_ci (va_runV (As := [.int (kI (115)), .int (kI ((ln : Nat) : Int)), .int (kI (y))]) (rest := []) ⟨hx, hb, hml, hown, hts⟩ (m_do_s l D H_16 a ([.ref ra, .ref sa, .int (kI ((sn2_20 : Nat) : Int)), .ref ka, .int (kI (kb (ik))), .ref ta, .int (kI ((tn : Nat) : Int)), .int (kI (0)), .int (kI (sp)), .int (kI (kb (iw))), .int (kI (le)), .int (kI (fi)), .int (kI (se))]) ra g S gap ln y ho_21 rfl h_23 (by first | assumption | omega) (by first | assumption | omega) (by first | assumption | omega) (by first | assumption | omega) (by first | assumption | omega) (by first | assumption | omega) (by first | assumption | omega) (by first | assumption | omega)) (cwV 3 hts (lw_V q2387 q2389 qs57 q89 q2390) rfl rfl rfl (by decide +kernel) ⟨Nat.le_of_ble_eq_true rfl, Nat.le_of_ble_eq_true rfl⟩) (kx_pv hK hS_14 hB (kx_rc hK ho_21 (C := RX3) (T := TX3) (N := 13) rfl)) rfl rfl hl.1 rfl (lv_room (Nat.le_of_ble_eq_true rfl)) dX3_acts_28 ⟨by first | exact Nat.le_of_ble_eq_true rfl | omega | (show _ ≤ _; omega) | (dsimp only [headSpec]; omega), by first | exact Nat.le_of_ble_eq_true rfl | omega | (show _ ≤ _; omega) | (dsimp only [headSpec]; omega)⟩) hS_14 (fun q _ h => by (try dsimp only at h); (try dsimp only); (try simp only [kNW] at h); (try simp only [kNW]); omega) (fun q h => by (try dsimp only at h); (try dsimp only); (try simp only [kNW] at h); (try simp only [kNW]); omega) (fun z_29 H_27 locs_24 hz_26 hF_28 hS_25 => ?_)
    refine W.widen (k := 0) (n := 0) (Nat.le_of_ble_eq_true rfl) (Nat.le_of_ble_eq_true rfl) ?_
    obtain ⟨g2_30, hv_31, ho_32, hM9⟩ := hz_26
    subst z_29
    have h_33 := ho_21.fr hF_28 (fun h => by (try dsimp only at h); (try simp only [kNW] at h); omega)
    have h_34 := ho_22.fr hF_28 (fun h => by (try dsimp only at h); (try simp only [kNW] at h); omega)
    exact kx_iret (z := kb (ln_cl (w_step (st_ln S ln) y))) hx hb hr hlk (⟨g2_30, gs2_19, sn2_20, by rfl, h_33, ho_32, h_34, by exact hM9, by exact hH.push hok hM hs1 hs2 hs3⟩) hS_25 dX3_acts_31
  · -- not taken at 15
    exfalso; omega

set_option maxHeartbeats 4000000 in
set_option maxRecDepth 100000 in
theorem m_acts_w (l : Launch) (D : kG) (H : Heap) (a : Nat) (ra : Nat) (sa : Nat) (ka : Nat) (ta : Nat) (sn : Nat) (ik : Bool) (tn : Nat) (th : Int) (sp : Int) (iw : Bool) (le : Int) (fi : Int) (se : Int) (g : Nat → Int) (gs : Nat → Int) (S : Ls) (gap : Int) (hist : List Sg) (ln : Nat) (y : Int) (hO_a : kO D H a 2 [.ref ra, .ref sa, .int (kI ((sn : Nat) : Int)), .ref ka, .int (kI (kb (ik))), .ref ta, .int (kI ((tn : Nat) : Int)), .int (kI (th)), .int (kI (sp)), .int (kI (kb (iw))), .int (kI (le)), .int (kI (fi)), .int (kI (se))]) (hA_ra : kAi D H ra 514 g) (hA_sa : kAi D H sa 2570 gs) (hM : MRow g S gap) (hok : LsOK S gap) (hH : MHist gs hist sn) (ne_a_ra : a ≠ ra) (ne_a_sa : a ≠ sa) (ne_ra_sa : ra ≠ sa) (bs_a : kBase D ≤ a) (bs_ra : kBase D ≤ ra) (bs_sa : kBase D ≤ sa) (hr_y : -2147483648 ≤ y ∧ y ≤ 2147483647) (hln : ln < S.length) (hr0 : ref_w S (ln : Int) = 0) : Met l yX3_acts (ws_ yX3_acts cX3_acts 4 (some .int)) ({ frames := 3, cells := 0, slots := 0, locals := 66 } : Room) (kPre D H [.ref a, .int (kI (119)), .int (kI ((ln : Nat) : Int)), .int (kI (y))]) (kQi (fun (r : Int) H' => ∃ (g2 : Nat → Int) (gs2 : Nat → Int) (sn2 : Nat), (r = ((S.length : Int) - 1)) ∧ (kO D H' a 2 [.ref ra, .ref sa, .int (kI ((sn2 : Nat) : Int)), .ref ka, .int (kI (kb (ik))), .ref ta, .int (kI ((tn : Nat) : Int)), .int (kI (0)), .int (kI (sp)), .int (kI (kb (iw))), .int (kI (le)), .int (kI (fi)), .int (kI (se))]) ∧ (kAi D H' ra 514 g2) ∧ (kAi D H' sa 2570 gs2) ∧ (MRow g2 (S.eraseIdx ln) (gap)) ∧ (MHist gs2 (pushH hist (S, gap)) sn2)) (fun q : Nat => q = a ∨ q = ra ∨ q = sa)) (0) (0) ((fun q : Nat => q = a ∨ q = ra ∨ q = sa)) := by
  refine Met.ofW (cc := cX3_acts) (maxL := 4) (ret := (some .int)) (by decide) rfl ?_
  intro p e s m args below meth c s₁ B hml hv
  obtain ⟨rfl, hH, hK⟩ := hv
  subst hH
  have hx := B.exec
  have hb := B.bytes
  have hr := B.returns
  have hts := atoms_spec (ws := ws_ yX3_acts cX3_acts 4 (some .int)) B.pre
  have hts : ∀ w ∈ lw_all, w.before _ s = true := fun w h => hts w (List.mem_cons_of_mem _ h)
  have hown : s.vm.findClass RX3 = some m.cls := findClass_of_methodNamed B.named
  have hlk := B.notSynchronized
  have hS : va_S (fun q : Nat => q = a ∨ q = ra ∨ q = sa) s.heap s.heap [] := va_S.rf
  have hB : ∀ q, (fun q : Nat => q = a ∨ q = ra ∨ q = sa) q → kBase D ≤ q := fun q h => by (try dsimp only at h); (try simp only [kNW] at h); have hks := hK.size; omega
  have hl := lv_entry ([.ref a, .int (kI (119)), .int (kI ((ln : Nat) : Int)), .int (kI (y))]) (n := 4) (Nat.le_of_ble_eq_true rfl)
  rw [lg_entry_eq]
  generalize (lg_sl ([.ref a, .int (kI (119)), .int (kI ((ln : Nat) : Int)), .int (kI (y))]) ++ List.replicate (4 - (lg_sl ([.ref a, .int (kI (119)), .int (kI ((ln : Nat) : Int)), .int (kI (y))])).length) Slot.unset).toArray = ls at hl ⊢
  have hl : lv_has ls 4 [(0, .ref a), (1, .int (kI (119))), (2, .int (kI ((ln : Nat) : Int))), (3, .int (kI (y)))] := hl
  have hL8 := hok.1
  have hsn5 := hH.2.1
  refine lv_aload_n hx hb dX3_acts_0 rfl (lv_at hl 0 rfl) ?_
  refine lv_aload_n hx hb dX3_acts_1 rfl (lv_at hl 0 rfl) ?_
  refine lv_iload_n hx hb dX3_acts_2 rfl (lv_at hl 1 rfl) ?_
  refine lv_iload_n hx hb dX3_acts_3 rfl (lv_at hl 2 rfl) ?_
  refine lv_iload_n hx hb dX3_acts_4 rfl (lv_at hl 3 rfl) ?_
  refine kx_ci0 (va_runV (As := [.int (kI (119)), .int (kI ((ln : Nat) : Int)), .int (kI (y))]) (rest := [.ref a]) ⟨hx, hb, hml, hown, hts⟩ (m_ref_w l D s.heap a ([.ref ra, .ref sa, .int (kI ((sn : Nat) : Int)), .ref ka, .int (kI (kb (ik))), .ref ta, .int (kI ((tn : Nat) : Int)), .int (kI (th)), .int (kI (sp)), .int (kI (kb (iw))), .int (kI (le)), .int (kI (fi)), .int (kI (se))]) ra g S gap ((ln : Int)) y hO_a rfl hA_ra (by first | assumption | omega) (by first | assumption | omega) (by first | assumption | omega) (by first | assumption | omega)) (cwV 3 hts (lw_V q2290 q2292 qs38 q89 q2293) rfl rfl rfl (by decide +kernel) ⟨Nat.le_of_ble_eq_true rfl, Nat.le_of_ble_eq_true rfl⟩) (kx_pv hK hS hB (kx_rc hK hO_a (C := RX3) (T := TX3) (N := 13) rfl)) rfl rfl hl.1 rfl (lv_room (Nat.le_of_ble_eq_true rfl)) dX3_acts_5 ⟨by first | exact Nat.le_of_ble_eq_true rfl | omega | (show _ ≤ _; omega) | (dsimp only [headSpec]; omega), by first | exact Nat.le_of_ble_eq_true rfl | omega | (show _ ≤ _; omega) | (dsimp only [headSpec]; omega)⟩) hS (fun z_4 locs_1 hz_3 hS_2 => ?_)
  subst z_4
  refine kx_eqi (0) (hr0) ?_
  refine kx_put (v := .int (kI (0))) (C := RX3) (T := TX3) (N := 13) hx hb hts in_X3 hown hK hO_a rfl 7 (by decide) tyX3 tyX3_ok nmX3 hS_2 (by first | rfl | exact Or.inl rfl | exact Or.inr rfl | exact Or.inr (Or.inl rfl) | exact Or.inr (Or.inr rfl) | exact Or.inr (Or.inr (Or.inl rfl)) | exact Or.inr (Or.inr (Or.inr rfl)) | ((try dsimp only); (try simp only [kNW]); omega)) q2245 (fun _ h9 => h9) rfl rfl rfl rfl (Nat.le_of_ble_eq_true rfl) dX3_acts_8 (fun H_7 locs_8 hO_6 hU_5 hS_9 => ?_)
  have hO_6 : kO D H_7 a 2 [.ref ra, .ref sa, .int (kI ((sn : Nat) : Int)), .ref ka, .int (kI (kb (ik))), .ref ta, .int (kI ((tn : Nat) : Int)), .int (kI (0)), .int (kI (sp)), .int (kI (kb (iw))), .int (kI (le)), .int (kI (fi)), .int (kI (se))] := hO_6
  refine lv_aload_n hx hb dX3_acts_11 rfl (lv_at hl 0 rfl) ?_
  refine kx_get (v := .int (kI (0))) (C := RX3) (T := TX3) (N := 13) hx hb hts in_X3 hown hK hO_6 rfl 7 (by decide) q2245 (fun _ h9 => h9) rfl dX3_acts_12 ?_
  refine kx_if_le (x := 0) (tgt := 20) hx hb dX3_acts_15 (by decide) (by omega) (by omega) (fun c_15_10 => ?_) (fun c_15_10 => ?_)
  · -- taken at 15
    refine lv_aload_n hx hb dX3_acts_20 rfl (lv_at hl 0 rfl) ?_
    have h_11 := hA_ra.up hU_5 (by first | assumption | exact Ne.symm (by assumption) | omega)
    have h_12 := hA_sa.up hU_5 (by first | assumption | exact Ne.symm (by assumption) | omega)
    refine kx_cv (va_runV (As := []) (rest := []) ⟨hx, hb, hml, hown, hts⟩ (m_X3_records l D H_7 a ra sa ka ta sn ik tn 0 sp iw le fi se g gs hO_6 h_11 h_12 (by first | assumption | omega) (by first | assumption | omega) (by first | assumption | omega) (by first | assumption | omega) (by first | assumption | omega) (by first | assumption | omega)) (cwV 0 hts (lw_V q2383 q2385 qs56 q89 q2386) rfl rfl rfl (by decide +kernel) ⟨Nat.le_of_ble_eq_true rfl, Nat.le_of_ble_eq_true rfl⟩) (kx_pv hK hS_9 hB (kx_rc hK hO_6 (C := RX3) (T := TX3) (N := 13) rfl)) rfl rfl hl.1 rfl (lv_room (Nat.le_of_ble_eq_true rfl)) dX3_acts_21 ⟨by first | exact Nat.le_of_ble_eq_true rfl | omega | (show _ ≤ _; omega) | (dsimp only [headSpec]; omega), by first | exact Nat.le_of_ble_eq_true rfl | omega | (show _ ≤ _; omega) | (dsimp only [headSpec]; omega)⟩) hS_9 (fun q _ h => by (try dsimp only at h); (try dsimp only); (try simp only [kNW] at h); (try simp only [kNW]); omega) (fun q h => by (try dsimp only at h); (try dsimp only); (try simp only [kNW] at h); (try simp only [kNW]); omega) (fun H_16 locs_13 hz_15 hF_17 hS_14 => ?_)
    refine W.widen (k := 0) (n := 0) (Nat.le_of_ble_eq_true rfl) (Nat.le_of_ble_eq_true rfl) ?_
    obtain ⟨gs2_19, sn2_20, ho_21, ho_22, hs1, hs2, hs3⟩ := hz_15
    refine lv_aload_n hx hb dX3_acts_24 rfl (lv_at hl 0 rfl) ?_
    refine lv_iload_n hx hb dX3_acts_25 rfl (lv_at hl 1 rfl) ?_
    refine lv_iload_n hx hb dX3_acts_26 rfl (lv_at hl 2 rfl) ?_
    refine lv_iload_n hx hb dX3_acts_27 rfl (lv_at hl 3 rfl) ?_
    have h_23 := h_11.fr hF_17 (fun h => by (try dsimp only at h); (try simp only [kNW] at h); omega)
    refine kx_ci (va_runV (As := [.int (kI (119)), .int (kI ((ln : Nat) : Int)), .int (kI (y))]) (rest := []) ⟨hx, hb, hml, hown, hts⟩ (m_do_w l D H_16 a ([.ref ra, .ref sa, .int (kI ((sn2_20 : Nat) : Int)), .ref ka, .int (kI (kb (ik))), .ref ta, .int (kI ((tn : Nat) : Int)), .int (kI (0)), .int (kI (sp)), .int (kI (kb (iw))), .int (kI (le)), .int (kI (fi)), .int (kI (se))]) ra g S gap ln y ho_21 rfl h_23 (by first | assumption | omega) (by first | assumption | omega) (by first | assumption | omega) (by first | assumption | omega) (by first | assumption | omega)) (cwV 3 hts (lw_V q2387 q2389 qs57 q89 q2390) rfl rfl rfl (by decide +kernel) ⟨Nat.le_of_ble_eq_true rfl, Nat.le_of_ble_eq_true rfl⟩) (kx_pv hK hS_14 hB (kx_rc hK ho_21 (C := RX3) (T := TX3) (N := 13) rfl)) rfl rfl hl.1 rfl (lv_room (Nat.le_of_ble_eq_true rfl)) dX3_acts_28 ⟨by first | exact Nat.le_of_ble_eq_true rfl | omega | (show _ ≤ _; omega) | (dsimp only [headSpec]; omega), by first | exact Nat.le_of_ble_eq_true rfl | omega | (show _ ≤ _; omega) | (dsimp only [headSpec]; omega)⟩) hS_14 (fun q _ h => by (try dsimp only at h); (try dsimp only); (try simp only [kNW] at h); (try simp only [kNW]); omega) (fun q h => by (try dsimp only at h); (try dsimp only); (try simp only [kNW] at h); (try simp only [kNW]); omega) (fun z_29 H_27 locs_24 hz_26 hF_28 hS_25 => ?_)
    refine W.widen (k := 0) (n := 0) (Nat.le_of_ble_eq_true rfl) (Nat.le_of_ble_eq_true rfl) ?_
    obtain ⟨g2_30, hv_31, ho_32, hM9⟩ := hz_26
    subst z_29
    have h_33 := ho_21.fr hF_28 (fun h => by (try dsimp only at h); (try simp only [kNW] at h); omega)
    have h_34 := ho_22.fr hF_28 (fun h => by (try dsimp only at h); (try simp only [kNW] at h); omega)
    exact kx_iret (z := ((S.length : Int) - 1)) hx hb hr hlk (⟨g2_30, gs2_19, sn2_20, by rfl, h_33, ho_32, h_34, by exact hM9, by exact hH.push hok hM hs1 hs2 hs3⟩) hS_25 dX3_acts_31
  · -- not taken at 15
    exfalso; omega

set_option maxHeartbeats 4000000 in
set_option maxRecDepth 100000 in
theorem m_acts_l (l : Launch) (D : kG) (H : Heap) (a : Nat) (ra : Nat) (sa : Nat) (ka : Nat) (ta : Nat) (sn : Nat) (ik : Bool) (tn : Nat) (th : Int) (sp : Int) (iw : Bool) (le : Int) (fi : Int) (se : Int) (g : Nat → Int) (gs : Nat → Int) (S : Ls) (gap : Int) (hist : List Sg) (ln : Nat) (pl : Nat) (hO_a : kO D H a 2 [.ref ra, .ref sa, .int (kI ((sn : Nat) : Int)), .ref ka, .int (kI (kb (ik))), .ref ta, .int (kI ((tn : Nat) : Int)), .int (kI (th)), .int (kI (sp)), .int (kI (kb (iw))), .int (kI (le)), .int (kI (fi)), .int (kI (se))]) (hA_ra : kAi D H ra 514 g) (hA_sa : kAi D H sa 2570 gs) (hM : MRow g S gap) (hok : LsOK S gap) (hH : MHist gs hist sn) (ne_a_ra : a ≠ ra) (ne_a_sa : a ≠ sa) (ne_ra_sa : ra ≠ sa) (bs_a : kBase D ≤ a) (bs_ra : kBase D ≤ ra) (bs_sa : kBase D ≤ sa) (hp30 : pl ≤ 1000) (hln : ln < S.length) (hpl : (pl : Int) + ln_size (st_ln S ln) - 1 ≤ ln_n (st_ln S ln)) (hr0 : ref_l S gap (ln : Int) (pl : Int) = 0) : Met l yX3_acts (ws_ yX3_acts cX3_acts 4 (some .int)) ({ frames := 9, cells := 0, slots := 0, locals := 202 } : Room) (kPre D H [.ref a, .int (kI (108)), .int (kI ((ln : Nat) : Int)), .int (kI ((pl : Nat) : Int))]) (kQi (fun (r : Int) H' => ∃ (g2 : Nat → Int) (gs2 : Nat → Int) (sn2 : Nat), (r = ln_bends (st_ln S ln) pl) ∧ (kO D H' a 2 [.ref ra, .ref sa, .int (kI ((sn2 : Nat) : Int)), .ref ka, .int (kI (kb (ik))), .ref ta, .int (kI ((tn : Nat) : Int)), .int (kI (0)), .int (kI (sp)), .int (kI (kb (iw))), .int (kI (le)), .int (kI (fi)), .int (kI (se))]) ∧ (kAi D H' ra 514 g2) ∧ (kAi D H' sa 2570 gs2) ∧ (MRow g2 (S.set ln (w_lb (st_ln S ln) (pl : Int))) (gap)) ∧ (MHist gs2 (pushH hist (S, gap)) sn2)) (fun q : Nat => q = a ∨ q = ra ∨ q = sa)) (0) (0) ((fun q : Nat => q = a ∨ q = ra ∨ q = sa)) := by
  refine Met.ofW (cc := cX3_acts) (maxL := 4) (ret := (some .int)) (by decide) rfl ?_
  intro p e s m args below meth c s₁ B hml hv
  obtain ⟨rfl, hH, hK⟩ := hv
  subst hH
  have hx := B.exec
  have hb := B.bytes
  have hr := B.returns
  have hts := atoms_spec (ws := ws_ yX3_acts cX3_acts 4 (some .int)) B.pre
  have hts : ∀ w ∈ lw_all, w.before _ s = true := fun w h => hts w (List.mem_cons_of_mem _ h)
  have hown : s.vm.findClass RX3 = some m.cls := findClass_of_methodNamed B.named
  have hlk := B.notSynchronized
  have hS : va_S (fun q : Nat => q = a ∨ q = ra ∨ q = sa) s.heap s.heap [] := va_S.rf
  have hB : ∀ q, (fun q : Nat => q = a ∨ q = ra ∨ q = sa) q → kBase D ≤ q := fun q h => by (try dsimp only at h); (try simp only [kNW] at h); have hks := hK.size; omega
  have hl := lv_entry ([.ref a, .int (kI (108)), .int (kI ((ln : Nat) : Int)), .int (kI ((pl : Nat) : Int))]) (n := 4) (Nat.le_of_ble_eq_true rfl)
  rw [lg_entry_eq]
  generalize (lg_sl ([.ref a, .int (kI (108)), .int (kI ((ln : Nat) : Int)), .int (kI ((pl : Nat) : Int))]) ++ List.replicate (4 - (lg_sl ([.ref a, .int (kI (108)), .int (kI ((ln : Nat) : Int)), .int (kI ((pl : Nat) : Int))])).length) Slot.unset).toArray = ls at hl ⊢
  have hl : lv_has ls 4 [(0, .ref a), (1, .int (kI (108))), (2, .int (kI ((ln : Nat) : Int))), (3, .int (kI ((pl : Nat) : Int)))] := hl
  have hL8 := hok.1
  have hsn5 := hH.2.1
  refine lv_aload_n hx hb dX3_acts_0 rfl (lv_at hl 0 rfl) ?_
  refine lv_aload_n hx hb dX3_acts_1 rfl (lv_at hl 0 rfl) ?_
  refine lv_iload_n hx hb dX3_acts_2 rfl (lv_at hl 1 rfl) ?_
  refine lv_iload_n hx hb dX3_acts_3 rfl (lv_at hl 2 rfl) ?_
  refine lv_iload_n hx hb dX3_acts_4 rfl (lv_at hl 3 rfl) ?_
  refine kx_ci0 (va_runV (As := [.int (kI (108)), .int (kI ((ln : Nat) : Int)), .int (kI ((pl : Nat) : Int))]) (rest := [.ref a]) ⟨hx, hb, hml, hown, hts⟩ (m_ref_l l D s.heap a ([.ref ra, .ref sa, .int (kI ((sn : Nat) : Int)), .ref ka, .int (kI (kb (ik))), .ref ta, .int (kI ((tn : Nat) : Int)), .int (kI (th)), .int (kI (sp)), .int (kI (kb (iw))), .int (kI (le)), .int (kI (fi)), .int (kI (se))]) ra g S gap ((ln : Int)) ((pl : Int)) hO_a rfl hA_ra (by first | assumption | omega) (by first | assumption | omega) (by first | assumption | omega) (by first | assumption | omega)) (cwV 3 hts (lw_V q2290 q2292 qs38 q89 q2293) rfl rfl rfl (by decide +kernel) ⟨Nat.le_of_ble_eq_true rfl, Nat.le_of_ble_eq_true rfl⟩) (kx_pv hK hS hB (kx_rc hK hO_a (C := RX3) (T := TX3) (N := 13) rfl)) rfl rfl hl.1 rfl (lv_room (Nat.le_of_ble_eq_true rfl)) dX3_acts_5 ⟨by first | exact Nat.le_of_ble_eq_true rfl | omega | (show _ ≤ _; omega) | (dsimp only [headSpec]; omega), by first | exact Nat.le_of_ble_eq_true rfl | omega | (show _ ≤ _; omega) | (dsimp only [headSpec]; omega)⟩) hS (fun z_4 locs_1 hz_3 hS_2 => ?_)
  subst z_4
  refine kx_eqi (0) (hr0) ?_
  refine kx_put (v := .int (kI (0))) (C := RX3) (T := TX3) (N := 13) hx hb hts in_X3 hown hK hO_a rfl 7 (by decide) tyX3 tyX3_ok nmX3 hS_2 (by first | rfl | exact Or.inl rfl | exact Or.inr rfl | exact Or.inr (Or.inl rfl) | exact Or.inr (Or.inr rfl) | exact Or.inr (Or.inr (Or.inl rfl)) | exact Or.inr (Or.inr (Or.inr rfl)) | ((try dsimp only); (try simp only [kNW]); omega)) q2245 (fun _ h9 => h9) rfl rfl rfl rfl (Nat.le_of_ble_eq_true rfl) dX3_acts_8 (fun H_7 locs_8 hO_6 hU_5 hS_9 => ?_)
  have hO_6 : kO D H_7 a 2 [.ref ra, .ref sa, .int (kI ((sn : Nat) : Int)), .ref ka, .int (kI (kb (ik))), .ref ta, .int (kI ((tn : Nat) : Int)), .int (kI (0)), .int (kI (sp)), .int (kI (kb (iw))), .int (kI (le)), .int (kI (fi)), .int (kI (se))] := hO_6
  refine lv_aload_n hx hb dX3_acts_11 rfl (lv_at hl 0 rfl) ?_
  refine kx_get (v := .int (kI (0))) (C := RX3) (T := TX3) (N := 13) hx hb hts in_X3 hown hK hO_6 rfl 7 (by decide) q2245 (fun _ h9 => h9) rfl dX3_acts_12 ?_
  refine kx_if_le (x := 0) (tgt := 20) hx hb dX3_acts_15 (by decide) (by omega) (by omega) (fun c_15_10 => ?_) (fun c_15_10 => ?_)
  · -- taken at 15
    refine lv_aload_n hx hb dX3_acts_20 rfl (lv_at hl 0 rfl) ?_
    have h_11 := hA_ra.up hU_5 (by first | assumption | exact Ne.symm (by assumption) | omega)
    have h_12 := hA_sa.up hU_5 (by first | assumption | exact Ne.symm (by assumption) | omega)
    refine kx_cv (va_runV (As := []) (rest := []) ⟨hx, hb, hml, hown, hts⟩ (m_X3_records l D H_7 a ra sa ka ta sn ik tn 0 sp iw le fi se g gs hO_6 h_11 h_12 (by first | assumption | omega) (by first | assumption | omega) (by first | assumption | omega) (by first | assumption | omega) (by first | assumption | omega) (by first | assumption | omega)) (cwV 0 hts (lw_V q2383 q2385 qs56 q89 q2386) rfl rfl rfl (by decide +kernel) ⟨Nat.le_of_ble_eq_true rfl, Nat.le_of_ble_eq_true rfl⟩) (kx_pv hK hS_9 hB (kx_rc hK hO_6 (C := RX3) (T := TX3) (N := 13) rfl)) rfl rfl hl.1 rfl (lv_room (Nat.le_of_ble_eq_true rfl)) dX3_acts_21 ⟨by first | exact Nat.le_of_ble_eq_true rfl | omega | (show _ ≤ _; omega) | (dsimp only [headSpec]; omega), by first | exact Nat.le_of_ble_eq_true rfl | omega | (show _ ≤ _; omega) | (dsimp only [headSpec]; omega)⟩) hS_9 (fun q _ h => by (try dsimp only at h); (try dsimp only); (try simp only [kNW] at h); (try simp only [kNW]); omega) (fun q h => by (try dsimp only at h); (try dsimp only); (try simp only [kNW] at h); (try simp only [kNW]); omega) (fun H_16 locs_13 hz_15 hF_17 hS_14 => ?_)
    refine W.widen (k := 0) (n := 0) (Nat.le_of_ble_eq_true rfl) (Nat.le_of_ble_eq_true rfl) ?_
    obtain ⟨gs2_19, sn2_20, ho_21, ho_22, hs1, hs2, hs3⟩ := hz_15
    refine lv_aload_n hx hb dX3_acts_24 rfl (lv_at hl 0 rfl) ?_
    refine lv_iload_n hx hb dX3_acts_25 rfl (lv_at hl 1 rfl) ?_
    refine lv_iload_n hx hb dX3_acts_26 rfl (lv_at hl 2 rfl) ?_
    refine lv_iload_n hx hb dX3_acts_27 rfl (lv_at hl 3 rfl) ?_
    have h_23 := h_11.fr hF_17 (fun h => by (try dsimp only at h); (try simp only [kNW] at h); omega)
    refine kx_ci (va_runV (As := [.int (kI (108)), .int (kI ((ln : Nat) : Int)), .int (kI ((pl : Nat) : Int))]) (rest := []) ⟨hx, hb, hml, hown, hts⟩ (m_do_l l D H_16 a ([.ref ra, .ref sa, .int (kI ((sn2_20 : Nat) : Int)), .ref ka, .int (kI (kb (ik))), .ref ta, .int (kI ((tn : Nat) : Int)), .int (kI (0)), .int (kI (sp)), .int (kI (kb (iw))), .int (kI (le)), .int (kI (fi)), .int (kI (se))]) ra g S gap ln pl ho_21 rfl h_23 (by first | assumption | omega) (by first | assumption | omega) (by first | assumption | omega) (by first | assumption | omega) (by first | assumption | omega) (by first | assumption | omega)) (cwV 3 hts (lw_V q2387 q2389 qs57 q89 q2390) rfl rfl rfl (by decide +kernel) ⟨Nat.le_of_ble_eq_true rfl, Nat.le_of_ble_eq_true rfl⟩) (kx_pv hK hS_14 hB (kx_rc hK ho_21 (C := RX3) (T := TX3) (N := 13) rfl)) rfl rfl hl.1 rfl (lv_room (Nat.le_of_ble_eq_true rfl)) dX3_acts_28 ⟨by first | exact Nat.le_of_ble_eq_true rfl | omega | (show _ ≤ _; omega) | (dsimp only [headSpec]; omega), by first | exact Nat.le_of_ble_eq_true rfl | omega | (show _ ≤ _; omega) | (dsimp only [headSpec]; omega)⟩) hS_14 (fun q _ h => by (try dsimp only at h); (try dsimp only); (try simp only [kNW] at h); (try simp only [kNW]); omega) (fun q h => by (try dsimp only at h); (try dsimp only); (try simp only [kNW] at h); (try simp only [kNW]); omega) (fun z_29 H_27 locs_24 hz_26 hF_28 hS_25 => ?_)
    refine W.widen (k := 0) (n := 0) (Nat.le_of_ble_eq_true rfl) (Nat.le_of_ble_eq_true rfl) ?_
    obtain ⟨g2_30, hv_31, ho_32, hM9⟩ := hz_26
    subst z_29
    have h_33 := ho_21.fr hF_28 (fun h => by (try dsimp only at h); (try simp only [kNW] at h); omega)
    have h_34 := ho_22.fr hF_28 (fun h => by (try dsimp only at h); (try simp only [kNW] at h); omega)
    exact kx_iret (z := ln_bends (st_ln S ln) pl) hx hb hr hlk (⟨g2_30, gs2_19, sn2_20, by rfl, h_33, ho_32, h_34, by exact hM9, by exact hH.push hok hM hs1 hs2 hs3⟩) hS_25 dX3_acts_31
  · -- not taken at 15
    exfalso; omega

set_option maxHeartbeats 4000000 in
set_option maxRecDepth 100000 in
theorem m_acts_u (l : Launch) (D : kG) (H : Heap) (a : Nat) (ra : Nat) (sa : Nat) (ka : Nat) (ta : Nat) (sn : Nat) (ik : Bool) (tn : Nat) (th : Int) (sp : Int) (iw : Bool) (le : Int) (fi : Int) (se : Int) (g : Nat → Int) (gs : Nat → Int) (S : Ls) (gap : Int) (hist : List Sg) (ln : Nat) (y : Int) (hO_a : kO D H a 2 [.ref ra, .ref sa, .int (kI ((sn : Nat) : Int)), .ref ka, .int (kI (kb (ik))), .ref ta, .int (kI ((tn : Nat) : Int)), .int (kI (th)), .int (kI (sp)), .int (kI (kb (iw))), .int (kI (le)), .int (kI (fi)), .int (kI (se))]) (hA_ra : kAi D H ra 514 g) (hA_sa : kAi D H sa 2570 gs) (hM : MRow g S gap) (hok : LsOK S gap) (hH : MHist gs hist sn) (ne_a_ra : a ≠ ra) (ne_a_sa : a ≠ sa) (ne_ra_sa : ra ≠ sa) (bs_a : kBase D ≤ a) (bs_ra : kBase D ≤ ra) (bs_sa : kBase D ≤ sa) (hr_y : -2147483648 ≤ y ∧ y ≤ 2147483647) (hln : ln < S.length) (hr0 : ref_u S (ln : Int) = 0) : Met l yX3_acts (ws_ yX3_acts cX3_acts 4 (some .int)) ({ frames := 3, cells := 0, slots := 0, locals := 66 } : Room) (kPre D H [.ref a, .int (kI (117)), .int (kI ((ln : Nat) : Int)), .int (kI (y))]) (kQi (fun (r : Int) H' => ∃ (g2 : Nat → Int) (gs2 : Nat → Int) (sn2 : Nat), (r = ln_lb (st_ln S ln)) ∧ (kO D H' a 2 [.ref ra, .ref sa, .int (kI ((sn2 : Nat) : Int)), .ref ka, .int (kI (kb (ik))), .ref ta, .int (kI ((tn : Nat) : Int)), .int (kI (0)), .int (kI (sp)), .int (kI (kb (iw))), .int (kI (le)), .int (kI (fi)), .int (kI (se))]) ∧ (kAi D H' ra 514 g2) ∧ (kAi D H' sa 2570 gs2) ∧ (MRow g2 (S.set ln (w_lb (st_ln S ln) (-1))) (gap)) ∧ (MHist gs2 (pushH hist (S, gap)) sn2)) (fun q : Nat => q = a ∨ q = ra ∨ q = sa)) (0) (0) ((fun q : Nat => q = a ∨ q = ra ∨ q = sa)) := by
  refine Met.ofW (cc := cX3_acts) (maxL := 4) (ret := (some .int)) (by decide) rfl ?_
  intro p e s m args below meth c s₁ B hml hv
  obtain ⟨rfl, hH, hK⟩ := hv
  subst hH
  have hx := B.exec
  have hb := B.bytes
  have hr := B.returns
  have hts := atoms_spec (ws := ws_ yX3_acts cX3_acts 4 (some .int)) B.pre
  have hts : ∀ w ∈ lw_all, w.before _ s = true := fun w h => hts w (List.mem_cons_of_mem _ h)
  have hown : s.vm.findClass RX3 = some m.cls := findClass_of_methodNamed B.named
  have hlk := B.notSynchronized
  have hS : va_S (fun q : Nat => q = a ∨ q = ra ∨ q = sa) s.heap s.heap [] := va_S.rf
  have hB : ∀ q, (fun q : Nat => q = a ∨ q = ra ∨ q = sa) q → kBase D ≤ q := fun q h => by (try dsimp only at h); (try simp only [kNW] at h); have hks := hK.size; omega
  have hl := lv_entry ([.ref a, .int (kI (117)), .int (kI ((ln : Nat) : Int)), .int (kI (y))]) (n := 4) (Nat.le_of_ble_eq_true rfl)
  rw [lg_entry_eq]
  generalize (lg_sl ([.ref a, .int (kI (117)), .int (kI ((ln : Nat) : Int)), .int (kI (y))]) ++ List.replicate (4 - (lg_sl ([.ref a, .int (kI (117)), .int (kI ((ln : Nat) : Int)), .int (kI (y))])).length) Slot.unset).toArray = ls at hl ⊢
  have hl : lv_has ls 4 [(0, .ref a), (1, .int (kI (117))), (2, .int (kI ((ln : Nat) : Int))), (3, .int (kI (y)))] := hl
  have hL8 := hok.1
  have hsn5 := hH.2.1
  refine lv_aload_n hx hb dX3_acts_0 rfl (lv_at hl 0 rfl) ?_
  refine lv_aload_n hx hb dX3_acts_1 rfl (lv_at hl 0 rfl) ?_
  refine lv_iload_n hx hb dX3_acts_2 rfl (lv_at hl 1 rfl) ?_
  refine lv_iload_n hx hb dX3_acts_3 rfl (lv_at hl 2 rfl) ?_
  refine lv_iload_n hx hb dX3_acts_4 rfl (lv_at hl 3 rfl) ?_
  refine kx_ci0 (va_runV (As := [.int (kI (117)), .int (kI ((ln : Nat) : Int)), .int (kI (y))]) (rest := [.ref a]) ⟨hx, hb, hml, hown, hts⟩ (m_ref_u l D s.heap a ([.ref ra, .ref sa, .int (kI ((sn : Nat) : Int)), .ref ka, .int (kI (kb (ik))), .ref ta, .int (kI ((tn : Nat) : Int)), .int (kI (th)), .int (kI (sp)), .int (kI (kb (iw))), .int (kI (le)), .int (kI (fi)), .int (kI (se))]) ra g S gap ((ln : Int)) y hO_a rfl hA_ra (by first | assumption | omega) (by first | assumption | omega) (by first | assumption | omega) (by first | assumption | omega)) (cwV 3 hts (lw_V q2290 q2292 qs38 q89 q2293) rfl rfl rfl (by decide +kernel) ⟨Nat.le_of_ble_eq_true rfl, Nat.le_of_ble_eq_true rfl⟩) (kx_pv hK hS hB (kx_rc hK hO_a (C := RX3) (T := TX3) (N := 13) rfl)) rfl rfl hl.1 rfl (lv_room (Nat.le_of_ble_eq_true rfl)) dX3_acts_5 ⟨by first | exact Nat.le_of_ble_eq_true rfl | omega | (show _ ≤ _; omega) | (dsimp only [headSpec]; omega), by first | exact Nat.le_of_ble_eq_true rfl | omega | (show _ ≤ _; omega) | (dsimp only [headSpec]; omega)⟩) hS (fun z_4 locs_1 hz_3 hS_2 => ?_)
  subst z_4
  refine kx_eqi (0) (hr0) ?_
  refine kx_put (v := .int (kI (0))) (C := RX3) (T := TX3) (N := 13) hx hb hts in_X3 hown hK hO_a rfl 7 (by decide) tyX3 tyX3_ok nmX3 hS_2 (by first | rfl | exact Or.inl rfl | exact Or.inr rfl | exact Or.inr (Or.inl rfl) | exact Or.inr (Or.inr rfl) | exact Or.inr (Or.inr (Or.inl rfl)) | exact Or.inr (Or.inr (Or.inr rfl)) | ((try dsimp only); (try simp only [kNW]); omega)) q2245 (fun _ h9 => h9) rfl rfl rfl rfl (Nat.le_of_ble_eq_true rfl) dX3_acts_8 (fun H_7 locs_8 hO_6 hU_5 hS_9 => ?_)
  have hO_6 : kO D H_7 a 2 [.ref ra, .ref sa, .int (kI ((sn : Nat) : Int)), .ref ka, .int (kI (kb (ik))), .ref ta, .int (kI ((tn : Nat) : Int)), .int (kI (0)), .int (kI (sp)), .int (kI (kb (iw))), .int (kI (le)), .int (kI (fi)), .int (kI (se))] := hO_6
  refine lv_aload_n hx hb dX3_acts_11 rfl (lv_at hl 0 rfl) ?_
  refine kx_get (v := .int (kI (0))) (C := RX3) (T := TX3) (N := 13) hx hb hts in_X3 hown hK hO_6 rfl 7 (by decide) q2245 (fun _ h9 => h9) rfl dX3_acts_12 ?_
  refine kx_if_le (x := 0) (tgt := 20) hx hb dX3_acts_15 (by decide) (by omega) (by omega) (fun c_15_10 => ?_) (fun c_15_10 => ?_)
  · -- taken at 15
    refine lv_aload_n hx hb dX3_acts_20 rfl (lv_at hl 0 rfl) ?_
    have h_11 := hA_ra.up hU_5 (by first | assumption | exact Ne.symm (by assumption) | omega)
    have h_12 := hA_sa.up hU_5 (by first | assumption | exact Ne.symm (by assumption) | omega)
    refine kx_cv (va_runV (As := []) (rest := []) ⟨hx, hb, hml, hown, hts⟩ (m_X3_records l D H_7 a ra sa ka ta sn ik tn 0 sp iw le fi se g gs hO_6 h_11 h_12 (by first | assumption | omega) (by first | assumption | omega) (by first | assumption | omega) (by first | assumption | omega) (by first | assumption | omega) (by first | assumption | omega)) (cwV 0 hts (lw_V q2383 q2385 qs56 q89 q2386) rfl rfl rfl (by decide +kernel) ⟨Nat.le_of_ble_eq_true rfl, Nat.le_of_ble_eq_true rfl⟩) (kx_pv hK hS_9 hB (kx_rc hK hO_6 (C := RX3) (T := TX3) (N := 13) rfl)) rfl rfl hl.1 rfl (lv_room (Nat.le_of_ble_eq_true rfl)) dX3_acts_21 ⟨by first | exact Nat.le_of_ble_eq_true rfl | omega | (show _ ≤ _; omega) | (dsimp only [headSpec]; omega), by first | exact Nat.le_of_ble_eq_true rfl | omega | (show _ ≤ _; omega) | (dsimp only [headSpec]; omega)⟩) hS_9 (fun q _ h => by (try dsimp only at h); (try dsimp only); (try simp only [kNW] at h); (try simp only [kNW]); omega) (fun q h => by (try dsimp only at h); (try dsimp only); (try simp only [kNW] at h); (try simp only [kNW]); omega) (fun H_16 locs_13 hz_15 hF_17 hS_14 => ?_)
    refine W.widen (k := 0) (n := 0) (Nat.le_of_ble_eq_true rfl) (Nat.le_of_ble_eq_true rfl) ?_
    obtain ⟨gs2_19, sn2_20, ho_21, ho_22, hs1, hs2, hs3⟩ := hz_15
    refine lv_aload_n hx hb dX3_acts_24 rfl (lv_at hl 0 rfl) ?_
    refine lv_iload_n hx hb dX3_acts_25 rfl (lv_at hl 1 rfl) ?_
    refine lv_iload_n hx hb dX3_acts_26 rfl (lv_at hl 2 rfl) ?_
    refine lv_iload_n hx hb dX3_acts_27 rfl (lv_at hl 3 rfl) ?_
    have h_23 := h_11.fr hF_17 (fun h => by (try dsimp only at h); (try simp only [kNW] at h); omega)
    refine kx_ci (va_runV (As := [.int (kI (117)), .int (kI ((ln : Nat) : Int)), .int (kI (y))]) (rest := []) ⟨hx, hb, hml, hown, hts⟩ (m_do_u l D H_16 a ([.ref ra, .ref sa, .int (kI ((sn2_20 : Nat) : Int)), .ref ka, .int (kI (kb (ik))), .ref ta, .int (kI ((tn : Nat) : Int)), .int (kI (0)), .int (kI (sp)), .int (kI (kb (iw))), .int (kI (le)), .int (kI (fi)), .int (kI (se))]) ra g S gap ln y ho_21 rfl h_23 (by first | assumption | omega) (by first | assumption | omega) (by first | assumption | omega) (by first | assumption | omega) (by first | assumption | omega)) (cwV 3 hts (lw_V q2387 q2389 qs57 q89 q2390) rfl rfl rfl (by decide +kernel) ⟨Nat.le_of_ble_eq_true rfl, Nat.le_of_ble_eq_true rfl⟩) (kx_pv hK hS_14 hB (kx_rc hK ho_21 (C := RX3) (T := TX3) (N := 13) rfl)) rfl rfl hl.1 rfl (lv_room (Nat.le_of_ble_eq_true rfl)) dX3_acts_28 ⟨by first | exact Nat.le_of_ble_eq_true rfl | omega | (show _ ≤ _; omega) | (dsimp only [headSpec]; omega), by first | exact Nat.le_of_ble_eq_true rfl | omega | (show _ ≤ _; omega) | (dsimp only [headSpec]; omega)⟩) hS_14 (fun q _ h => by (try dsimp only at h); (try dsimp only); (try simp only [kNW] at h); (try simp only [kNW]); omega) (fun q h => by (try dsimp only at h); (try dsimp only); (try simp only [kNW] at h); (try simp only [kNW]); omega) (fun z_29 H_27 locs_24 hz_26 hF_28 hS_25 => ?_)
    refine W.widen (k := 0) (n := 0) (Nat.le_of_ble_eq_true rfl) (Nat.le_of_ble_eq_true rfl) ?_
    obtain ⟨g2_30, hv_31, ho_32, hM9⟩ := hz_26
    subst z_29
    have h_33 := ho_21.fr hF_28 (fun h => by (try dsimp only at h); (try simp only [kNW] at h); omega)
    have h_34 := ho_22.fr hF_28 (fun h => by (try dsimp only at h); (try simp only [kNW] at h); omega)
    exact kx_iret (z := ln_lb (st_ln S ln)) hx hb hr hlk (⟨g2_30, gs2_19, sn2_20, by rfl, h_33, ho_32, h_34, by exact hM9, by exact hH.push hok hM hs1 hs2 hs3⟩) hS_25 dX3_acts_31
  · -- not taken at 15
    exfalso; omega

set_option maxHeartbeats 4000000 in
set_option maxRecDepth 100000 in
theorem m_acts_best (l : Launch) (D : kG) (H : Heap) (a : Nat) (ra : Nat) (sa : Nat) (ka : Nat) (ta : Nat) (sn : Nat) (ik : Bool) (tn : Nat) (th : Int) (sp : Int) (iw : Bool) (le : Int) (fi : Int) (se : Int) (g : Nat → Int) (gs : Nat → Int) (S : Ls) (gap : Int) (hist : List Sg) (ln : Nat) (y : Int) (hO_a : kO D H a 2 [.ref ra, .ref sa, .int (kI ((sn : Nat) : Int)), .ref ka, .int (kI (kb (ik))), .ref ta, .int (kI ((tn : Nat) : Int)), .int (kI (th)), .int (kI (sp)), .int (kI (kb (iw))), .int (kI (le)), .int (kI (fi)), .int (kI (se))]) (hA_ra : kAi D H ra 514 g) (hA_sa : kAi D H sa 2570 gs) (hM : MRow g S gap) (hok : LsOK S gap) (hH : MHist gs hist sn) (ne_a_ra : a ≠ ra) (ne_a_sa : a ≠ sa) (ne_ra_sa : ra ≠ sa) (bs_a : kBase D ≤ a) (bs_ra : kBase D ≤ ra) (bs_sa : kBase D ≤ sa) (hr_y : -2147483648 ≤ y ∧ y ≤ 2147483647) (hln : ln < S.length) (hr0 : ref_best S gap (ln : Int) = 0) : Met l yX3_acts (ws_ yX3_acts cX3_acts 4 (some .int)) ({ frames := 10, cells := 0, slots := 0, locals := 232 } : Room) (kPre D H [.ref a, .int (kI (98)), .int (kI ((ln : Nat) : Int)), .int (kI (y))]) (kQi (fun (r : Int) H' => ∃ (g2 : Nat → Int) (gs2 : Nat → Int) (sn2 : Nat), (r = st_best S gap ln) ∧ (kO D H' a 2 [.ref ra, .ref sa, .int (kI ((sn2 : Nat) : Int)), .ref ka, .int (kI (kb (ik))), .ref ta, .int (kI ((tn : Nat) : Int)), .int (kI (0)), .int (kI (sp)), .int (kI (kb (iw))), .int (kI (le)), .int (kI (fi)), .int (kI (se))]) ∧ (kAi D H' ra 514 g2) ∧ (kAi D H' sa 2570 gs2) ∧ (MRow g2 (S.set ln (w_lb (st_ln S ln) (st_best S gap ln))) (gap)) ∧ (MHist gs2 (pushH hist (S, gap)) sn2)) (fun q : Nat => q = a ∨ q = ra ∨ q = sa)) (0) (0) ((fun q : Nat => q = a ∨ q = ra ∨ q = sa)) := by
  refine Met.ofW (cc := cX3_acts) (maxL := 4) (ret := (some .int)) (by decide) rfl ?_
  intro p e s m args below meth c s₁ B hml hv
  obtain ⟨rfl, hH, hK⟩ := hv
  subst hH
  have hx := B.exec
  have hb := B.bytes
  have hr := B.returns
  have hts := atoms_spec (ws := ws_ yX3_acts cX3_acts 4 (some .int)) B.pre
  have hts : ∀ w ∈ lw_all, w.before _ s = true := fun w h => hts w (List.mem_cons_of_mem _ h)
  have hown : s.vm.findClass RX3 = some m.cls := findClass_of_methodNamed B.named
  have hlk := B.notSynchronized
  have hS : va_S (fun q : Nat => q = a ∨ q = ra ∨ q = sa) s.heap s.heap [] := va_S.rf
  have hB : ∀ q, (fun q : Nat => q = a ∨ q = ra ∨ q = sa) q → kBase D ≤ q := fun q h => by (try dsimp only at h); (try simp only [kNW] at h); have hks := hK.size; omega
  have hl := lv_entry ([.ref a, .int (kI (98)), .int (kI ((ln : Nat) : Int)), .int (kI (y))]) (n := 4) (Nat.le_of_ble_eq_true rfl)
  rw [lg_entry_eq]
  generalize (lg_sl ([.ref a, .int (kI (98)), .int (kI ((ln : Nat) : Int)), .int (kI (y))]) ++ List.replicate (4 - (lg_sl ([.ref a, .int (kI (98)), .int (kI ((ln : Nat) : Int)), .int (kI (y))])).length) Slot.unset).toArray = ls at hl ⊢
  have hl : lv_has ls 4 [(0, .ref a), (1, .int (kI (98))), (2, .int (kI ((ln : Nat) : Int))), (3, .int (kI (y)))] := hl
  have hL8 := hok.1
  have hsn5 := hH.2.1
  refine lv_aload_n hx hb dX3_acts_0 rfl (lv_at hl 0 rfl) ?_
  refine lv_aload_n hx hb dX3_acts_1 rfl (lv_at hl 0 rfl) ?_
  refine lv_iload_n hx hb dX3_acts_2 rfl (lv_at hl 1 rfl) ?_
  refine lv_iload_n hx hb dX3_acts_3 rfl (lv_at hl 2 rfl) ?_
  refine lv_iload_n hx hb dX3_acts_4 rfl (lv_at hl 3 rfl) ?_
  refine kx_ci0 (va_runV (As := [.int (kI (98)), .int (kI ((ln : Nat) : Int)), .int (kI (y))]) (rest := [.ref a]) ⟨hx, hb, hml, hown, hts⟩ (m_ref_best l D s.heap a ([.ref ra, .ref sa, .int (kI ((sn : Nat) : Int)), .ref ka, .int (kI (kb (ik))), .ref ta, .int (kI ((tn : Nat) : Int)), .int (kI (th)), .int (kI (sp)), .int (kI (kb (iw))), .int (kI (le)), .int (kI (fi)), .int (kI (se))]) ra g S gap ((ln : Int)) y hO_a rfl hA_ra (by first | assumption | omega) (by first | assumption | omega) (by first | assumption | omega) (by first | assumption | omega)) (cwV 3 hts (lw_V q2290 q2292 qs38 q89 q2293) rfl rfl rfl (by decide +kernel) ⟨Nat.le_of_ble_eq_true rfl, Nat.le_of_ble_eq_true rfl⟩) (kx_pv hK hS hB (kx_rc hK hO_a (C := RX3) (T := TX3) (N := 13) rfl)) rfl rfl hl.1 rfl (lv_room (Nat.le_of_ble_eq_true rfl)) dX3_acts_5 ⟨by first | exact Nat.le_of_ble_eq_true rfl | omega | (show _ ≤ _; omega) | (dsimp only [headSpec]; omega), by first | exact Nat.le_of_ble_eq_true rfl | omega | (show _ ≤ _; omega) | (dsimp only [headSpec]; omega)⟩) hS (fun z_4 locs_1 hz_3 hS_2 => ?_)
  subst z_4
  refine kx_eqi (0) (hr0) ?_
  refine kx_put (v := .int (kI (0))) (C := RX3) (T := TX3) (N := 13) hx hb hts in_X3 hown hK hO_a rfl 7 (by decide) tyX3 tyX3_ok nmX3 hS_2 (by first | rfl | exact Or.inl rfl | exact Or.inr rfl | exact Or.inr (Or.inl rfl) | exact Or.inr (Or.inr rfl) | exact Or.inr (Or.inr (Or.inl rfl)) | exact Or.inr (Or.inr (Or.inr rfl)) | ((try dsimp only); (try simp only [kNW]); omega)) q2245 (fun _ h9 => h9) rfl rfl rfl rfl (Nat.le_of_ble_eq_true rfl) dX3_acts_8 (fun H_7 locs_8 hO_6 hU_5 hS_9 => ?_)
  have hO_6 : kO D H_7 a 2 [.ref ra, .ref sa, .int (kI ((sn : Nat) : Int)), .ref ka, .int (kI (kb (ik))), .ref ta, .int (kI ((tn : Nat) : Int)), .int (kI (0)), .int (kI (sp)), .int (kI (kb (iw))), .int (kI (le)), .int (kI (fi)), .int (kI (se))] := hO_6
  refine lv_aload_n hx hb dX3_acts_11 rfl (lv_at hl 0 rfl) ?_
  refine kx_get (v := .int (kI (0))) (C := RX3) (T := TX3) (N := 13) hx hb hts in_X3 hown hK hO_6 rfl 7 (by decide) q2245 (fun _ h9 => h9) rfl dX3_acts_12 ?_
  refine kx_if_le (x := 0) (tgt := 20) hx hb dX3_acts_15 (by decide) (by omega) (by omega) (fun c_15_10 => ?_) (fun c_15_10 => ?_)
  · -- taken at 15
    refine lv_aload_n hx hb dX3_acts_20 rfl (lv_at hl 0 rfl) ?_
    have h_11 := hA_ra.up hU_5 (by first | assumption | exact Ne.symm (by assumption) | omega)
    have h_12 := hA_sa.up hU_5 (by first | assumption | exact Ne.symm (by assumption) | omega)
    refine kx_cv (va_runV (As := []) (rest := []) ⟨hx, hb, hml, hown, hts⟩ (m_X3_records l D H_7 a ra sa ka ta sn ik tn 0 sp iw le fi se g gs hO_6 h_11 h_12 (by first | assumption | omega) (by first | assumption | omega) (by first | assumption | omega) (by first | assumption | omega) (by first | assumption | omega) (by first | assumption | omega)) (cwV 0 hts (lw_V q2383 q2385 qs56 q89 q2386) rfl rfl rfl (by decide +kernel) ⟨Nat.le_of_ble_eq_true rfl, Nat.le_of_ble_eq_true rfl⟩) (kx_pv hK hS_9 hB (kx_rc hK hO_6 (C := RX3) (T := TX3) (N := 13) rfl)) rfl rfl hl.1 rfl (lv_room (Nat.le_of_ble_eq_true rfl)) dX3_acts_21 ⟨by first | exact Nat.le_of_ble_eq_true rfl | omega | (show _ ≤ _; omega) | (dsimp only [headSpec]; omega), by first | exact Nat.le_of_ble_eq_true rfl | omega | (show _ ≤ _; omega) | (dsimp only [headSpec]; omega)⟩) hS_9 (fun q _ h => by (try dsimp only at h); (try dsimp only); (try simp only [kNW] at h); (try simp only [kNW]); omega) (fun q h => by (try dsimp only at h); (try dsimp only); (try simp only [kNW] at h); (try simp only [kNW]); omega) (fun H_16 locs_13 hz_15 hF_17 hS_14 => ?_)
    refine W.widen (k := 0) (n := 0) (Nat.le_of_ble_eq_true rfl) (Nat.le_of_ble_eq_true rfl) ?_
    obtain ⟨gs2_19, sn2_20, ho_21, ho_22, hs1, hs2, hs3⟩ := hz_15
    refine lv_aload_n hx hb dX3_acts_24 rfl (lv_at hl 0 rfl) ?_
    refine lv_iload_n hx hb dX3_acts_25 rfl (lv_at hl 1 rfl) ?_
    refine lv_iload_n hx hb dX3_acts_26 rfl (lv_at hl 2 rfl) ?_
    refine lv_iload_n hx hb dX3_acts_27 rfl (lv_at hl 3 rfl) ?_
    have h_23 := h_11.fr hF_17 (fun h => by (try dsimp only at h); (try simp only [kNW] at h); omega)
    refine kx_ci (va_runV (As := [.int (kI (98)), .int (kI ((ln : Nat) : Int)), .int (kI (y))]) (rest := []) ⟨hx, hb, hml, hown, hts⟩ (m_do_best l D H_16 a ([.ref ra, .ref sa, .int (kI ((sn2_20 : Nat) : Int)), .ref ka, .int (kI (kb (ik))), .ref ta, .int (kI ((tn : Nat) : Int)), .int (kI (0)), .int (kI (sp)), .int (kI (kb (iw))), .int (kI (le)), .int (kI (fi)), .int (kI (se))]) ra g S gap ln y ho_21 rfl h_23 (by first | assumption | omega) (by first | assumption | omega) (by first | assumption | omega) (by first | assumption | omega) (by first | assumption | omega)) (cwV 3 hts (lw_V q2387 q2389 qs57 q89 q2390) rfl rfl rfl (by decide +kernel) ⟨Nat.le_of_ble_eq_true rfl, Nat.le_of_ble_eq_true rfl⟩) (kx_pv hK hS_14 hB (kx_rc hK ho_21 (C := RX3) (T := TX3) (N := 13) rfl)) rfl rfl hl.1 rfl (lv_room (Nat.le_of_ble_eq_true rfl)) dX3_acts_28 ⟨by first | exact Nat.le_of_ble_eq_true rfl | omega | (show _ ≤ _; omega) | (dsimp only [headSpec]; omega), by first | exact Nat.le_of_ble_eq_true rfl | omega | (show _ ≤ _; omega) | (dsimp only [headSpec]; omega)⟩) hS_14 (fun q _ h => by (try dsimp only at h); (try dsimp only); (try simp only [kNW] at h); (try simp only [kNW]); omega) (fun q h => by (try dsimp only at h); (try dsimp only); (try simp only [kNW] at h); (try simp only [kNW]); omega) (fun z_29 H_27 locs_24 hz_26 hF_28 hS_25 => ?_)
    refine W.widen (k := 0) (n := 0) (Nat.le_of_ble_eq_true rfl) (Nat.le_of_ble_eq_true rfl) ?_
    obtain ⟨g2_30, hv_31, ho_32, hM9⟩ := hz_26
    subst z_29
    have h_33 := ho_21.fr hF_28 (fun h => by (try dsimp only at h); (try simp only [kNW] at h); omega)
    have h_34 := ho_22.fr hF_28 (fun h => by (try dsimp only at h); (try simp only [kNW] at h); omega)
    exact kx_iret (z := st_best S gap ln) hx hb hr hlk (⟨g2_30, gs2_19, sn2_20, by rfl, h_33, ho_32, h_34, by exact hM9, by exact hH.push hok hM hs1 hs2 hs3⟩) hS_25 dX3_acts_31
  · -- not taken at 15
    exfalso; omega

set_option maxHeartbeats 4000000 in
set_option maxRecDepth 100000 in
theorem m_acts_g (l : Launch) (D : kG) (H : Heap) (a : Nat) (ra : Nat) (sa : Nat) (ka : Nat) (ta : Nat) (sn : Nat) (ik : Bool) (tn : Nat) (th : Int) (sp : Int) (iw : Bool) (le : Int) (fi : Int) (se : Int) (g : Nat → Int) (gs : Nat → Int) (S : Ls) (gap : Int) (hist : List Sg) (x : Int) (y : Int) (hO_a : kO D H a 2 [.ref ra, .ref sa, .int (kI ((sn : Nat) : Int)), .ref ka, .int (kI (kb (ik))), .ref ta, .int (kI ((tn : Nat) : Int)), .int (kI (th)), .int (kI (sp)), .int (kI (kb (iw))), .int (kI (le)), .int (kI (fi)), .int (kI (se))]) (hA_ra : kAi D H ra 514 g) (hA_sa : kAi D H sa 2570 gs) (hM : MRow g S gap) (hok : LsOK S gap) (hH : MHist gs hist sn) (ne_a_ra : a ≠ ra) (ne_a_sa : a ≠ sa) (ne_ra_sa : ra ≠ sa) (bs_a : kBase D ≤ a) (bs_ra : kBase D ≤ ra) (bs_sa : kBase D ≤ sa) (hr_x : -2147483648 ≤ x ∧ x ≤ 2147483647) (hr_y : -2147483648 ≤ y ∧ y ≤ 2147483647) (hr0 : ref_g x = 0) : Met l yX3_acts (ws_ yX3_acts cX3_acts 4 (some .int)) ({ frames := 2, cells := 0, slots := 0, locals := 45 } : Room) (kPre D H [.ref a, .int (kI (103)), .int (kI (x)), .int (kI (y))]) (kQi (fun (r : Int) H' => ∃ (g2 : Nat → Int) (gs2 : Nat → Int) (sn2 : Nat), (r = gap) ∧ (kO D H' a 2 [.ref ra, .ref sa, .int (kI ((sn2 : Nat) : Int)), .ref ka, .int (kI (kb (ik))), .ref ta, .int (kI ((tn : Nat) : Int)), .int (kI (0)), .int (kI (sp)), .int (kI (kb (iw))), .int (kI (le)), .int (kI (fi)), .int (kI (se))]) ∧ (kAi D H' ra 514 g2) ∧ (kAi D H' sa 2570 gs2) ∧ (MRow g2 (S) (x)) ∧ (MHist gs2 (pushH hist (S, gap)) sn2)) (fun q : Nat => q = a ∨ q = ra ∨ q = sa)) (0) (0) ((fun q : Nat => q = a ∨ q = ra ∨ q = sa)) := by
  refine Met.ofW (cc := cX3_acts) (maxL := 4) (ret := (some .int)) (by decide) rfl ?_
  intro p e s m args below meth c s₁ B hml hv
  obtain ⟨rfl, hH, hK⟩ := hv
  subst hH
  have hx := B.exec
  have hb := B.bytes
  have hr := B.returns
  have hts := atoms_spec (ws := ws_ yX3_acts cX3_acts 4 (some .int)) B.pre
  have hts : ∀ w ∈ lw_all, w.before _ s = true := fun w h => hts w (List.mem_cons_of_mem _ h)
  have hown : s.vm.findClass RX3 = some m.cls := findClass_of_methodNamed B.named
  have hlk := B.notSynchronized
  have hS : va_S (fun q : Nat => q = a ∨ q = ra ∨ q = sa) s.heap s.heap [] := va_S.rf
  have hB : ∀ q, (fun q : Nat => q = a ∨ q = ra ∨ q = sa) q → kBase D ≤ q := fun q h => by (try dsimp only at h); (try simp only [kNW] at h); have hks := hK.size; omega
  have hl := lv_entry ([.ref a, .int (kI (103)), .int (kI (x)), .int (kI (y))]) (n := 4) (Nat.le_of_ble_eq_true rfl)
  rw [lg_entry_eq]
  generalize (lg_sl ([.ref a, .int (kI (103)), .int (kI (x)), .int (kI (y))]) ++ List.replicate (4 - (lg_sl ([.ref a, .int (kI (103)), .int (kI (x)), .int (kI (y))])).length) Slot.unset).toArray = ls at hl ⊢
  have hl : lv_has ls 4 [(0, .ref a), (1, .int (kI (103))), (2, .int (kI (x))), (3, .int (kI (y)))] := hl
  have hL8 := hok.1
  have hsn5 := hH.2.1
  refine lv_aload_n hx hb dX3_acts_0 rfl (lv_at hl 0 rfl) ?_
  refine lv_aload_n hx hb dX3_acts_1 rfl (lv_at hl 0 rfl) ?_
  refine lv_iload_n hx hb dX3_acts_2 rfl (lv_at hl 1 rfl) ?_
  refine lv_iload_n hx hb dX3_acts_3 rfl (lv_at hl 2 rfl) ?_
  refine lv_iload_n hx hb dX3_acts_4 rfl (lv_at hl 3 rfl) ?_
  refine kx_ci0 (va_runV (As := [.int (kI (103)), .int (kI (x)), .int (kI (y))]) (rest := [.ref a]) ⟨hx, hb, hml, hown, hts⟩ (m_ref_g l D s.heap a ([.ref ra, .ref sa, .int (kI ((sn : Nat) : Int)), .ref ka, .int (kI (kb (ik))), .ref ta, .int (kI ((tn : Nat) : Int)), .int (kI (th)), .int (kI (sp)), .int (kI (kb (iw))), .int (kI (le)), .int (kI (fi)), .int (kI (se))]) ra g S gap x y hO_a rfl hA_ra (by first | assumption | omega) (by first | assumption | omega) (by first | assumption | omega) (by first | assumption | omega)) (cwV 3 hts (lw_V q2290 q2292 qs38 q89 q2293) rfl rfl rfl (by decide +kernel) ⟨Nat.le_of_ble_eq_true rfl, Nat.le_of_ble_eq_true rfl⟩) (kx_pv hK hS hB (kx_rc hK hO_a (C := RX3) (T := TX3) (N := 13) rfl)) rfl rfl hl.1 rfl (lv_room (Nat.le_of_ble_eq_true rfl)) dX3_acts_5 ⟨by first | exact Nat.le_of_ble_eq_true rfl | omega | (show _ ≤ _; omega) | (dsimp only [headSpec]; omega), by first | exact Nat.le_of_ble_eq_true rfl | omega | (show _ ≤ _; omega) | (dsimp only [headSpec]; omega)⟩) hS (fun z_4 locs_1 hz_3 hS_2 => ?_)
  subst z_4
  refine kx_eqi (0) (hr0) ?_
  refine kx_put (v := .int (kI (0))) (C := RX3) (T := TX3) (N := 13) hx hb hts in_X3 hown hK hO_a rfl 7 (by decide) tyX3 tyX3_ok nmX3 hS_2 (by first | rfl | exact Or.inl rfl | exact Or.inr rfl | exact Or.inr (Or.inl rfl) | exact Or.inr (Or.inr rfl) | exact Or.inr (Or.inr (Or.inl rfl)) | exact Or.inr (Or.inr (Or.inr rfl)) | ((try dsimp only); (try simp only [kNW]); omega)) q2245 (fun _ h9 => h9) rfl rfl rfl rfl (Nat.le_of_ble_eq_true rfl) dX3_acts_8 (fun H_7 locs_8 hO_6 hU_5 hS_9 => ?_)
  have hO_6 : kO D H_7 a 2 [.ref ra, .ref sa, .int (kI ((sn : Nat) : Int)), .ref ka, .int (kI (kb (ik))), .ref ta, .int (kI ((tn : Nat) : Int)), .int (kI (0)), .int (kI (sp)), .int (kI (kb (iw))), .int (kI (le)), .int (kI (fi)), .int (kI (se))] := hO_6
  refine lv_aload_n hx hb dX3_acts_11 rfl (lv_at hl 0 rfl) ?_
  refine kx_get (v := .int (kI (0))) (C := RX3) (T := TX3) (N := 13) hx hb hts in_X3 hown hK hO_6 rfl 7 (by decide) q2245 (fun _ h9 => h9) rfl dX3_acts_12 ?_
  refine kx_if_le (x := 0) (tgt := 20) hx hb dX3_acts_15 (by decide) (by omega) (by omega) (fun c_15_10 => ?_) (fun c_15_10 => ?_)
  · -- taken at 15
    refine lv_aload_n hx hb dX3_acts_20 rfl (lv_at hl 0 rfl) ?_
    have h_11 := hA_ra.up hU_5 (by first | assumption | exact Ne.symm (by assumption) | omega)
    have h_12 := hA_sa.up hU_5 (by first | assumption | exact Ne.symm (by assumption) | omega)
    refine kx_cv (va_runV (As := []) (rest := []) ⟨hx, hb, hml, hown, hts⟩ (m_X3_records l D H_7 a ra sa ka ta sn ik tn 0 sp iw le fi se g gs hO_6 h_11 h_12 (by first | assumption | omega) (by first | assumption | omega) (by first | assumption | omega) (by first | assumption | omega) (by first | assumption | omega) (by first | assumption | omega)) (cwV 0 hts (lw_V q2383 q2385 qs56 q89 q2386) rfl rfl rfl (by decide +kernel) ⟨Nat.le_of_ble_eq_true rfl, Nat.le_of_ble_eq_true rfl⟩) (kx_pv hK hS_9 hB (kx_rc hK hO_6 (C := RX3) (T := TX3) (N := 13) rfl)) rfl rfl hl.1 rfl (lv_room (Nat.le_of_ble_eq_true rfl)) dX3_acts_21 ⟨by first | exact Nat.le_of_ble_eq_true rfl | omega | (show _ ≤ _; omega) | (dsimp only [headSpec]; omega), by first | exact Nat.le_of_ble_eq_true rfl | omega | (show _ ≤ _; omega) | (dsimp only [headSpec]; omega)⟩) hS_9 (fun q _ h => by (try dsimp only at h); (try dsimp only); (try simp only [kNW] at h); (try simp only [kNW]); omega) (fun q h => by (try dsimp only at h); (try dsimp only); (try simp only [kNW] at h); (try simp only [kNW]); omega) (fun H_16 locs_13 hz_15 hF_17 hS_14 => ?_)
    refine W.widen (k := 0) (n := 0) (Nat.le_of_ble_eq_true rfl) (Nat.le_of_ble_eq_true rfl) ?_
    obtain ⟨gs2_19, sn2_20, ho_21, ho_22, hs1, hs2, hs3⟩ := hz_15
    refine lv_aload_n hx hb dX3_acts_24 rfl (lv_at hl 0 rfl) ?_
    refine lv_iload_n hx hb dX3_acts_25 rfl (lv_at hl 1 rfl) ?_
    refine lv_iload_n hx hb dX3_acts_26 rfl (lv_at hl 2 rfl) ?_
    refine lv_iload_n hx hb dX3_acts_27 rfl (lv_at hl 3 rfl) ?_
    have h_23 := h_11.fr hF_17 (fun h => by (try dsimp only at h); (try simp only [kNW] at h); omega)
    refine kx_ci (va_runV (As := [.int (kI (103)), .int (kI (x)), .int (kI (y))]) (rest := []) ⟨hx, hb, hml, hown, hts⟩ (m_do_g l D H_16 a ([.ref ra, .ref sa, .int (kI ((sn2_20 : Nat) : Int)), .ref ka, .int (kI (kb (ik))), .ref ta, .int (kI ((tn : Nat) : Int)), .int (kI (0)), .int (kI (sp)), .int (kI (kb (iw))), .int (kI (le)), .int (kI (fi)), .int (kI (se))]) ra g S gap x y ho_21 rfl h_23 (by first | assumption | omega) (by first | assumption | omega) (by first | assumption | omega) (by first | assumption | omega)) (cwV 3 hts (lw_V q2387 q2389 qs57 q89 q2390) rfl rfl rfl (by decide +kernel) ⟨Nat.le_of_ble_eq_true rfl, Nat.le_of_ble_eq_true rfl⟩) (kx_pv hK hS_14 hB (kx_rc hK ho_21 (C := RX3) (T := TX3) (N := 13) rfl)) rfl rfl hl.1 rfl (lv_room (Nat.le_of_ble_eq_true rfl)) dX3_acts_28 ⟨by first | exact Nat.le_of_ble_eq_true rfl | omega | (show _ ≤ _; omega) | (dsimp only [headSpec]; omega), by first | exact Nat.le_of_ble_eq_true rfl | omega | (show _ ≤ _; omega) | (dsimp only [headSpec]; omega)⟩) hS_14 (fun q _ h => by (try dsimp only at h); (try dsimp only); (try simp only [kNW] at h); (try simp only [kNW]); omega) (fun q h => by (try dsimp only at h); (try dsimp only); (try simp only [kNW] at h); (try simp only [kNW]); omega) (fun z_29 H_27 locs_24 hz_26 hF_28 hS_25 => ?_)
    refine W.widen (k := 0) (n := 0) (Nat.le_of_ble_eq_true rfl) (Nat.le_of_ble_eq_true rfl) ?_
    obtain ⟨g2_30, hv_31, ho_32, hM9⟩ := hz_26
    subst z_29
    have h_33 := ho_21.fr hF_28 (fun h => by (try dsimp only at h); (try simp only [kNW] at h); omega)
    have h_34 := ho_22.fr hF_28 (fun h => by (try dsimp only at h); (try simp only [kNW] at h); omega)
    exact kx_iret (z := gap) hx hb hr hlk (⟨g2_30, gs2_19, sn2_20, by rfl, h_33, ho_32, h_34, by exact hM9, by exact hH.push hok hM hs1 hs2 hs3⟩) hS_25 dX3_acts_31
  · -- not taken at 15
    exfalso; omega

set_option maxHeartbeats 4000000 in
set_option maxRecDepth 100000 in
theorem m_acts_a (l : Launch) (D : kG) (H : Heap) (a : Nat) (ra : Nat) (sa : Nat) (ka : Nat) (ta : Nat) (sn : Nat) (ik : Bool) (tn : Nat) (th : Int) (sp : Int) (iw : Bool) (le : Int) (fi : Int) (se : Int) (g : Nat → Int) (gs : Nat → Int) (S : Ls) (gap : Int) (hist : List Sg) (x : Int) (y : Int) (hO_a : kO D H a 2 [.ref ra, .ref sa, .int (kI ((sn : Nat) : Int)), .ref ka, .int (kI (kb (ik))), .ref ta, .int (kI ((tn : Nat) : Int)), .int (kI (th)), .int (kI (sp)), .int (kI (kb (iw))), .int (kI (le)), .int (kI (fi)), .int (kI (se))]) (hA_ra : kAi D H ra 514 g) (hA_sa : kAi D H sa 2570 gs) (hM : MRow g S gap) (hok : LsOK S gap) (hH : MHist gs hist sn) (ne_a_ra : a ≠ ra) (ne_a_sa : a ≠ sa) (ne_ra_sa : ra ≠ sa) (bs_a : kBase D ≤ a) (bs_ra : kBase D ≤ ra) (bs_sa : kBase D ≤ sa) (hr_x : -2147483648 ≤ x ∧ x ≤ 2147483647) (hr_y : -2147483648 ≤ y ∧ y ≤ 2147483647) : Met l yX3_acts (ws_ yX3_acts cX3_acts 4 (some .int)) ({ frames := 11, cells := 0, slots := 0, locals := 254 } : Room) (kPre D H [.ref a, .int (kI (97)), .int (kI (x)), .int (kI (y))]) (kQi (fun (r : Int) H' => ∃ (g2 : Nat → Int) (gs2 : Nat → Int) (sn2 : Nat), (r = st_lab (st_la S gap)) ∧ (kO D H' a 2 [.ref ra, .ref sa, .int (kI ((sn2 : Nat) : Int)), .ref ka, .int (kI (kb (ik))), .ref ta, .int (kI ((tn : Nat) : Int)), .int (kI (0)), .int (kI (sp)), .int (kI (kb (iw))), .int (kI (le)), .int (kI (fi)), .int (kI (se))]) ∧ (kAi D H' ra 514 g2) ∧ (kAi D H' sa 2570 gs2) ∧ (MRow g2 (st_la S gap) (gap)) ∧ (MHist gs2 (pushH hist (S, gap)) sn2)) (fun q : Nat => q = a ∨ q = ra ∨ q = sa)) (0) (0) ((fun q : Nat => q = a ∨ q = ra ∨ q = sa)) := by
  refine Met.ofW (cc := cX3_acts) (maxL := 4) (ret := (some .int)) (by decide) rfl ?_
  intro p e s m args below meth c s₁ B hml hv
  obtain ⟨rfl, hH, hK⟩ := hv
  subst hH
  have hx := B.exec
  have hb := B.bytes
  have hr := B.returns
  have hts := atoms_spec (ws := ws_ yX3_acts cX3_acts 4 (some .int)) B.pre
  have hts : ∀ w ∈ lw_all, w.before _ s = true := fun w h => hts w (List.mem_cons_of_mem _ h)
  have hown : s.vm.findClass RX3 = some m.cls := findClass_of_methodNamed B.named
  have hlk := B.notSynchronized
  have hS : va_S (fun q : Nat => q = a ∨ q = ra ∨ q = sa) s.heap s.heap [] := va_S.rf
  have hB : ∀ q, (fun q : Nat => q = a ∨ q = ra ∨ q = sa) q → kBase D ≤ q := fun q h => by (try dsimp only at h); (try simp only [kNW] at h); have hks := hK.size; omega
  have hl := lv_entry ([.ref a, .int (kI (97)), .int (kI (x)), .int (kI (y))]) (n := 4) (Nat.le_of_ble_eq_true rfl)
  rw [lg_entry_eq]
  generalize (lg_sl ([.ref a, .int (kI (97)), .int (kI (x)), .int (kI (y))]) ++ List.replicate (4 - (lg_sl ([.ref a, .int (kI (97)), .int (kI (x)), .int (kI (y))])).length) Slot.unset).toArray = ls at hl ⊢
  have hl : lv_has ls 4 [(0, .ref a), (1, .int (kI (97))), (2, .int (kI (x))), (3, .int (kI (y)))] := hl
  have hL8 := hok.1
  have hsn5 := hH.2.1
  refine lv_aload_n hx hb dX3_acts_0 rfl (lv_at hl 0 rfl) ?_
  refine lv_aload_n hx hb dX3_acts_1 rfl (lv_at hl 0 rfl) ?_
  refine lv_iload_n hx hb dX3_acts_2 rfl (lv_at hl 1 rfl) ?_
  refine lv_iload_n hx hb dX3_acts_3 rfl (lv_at hl 2 rfl) ?_
  refine lv_iload_n hx hb dX3_acts_4 rfl (lv_at hl 3 rfl) ?_
  refine kx_ci0 (va_runV (As := [.int (kI (97)), .int (kI (x)), .int (kI (y))]) (rest := [.ref a]) ⟨hx, hb, hml, hown, hts⟩ (m_ref_a l D s.heap a ([.ref ra, .ref sa, .int (kI ((sn : Nat) : Int)), .ref ka, .int (kI (kb (ik))), .ref ta, .int (kI ((tn : Nat) : Int)), .int (kI (th)), .int (kI (sp)), .int (kI (kb (iw))), .int (kI (le)), .int (kI (fi)), .int (kI (se))]) ra g S gap x y hO_a rfl hA_ra (by first | assumption | omega) (by first | assumption | omega) (by first | assumption | omega) (by first | assumption | omega)) (cwV 3 hts (lw_V q2290 q2292 qs38 q89 q2293) rfl rfl rfl (by decide +kernel) ⟨Nat.le_of_ble_eq_true rfl, Nat.le_of_ble_eq_true rfl⟩) (kx_pv hK hS hB (kx_rc hK hO_a (C := RX3) (T := TX3) (N := 13) rfl)) rfl rfl hl.1 rfl (lv_room (Nat.le_of_ble_eq_true rfl)) dX3_acts_5 ⟨by first | exact Nat.le_of_ble_eq_true rfl | omega | (show _ ≤ _; omega) | (dsimp only [headSpec]; omega), by first | exact Nat.le_of_ble_eq_true rfl | omega | (show _ ≤ _; omega) | (dsimp only [headSpec]; omega)⟩) hS (fun z_4 locs_1 hz_3 hS_2 => ?_)
  subst z_4
  refine kx_eqi (0) (rfl) ?_
  refine kx_put (v := .int (kI (0))) (C := RX3) (T := TX3) (N := 13) hx hb hts in_X3 hown hK hO_a rfl 7 (by decide) tyX3 tyX3_ok nmX3 hS_2 (by first | rfl | exact Or.inl rfl | exact Or.inr rfl | exact Or.inr (Or.inl rfl) | exact Or.inr (Or.inr rfl) | exact Or.inr (Or.inr (Or.inl rfl)) | exact Or.inr (Or.inr (Or.inr rfl)) | ((try dsimp only); (try simp only [kNW]); omega)) q2245 (fun _ h9 => h9) rfl rfl rfl rfl (Nat.le_of_ble_eq_true rfl) dX3_acts_8 (fun H_7 locs_8 hO_6 hU_5 hS_9 => ?_)
  have hO_6 : kO D H_7 a 2 [.ref ra, .ref sa, .int (kI ((sn : Nat) : Int)), .ref ka, .int (kI (kb (ik))), .ref ta, .int (kI ((tn : Nat) : Int)), .int (kI (0)), .int (kI (sp)), .int (kI (kb (iw))), .int (kI (le)), .int (kI (fi)), .int (kI (se))] := hO_6
  refine lv_aload_n hx hb dX3_acts_11 rfl (lv_at hl 0 rfl) ?_
  refine kx_get (v := .int (kI (0))) (C := RX3) (T := TX3) (N := 13) hx hb hts in_X3 hown hK hO_6 rfl 7 (by decide) q2245 (fun _ h9 => h9) rfl dX3_acts_12 ?_
  refine kx_if_le (x := 0) (tgt := 20) hx hb dX3_acts_15 (by decide) (by omega) (by omega) (fun c_15_10 => ?_) (fun c_15_10 => ?_)
  · -- taken at 15
    refine lv_aload_n hx hb dX3_acts_20 rfl (lv_at hl 0 rfl) ?_
    have h_11 := hA_ra.up hU_5 (by first | assumption | exact Ne.symm (by assumption) | omega)
    have h_12 := hA_sa.up hU_5 (by first | assumption | exact Ne.symm (by assumption) | omega)
    refine kx_cv (va_runV (As := []) (rest := []) ⟨hx, hb, hml, hown, hts⟩ (m_X3_records l D H_7 a ra sa ka ta sn ik tn 0 sp iw le fi se g gs hO_6 h_11 h_12 (by first | assumption | omega) (by first | assumption | omega) (by first | assumption | omega) (by first | assumption | omega) (by first | assumption | omega) (by first | assumption | omega)) (cwV 0 hts (lw_V q2383 q2385 qs56 q89 q2386) rfl rfl rfl (by decide +kernel) ⟨Nat.le_of_ble_eq_true rfl, Nat.le_of_ble_eq_true rfl⟩) (kx_pv hK hS_9 hB (kx_rc hK hO_6 (C := RX3) (T := TX3) (N := 13) rfl)) rfl rfl hl.1 rfl (lv_room (Nat.le_of_ble_eq_true rfl)) dX3_acts_21 ⟨by first | exact Nat.le_of_ble_eq_true rfl | omega | (show _ ≤ _; omega) | (dsimp only [headSpec]; omega), by first | exact Nat.le_of_ble_eq_true rfl | omega | (show _ ≤ _; omega) | (dsimp only [headSpec]; omega)⟩) hS_9 (fun q _ h => by (try dsimp only at h); (try dsimp only); (try simp only [kNW] at h); (try simp only [kNW]); omega) (fun q h => by (try dsimp only at h); (try dsimp only); (try simp only [kNW] at h); (try simp only [kNW]); omega) (fun H_16 locs_13 hz_15 hF_17 hS_14 => ?_)
    refine W.widen (k := 0) (n := 0) (Nat.le_of_ble_eq_true rfl) (Nat.le_of_ble_eq_true rfl) ?_
    obtain ⟨gs2_19, sn2_20, ho_21, ho_22, hs1, hs2, hs3⟩ := hz_15
    refine lv_aload_n hx hb dX3_acts_24 rfl (lv_at hl 0 rfl) ?_
    refine lv_iload_n hx hb dX3_acts_25 rfl (lv_at hl 1 rfl) ?_
    refine lv_iload_n hx hb dX3_acts_26 rfl (lv_at hl 2 rfl) ?_
    refine lv_iload_n hx hb dX3_acts_27 rfl (lv_at hl 3 rfl) ?_
    have h_23 := h_11.fr hF_17 (fun h => by (try dsimp only at h); (try simp only [kNW] at h); omega)
    refine kx_ci (va_runV (As := [.int (kI (97)), .int (kI (x)), .int (kI (y))]) (rest := []) ⟨hx, hb, hml, hown, hts⟩ (m_do_a l D H_16 a ([.ref ra, .ref sa, .int (kI ((sn2_20 : Nat) : Int)), .ref ka, .int (kI (kb (ik))), .ref ta, .int (kI ((tn : Nat) : Int)), .int (kI (0)), .int (kI (sp)), .int (kI (kb (iw))), .int (kI (le)), .int (kI (fi)), .int (kI (se))]) ra g S gap x y ho_21 rfl h_23 (by first | assumption | omega) (by first | assumption | omega) (by first | assumption | omega) (by first | assumption | omega)) (cwV 3 hts (lw_V q2387 q2389 qs57 q89 q2390) rfl rfl rfl (by decide +kernel) ⟨Nat.le_of_ble_eq_true rfl, Nat.le_of_ble_eq_true rfl⟩) (kx_pv hK hS_14 hB (kx_rc hK ho_21 (C := RX3) (T := TX3) (N := 13) rfl)) rfl rfl hl.1 rfl (lv_room (Nat.le_of_ble_eq_true rfl)) dX3_acts_28 ⟨by first | exact Nat.le_of_ble_eq_true rfl | omega | (show _ ≤ _; omega) | (dsimp only [headSpec]; omega), by first | exact Nat.le_of_ble_eq_true rfl | omega | (show _ ≤ _; omega) | (dsimp only [headSpec]; omega)⟩) hS_14 (fun q _ h => by (try dsimp only at h); (try dsimp only); (try simp only [kNW] at h); (try simp only [kNW]); omega) (fun q h => by (try dsimp only at h); (try dsimp only); (try simp only [kNW] at h); (try simp only [kNW]); omega) (fun z_29 H_27 locs_24 hz_26 hF_28 hS_25 => ?_)
    refine W.widen (k := 0) (n := 0) (Nat.le_of_ble_eq_true rfl) (Nat.le_of_ble_eq_true rfl) ?_
    obtain ⟨g2_30, hv_31, ho_32, hM9⟩ := hz_26
    subst z_29
    have h_33 := ho_21.fr hF_28 (fun h => by (try dsimp only at h); (try simp only [kNW] at h); omega)
    have h_34 := ho_22.fr hF_28 (fun h => by (try dsimp only at h); (try simp only [kNW] at h); omega)
    exact kx_iret (z := st_lab (st_la S gap)) hx hb hr hlk (⟨g2_30, gs2_19, sn2_20, by rfl, h_33, ho_32, h_34, by exact hM9, by exact hH.push hok hM hs1 hs2 hs3⟩) hS_25 dX3_acts_31
  · -- not taken at 15
    exfalso; omega

