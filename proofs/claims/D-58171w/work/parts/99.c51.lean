set_option maxHeartbeats 8000000 in
set_option maxRecDepth 100000 in
theorem lc_levelOf {p : Program} {e : Env} {s : State} {m : MethodId} {below : List Frame} {meth : Method} {c : Code} {l : Launch} {D : kG} {b L c0 c1 x1 mm out outD : Nat} {xs : Nat → Int32} {Q : State → Prop} (C0 : lwC D p l s m meth c b L c0 c1 out outD xs) {j : Nat} (hj : 3 * j + 3 ≤ L) {S : Ls} {gap : Int} {sn : Option Sg} {hs : List Sg} {t : List Int} {H : Heap} {locs : List Loc} {ls : Array Slot} (I0 : lwI D s b c0 c1 x1 mm out outD j j (S, gap) sn hs t H locs ls) {cells slots : Nat} (hcl : cells + 50000 ≤ 1200144) (hsl9 : slots + 228000 ≤ 5496058) (kk : ∀ (σ : Sg) (sn : Option Sg) (hs : List Sg) (t : List Int) (H : Heap) (locs : List Loc) (ls : Array Slot), lwI D s b c0 c1 x1 mm out outD j (j + 1) σ sn hs t H locs ls → W p l e lwR s m #[Value.ref b] below meth c H locs (cells + 50000) (slots + 228000) Q (F0 m 2493 ls [])) : W p l e lwR s m #[Value.ref b] below meth c H locs cells slots Q (F0 m 765 ls []) := by
  obtain ⟨hx, hb, hml, hown, hts, hlk, hK, hl9, hX, hbl, hbs, hL72, hc0, hco, hod, hdc⟩ := C0
  obtain ⟨hS, hl, hW, hM, ⟨go, hA_out⟩, ⟨gd, hA_outD⟩, hc1, htl⟩ := I0
  have hB : ∀ q, (kNW s.heap) q → kBase D ≤ q := fun q h => Nat.le_trans hK.size h
  have hbA : ¬ (kNW s.heap) b := fun h => by have h9 : s.heap.size ≤ b := h; omega
  have hd9 := hK.dis
  have hxE : ¬ kBase D ≤ D.2.2.2 2 := hK.tE.out
  obtain ⟨z1, hz1⟩ : ∃ z, z = (xs (3 * j + 1)).toInt := ⟨_, rfl⟩
  obtain ⟨z2, hz2⟩ : ∃ z, z = (xs (3 * j + 2)).toInt := ⟨_, rfl⟩
  have hr1 : -2147483648 ≤ z1 ∧ z1 ≤ 2147483647 := by rw [hz1]; exact i32r _
  have hr2 : -2147483648 ≤ z2 ∧ z2 ≤ 2147483647 := by rw [hz2]; exact i32r _
  obtain ⟨⟨st, la, ea, F⟩, sl, hl2, hi, es, bu, vb, hO_x1, hDq, hTx, hX5, hev, hAl, hDj, hPw, hsl, hsn, hhs⟩ := id hW
  subst hsn
  subst hhs
  obtain ⟨ra, sa, ka, ta, nh, ik, th, sp9, iw, le9, fi9, se9, g, gs, gk, gt, hO_mm, hA_ra, hA_sa, hA_ka, hA_ta, hMr, hMh, hMk, hMt, ht60, hMd, hMb, hMi⟩ := id hM
  have hMr : MRow g S gap := hMr
  have h0 := hAl _ List.mem_cons_self
  have hP_kState_st : kState D H st la ea gap S F := h0.1
  have hok : LsOK S gap := h0.2.1
  have hG : StG S := h0.2.2.1
  have hL8 : S.length ≤ 8 := hok.1
  have hgp := hok.2.1
  have hO_x1 : kO D H x1 0 [.ref st, va_rf ((sl.map (fun a => a.1.1)).head?), .ref hi, .ref bu] := hO_x1
  have hOw : ∀ q, kOwn D st la ea F S.length q → q ∉ [x1, hi, es, bu, vb] ∧ (q < c0 ∨ c1 ≤ q) := h0.2.2.2
  have hev : Hd (es ≠ vb) := hev
  have io_x1 : ∀ x, c0 ≤ x → x < c1 → x ≠ x1 := fun x => out_of (hX5 x1 (by simp)).2
  have io_hi : ∀ x, c0 ≤ x → x < c1 → x ≠ hi := fun x => out_of (hX5 hi (by simp)).2
  have io_es : ∀ x, c0 ≤ x → x < c1 → x ≠ es := fun x => out_of (hX5 es (by simp)).2
  have io_bu : ∀ x, c0 ≤ x → x < c1 → x ≠ bu := fun x => out_of (hX5 bu (by simp)).2
  have io_vb : ∀ x, c0 ≤ x → x < c1 → x ≠ vb := fun x => out_of (hX5 vb (by simp)).2
  have b_x1 := (hX5 x1 (by simp)).1
  have b_hi := (hX5 hi (by simp)).1
  have b_es := (hX5 es (by simp)).1
  have b_bu := (hX5 bu (by simp)).1
  have b_vb := (hX5 vb (by simp)).1
  obtain ⟨⟨⟨n1, n2, n3, n4⟩, n5, n6, n7⟩, n8, n9, n10⟩ := hMd
  have n_mm_ra : Hd (mm ≠ ra) := n1
  have n_mm_sa : Hd (mm ≠ sa) := n2
  have n_mm_ka : Hd (mm ≠ ka) := n3
  have n_mm_ta : Hd (mm ≠ ta) := n4
  have n_ra_sa : Hd (ra ≠ sa) := n5
  have n_ra_ka : Hd (ra ≠ ka) := n6
  have n_ra_ta : Hd (ra ≠ ta) := n7
  have n_sa_ka : Hd (sa ≠ ka) := n8
  have n_sa_ta : Hd (sa ≠ ta) := n9
  have n_ka_ta : Hd (ka ≠ ta) := n10
  have hMd : Hd (((mm ≠ ra ∧ mm ≠ sa ∧ mm ≠ ka ∧ mm ≠ ta) ∧ ra ≠ sa ∧ ra ≠ ka ∧ ra ≠ ta) ∧ sa ≠ ka ∧ sa ≠ ta ∧ ka ≠ ta) := ⟨⟨⟨n1, n2, n3, n4⟩, n5, n6, n7⟩, n8, n9, n10⟩
  clear n1 n2 n3 n4 n5 n6 n7 n8 n9 n10
  obtain ⟨b_mm, b_ra, b_sa, b_ka, b_ta⟩ := id hMb
  obtain ⟨i_mm, i_ra, i_sa, i_ka, i_ta⟩ := id hMi
  have b_out : kBase D ≤ out := by omega
  have hcc : c0 ≤ c1 := by omega
  have w_mm : mm < c1 := by omega
  have n_mm_out : Hd (mm ≠ out) := Nat.ne_of_lt i_mm.2
  have n_mm_outD : Hd (mm ≠ outD) := Nat.ne_of_lt (Nat.lt_trans i_mm.2 hod)
  have w_ra : ra < c1 := by omega
  have n_ra_out : Hd (ra ≠ out) := Nat.ne_of_lt i_ra.2
  have n_ra_outD : Hd (ra ≠ outD) := Nat.ne_of_lt (Nat.lt_trans i_ra.2 hod)
  have w_sa : sa < c1 := by omega
  have n_sa_out : Hd (sa ≠ out) := Nat.ne_of_lt i_sa.2
  have n_sa_outD : Hd (sa ≠ outD) := Nat.ne_of_lt (Nat.lt_trans i_sa.2 hod)
  have w_ka : ka < c1 := by omega
  have n_ka_out : Hd (ka ≠ out) := Nat.ne_of_lt i_ka.2
  have n_ka_outD : Hd (ka ≠ outD) := Nat.ne_of_lt (Nat.lt_trans i_ka.2 hod)
  have w_ta : ta < c1 := by omega
  have n_ta_out : Hd (ta ≠ out) := Nat.ne_of_lt i_ta.2
  have n_ta_outD : Hd (ta ≠ outD) := Nat.ne_of_lt (Nat.lt_trans i_ta.2 hod)
  have ge_mm : ∀ q, q = mm → kNW s.heap q := fun q h => by rw [h]; show s.heap.size ≤ mm; omega
  have ge_ra : ∀ q, q = ra → kNW s.heap q := fun q h => by rw [h]; show s.heap.size ≤ ra; omega
  have ge_sa : ∀ q, q = sa → kNW s.heap q := fun q h => by rw [h]; show s.heap.size ≤ sa; omega
  have ge_ka : ∀ q, q = ka → kNW s.heap q := fun q h => by rw [h]; show s.heap.size ≤ ka; omega
  have ge_ta : ∀ q, q = ta → kNW s.heap q := fun q h => by rw [h]; show s.heap.size ≤ ta; omega
  have ge_out : ∀ q, q = out → kNW s.heap q := fun q h => by rw [h]; show s.heap.size ≤ out; omega
  have n_out_outD : Hd (out ≠ outD) := Nat.ne_of_lt hod
  have w_out : out < c1 := by omega
  have w_outD : outD < c1 := hdc
  have i_outD : c0 ≤ outD := by omega
  have htyo : kTy D H out := Or.inr ⟨2, _, by decide, hA_out⟩
  have htyd : kTy D H outD := Or.inr ⟨3, _, by decide, hA_outD⟩
  have to_out : ∀ x, x = out → H.size ≤ x ∨ (kTy D H x ∧ c0 ≤ x ∧ x < c1) := fun x h => by rw [h]; exact Or.inr ⟨htyo, hco, w_out⟩
  have to_outD : ∀ x, x = outD → H.size ≤ x ∨ (kTy D H x ∧ c0 ≤ x ∧ x < c1) := fun x h => by rw [h]; exact Or.inr ⟨htyd, i_outD, w_outD⟩
  obtain ⟨⟨hO_st, mc9, hO_la⟩, hLs9, hLn9, hF9, hDs9, hb1, hb2, hb3⟩ := id hP_kState_st
  by_cases hA : 0 ≤ z1 ∧ z1 < (S.length : Int)
  · -- hA
    obtain ⟨ln9, hv1⟩ : ∃ k : Nat, z1 = (k : Int) := ⟨z1.toNat, by omega⟩
    have hln : ln9 < S.length := by omega
    have hLn := hok.ln hln
    have hr9 := hLn.lv
    have hn9 := hLn.n
    have hrv : -2147483648 ≤ ln_lv (st_ln S ln9) ∧ ln_lv (st_ln S ln9) ≤ 2147483647 := ⟨by omega, by omega⟩
    refine lv_aload_n hx hb dL_law_765 rfl (lv_at hl 1 rfl) ?_
    refine lv_aload_n hx hb dL_law_766 rfl (lv_at hl 0 rfl) ?_
    refine lv_iload hx hb dL_law_767 (lv_at hl 5 rfl) ?_
    refine kx_iconst hx hb dL_law_769 ?_
    refine kx_iadd hx hb dL_law_770 ?_
    refine kx_sld (i := (((3 * j : Nat) : Int) + 1)) hx hb hX hbl hbA hS (3 * j + 1) (by omega) (by omega) (by omega) dL_law_771 ?_
    refine kx_eqi (((ln9 : Nat) : Int)) (hz1.symm.trans hv1) ?_
    refine lv_aload_n hx hb dL_law_772 rfl (lv_at hl 3 rfl) ?_
    refine kx_ci (vx_runSW (As := [.ref x1, .int (kI ((ln9 : Nat) : Int)), .ref out]) (rest := []) ⟨hx, hb, hml, hown, hts⟩ (wr_levelOf l hl9 D H x1 ((sl.map (fun a => a.1.1)).head?) hi bu st la mc9 ea F S gap ln9 out go hO_x1 hO_st hO_la hLs9 hLn9 hA_out (by first | assumption | omega) (by first | assumption | omega) (by first | assumption | omega) (by first | assumption | omega)) (vx_cwSW 3 hts (lw_SW q1931 q1932 q78 q1933) rfl rfl rfl (by decide +kernel) ⟨Nat.le_of_ble_eq_true rfl, Nat.le_of_ble_eq_true rfl⟩) (kx_ps hK hS hB) rfl rfl hl.1 rfl (lv_room (Nat.le_of_ble_eq_true rfl)) dL_law_773 ⟨by first | exact Nat.le_of_ble_eq_true rfl | omega | (dsimp only [lwR]; omega) | (show _ ≤ _; omega), by first | exact Nat.le_of_ble_eq_true rfl | omega | (dsimp only [lwR]; omega) | (show _ ≤ _; omega)⟩) hS (fun q _ h => (ge_out q) h) (fun q h => (ge_out q) h) (fun z_6 H_4 locs_1 hz_3 hF_5 hS_2 => ?_)
    have hzf_7 := hF_5.1
    obtain ⟨hv_8, ho_9⟩ := hz_3
    subst z_6
    refine lv_istore (lv' := [(6, .int (kI (0))), (0, .ref b), (1, .ref x1), (2, .ref mm), (3, .ref out), (4, .ref outD), (5, .int (kI ((3 * j : Nat) : Int)))]) hx hb dL_law_776 hl (by decide) rfl (fun ls hl => ?_)
    refine lv_aload_n hx hb dL_law_778 rfl (lv_at hl 3 rfl) ?_
    refine lv_aload_n hx hb dL_law_779 rfl (lv_at hl 1 rfl) ?_
    refine lv_iload hx hb dL_law_780 (lv_at hl 6 rfl) ?_
    refine kx_iconst hx hb dL_law_782 ?_
    refine kx_iadd hx hb dL_law_783 ?_
    refine kx_sld (i := (((3 * j : Nat) : Int) + 1)) hx hb hX hbl hbA hS_2 (3 * j + 1) (by omega) (by omega) (by omega) dL_law_784 ?_
    refine kx_eqi (((ln9 : Nat) : Int)) (hz1.symm.trans hv1) ?_
    have h_10 := hO_mm.fr hF_5 (n_mm_out)
    have h_11 := hA_ra.fr hF_5 (n_ra_out)
    have h_12 := hA_sa.fr hF_5 (n_sa_out)
    have h_13 := hA_ka.fr hF_5 (n_ka_out)
    have h_14 := hA_ta.fr hF_5 (n_ta_out)
    have ty_mm : ∀ x, x = mm → H_4.size ≤ x ∨ (kTy D H_4 x ∧ c0 ≤ x ∧ x < c1) := fun x h => by rw [h]; exact Or.inr ⟨Or.inl ⟨2, _, by decide, by decide, by decide, h_10⟩, i_mm.1, w_mm⟩
    refine kx_ci (va_runV (As := [.int (kI ((ln9 : Nat) : Int))]) (rest := []) ⟨hx, hb, hml, hown, hts⟩ (m_X3_levelOf l D H_4 mm ra sa ka ta nh ik t.length th sp9 iw le9 fi9 se9 g S gap ln9 h_10 h_11 (by first | assumption | omega) (by first | assumption | omega) n_mm_ra b_mm (by first | assumption | omega)) (cwV 1 hts (lw_V q2447 q2448 q2449 q89 q2450) rfl rfl rfl (by decide +kernel) ⟨Nat.le_of_ble_eq_true rfl, Nat.le_of_ble_eq_true rfl⟩) (kx_pv hK hS_2 hB (kx_rc hK h_10 (C := RX3) (T := TX3) (N := 13) rfl)) rfl rfl hl.1 rfl (lv_room (Nat.le_of_ble_eq_true rfl)) dL_law_785 ⟨by first | exact Nat.le_of_ble_eq_true rfl | omega | (dsimp only [lwR]; omega) | (show _ ≤ _; omega), by first | exact Nat.le_of_ble_eq_true rfl | omega | (dsimp only [lwR]; omega) | (show _ ≤ _; omega)⟩) hS_2 (fun q _ h => (ge_mm q) h) (fun q h => (ge_mm q) h) (fun z_20 H_18 locs_15 hz_17 hF_19 hS_16 => ?_)
    have hzf_21 := hF_19.1
    obtain ⟨hv_22, ho_23⟩ := hz_17
    subst z_20
    refine lv_istore (lv' := [(7, .int (kI (ln_lv (st_ln S ln9)))), (6, .int (kI (0))), (0, .ref b), (1, .ref x1), (2, .ref mm), (3, .ref out), (4, .ref outD), (5, .int (kI ((3 * j : Nat) : Int)))]) hx hb dL_law_788 hl (by decide) rfl (fun ls hl => ?_)
    refine lv_aload_n hx hb dL_law_790 rfl (lv_at hl 4 rfl) ?_
    refine kx_ci0 (va_runV (As := []) (rest := []) ⟨hx, hb, hml, hown, hts⟩ (m_X3_thrown l D H_18 mm ra sa ka ta nh ik t.length 0 sp9 iw le9 fi9 se9 ho_23 ) (cwV 0 hts (lw_V q2278 q2279 q2280 q89 q2281) rfl rfl rfl (by decide +kernel) ⟨Nat.le_of_ble_eq_true rfl, Nat.le_of_ble_eq_true rfl⟩) (kx_pv hK hS_16 hB (kx_rc hK ho_23 (C := RX3) (T := TX3) (N := 13) rfl)) rfl rfl hl.1 rfl (lv_room (Nat.le_of_ble_eq_true rfl)) dL_law_791 ⟨by first | exact Nat.le_of_ble_eq_true rfl | omega | (dsimp only [lwR]; omega) | (show _ ≤ _; omega), by first | exact Nat.le_of_ble_eq_true rfl | omega | (dsimp only [lwR]; omega) | (show _ ≤ _; omega)⟩) hS_16 (fun z_27 locs_24 hz_26 hS_25 => ?_)
    subst z_27
    refine lv_iload hx hb dL_law_794 (lv_at hl 1 rfl) ?_
    refine kx_icmp_eq (x := 0) (y := 0) (tgt := 801) hx hb dL_law_796 (by decide) (by omega) (by omega) (by omega) (by omega) (fun c_796_28 => ?_) (fun c_796_28 => ?_)
    · -- taken at 796
      refine lv_iload hx hb dL_law_801 (lv_at hl 1 rfl) ?_
      refine kx_if_ne (x := 0) (tgt := 818) hx hb dL_law_803 (by decide) (by omega) (by omega) (fun c_803_29 => ?_) (fun c_803_29 => ?_)
      · -- taken at 803
        exfalso; omega
      · -- not taken at 803
        refine lv_aload_n hx hb dL_law_806 rfl (lv_at hl 5 rfl) ?_
        refine kx_iconst hx hb dL_law_807 ?_
        have h_30 := ho_9.fr hF_19 (n_mm_out.sm)
        refine kx_lald (i := 0) hx hb hK h_30 0 rfl (by decide) (by decide) dL_law_808 ?_
        refine lv_iload hx hb dL_law_809 (lv_at hl 0 rfl) ?_
        refine kx_i2l hx hb (z := ln_lv (st_ln S ln9)) (by omega) (by omega) dL_law_811 ?_
        refine kx_lcmpE hx hb (x := ((kup go 0 (kL (ln_lv (st_ln S ln9))))) 0) (y := kL (ln_lv (st_ln S ln9))) (kup_self _ _ _) dL_law_812 ?_
        refine kx_if_eq (x := 0) (tgt := 818) hx hb dL_law_813 (by decide) (by omega) (by omega) (fun c_813_31 => ?_) (fun c_813_31 => ?_)
        · -- taken at 813
          refine lv_goto (tgt := 2493) hx hb dL_law_818 (by decide) ?_
          have h_32 := h_11.fr hF_19 (n_mm_ra.sm)
          have h_33 := h_12.fr hF_19 (n_mm_sa.sm)
          have h_34 := h_13.fr hF_19 (n_mm_ka.sm)
          have h_35 := h_14.fr hF_19 (n_mm_ta.sm)
          have h_36 := hA_outD.fr hF_5 (n_out_outD.sm)
          have h_37 := h_36.fr hF_19 (n_mm_outD.sm)
          have h_38 := hW.fr hd9 hF_5 (fun x => (to_out x))
          have h_39 := h_38.fr hd9 hF_19 (fun x => (ty_mm x))
          refine W.widen (k := cells + 50000) (n := slots + 228000) (by omega) (by omega) ?_
          have hM9 : kM D H_18 c0 out mm (S, gap) ((sl.map Prod.snd).head?) (hl2.map Prod.snd) t := ⟨ra, sa, ka, ta, _, _, _, _, _, _, _, _, _, _, _, _, ho_23, h_32, h_33, h_34, h_35, hMr, hMh, hMk, hMt, ht60, hMd, hMb, hMi⟩
          exact kk (S, gap) ((sl.map Prod.snd).head?) (hl2.map Prod.snd) t _ _ _ ⟨hS_25, lv_sub hl [2, 3, 4, 5, 6, 7] rfl, h_39, hM9, ⟨_, h_30⟩, ⟨_, h_37⟩, by omega, by omega⟩
        · -- not taken at 813
          exfalso; omega
    · -- not taken at 796
      exfalso; omega
  · -- hA
    refine lv_aload_n hx hb dL_law_765 rfl (lv_at hl 1 rfl) ?_
    refine lv_aload_n hx hb dL_law_766 rfl (lv_at hl 0 rfl) ?_
    refine lv_iload hx hb dL_law_767 (lv_at hl 5 rfl) ?_
    refine kx_iconst hx hb dL_law_769 ?_
    refine kx_iadd hx hb dL_law_770 ?_
    refine kx_sld (i := (((3 * j : Nat) : Int) + 1)) hx hb hX hbl hbA hS (3 * j + 1) (by omega) (by omega) (by omega) dL_law_771 ?_
    refine kx_eqi (z1) (hz1.symm) ?_
    refine lv_aload_n hx hb dL_law_772 rfl (lv_at hl 3 rfl) ?_
    refine kx_ci (vx_runSW (As := [.ref x1, .int (kI (z1)), .ref out]) (rest := []) ⟨hx, hb, hml, hown, hts⟩ (wx_levelOf l hl9 D H x1 ((sl.map (fun a => a.1.1)).head?) hi bu st la mc9 ea F S gap z1 out hO_x1 hO_st hO_la hLs9 hLn9 (by first | assumption | omega) (by first | assumption | omega) (by first | assumption | omega)) (vx_cwSW 3 hts (lw_SW q1931 q1932 q78 q1933) rfl rfl rfl (by decide +kernel) ⟨Nat.le_of_ble_eq_true rfl, Nat.le_of_ble_eq_true rfl⟩) (kx_ps hK hS hB) rfl rfl hl.1 rfl (lv_room (Nat.le_of_ble_eq_true rfl)) dL_law_773 ⟨by first | exact Nat.le_of_ble_eq_true rfl | omega | (dsimp only [lwR]; omega) | (show _ ≤ _; omega), by first | exact Nat.le_of_ble_eq_true rfl | omega | (dsimp only [lwR]; omega) | (show _ ≤ _; omega)⟩) hS (fun q _ h => by have h9 := hS.1; (try dsimp only at h); (try dsimp only); (try simp only [kNW] at h); (try simp only [kNW]); omega) (fun q h => by have h9 := hS.1; (try dsimp only at h); (try dsimp only); (try simp only [kNW] at h); (try simp only [kNW]); omega) (fun z_45 H_43 locs_40 hz_42 hF_44 hS_41 => ?_)
    have hzf_46 := hF_44.1
    have hF_44 := hF_44.nw
    obtain ⟨hv_47, hnw_48⟩ := hz_42
    subst z_45
    refine lv_istore (lv' := [(6, .int (kI (1))), (0, .ref b), (1, .ref x1), (2, .ref mm), (3, .ref out), (4, .ref outD), (5, .int (kI ((3 * j : Nat) : Int)))]) hx hb dL_law_776 hl (by decide) rfl (fun ls hl => ?_)
    refine lv_aload_n hx hb dL_law_778 rfl (lv_at hl 3 rfl) ?_
    refine lv_aload_n hx hb dL_law_779 rfl (lv_at hl 1 rfl) ?_
    refine lv_iload hx hb dL_law_780 (lv_at hl 6 rfl) ?_
    refine kx_iconst hx hb dL_law_782 ?_
    refine kx_iadd hx hb dL_law_783 ?_
    refine kx_sld (i := (((3 * j : Nat) : Int) + 1)) hx hb hX hbl hbA hS_41 (3 * j + 1) (by omega) (by omega) (by omega) dL_law_784 ?_
    refine kx_eqi (z1) (hz1.symm) ?_
    have h_49 := hO_mm.ex hF_44
    have h_50 := hA_ra.ex hF_44
    have h_51 := hA_sa.ex hF_44
    have h_52 := hA_ka.ex hF_44
    have h_53 := hA_ta.ex hF_44
    have ty_mm : ∀ x, x = mm → H_43.size ≤ x ∨ (kTy D H_43 x ∧ c0 ≤ x ∧ x < c1) := fun x h => by rw [h]; exact Or.inr ⟨Or.inl ⟨2, _, by decide, by decide, by decide, h_49⟩, i_mm.1, w_mm⟩
    refine kx_ci (va_runV (As := [.int (kI (z1))]) (rest := []) ⟨hx, hb, hml, hown, hts⟩ (m_X3_levelOf_no l D H_43 mm ra sa ka ta nh ik t.length th sp9 iw le9 fi9 se9 g S gap z1 h_49 h_50 (by first | assumption | omega) (by first | assumption | omega) n_mm_ra b_mm (by first | assumption | omega) (by first | assumption | omega)) (cwV 1 hts (lw_V q2447 q2448 q2449 q89 q2450) rfl rfl rfl (by decide +kernel) ⟨Nat.le_of_ble_eq_true rfl, Nat.le_of_ble_eq_true rfl⟩) (kx_pv hK hS_41 hB (kx_rc hK h_49 (C := RX3) (T := TX3) (N := 13) rfl)) rfl rfl hl.1 rfl (lv_room (Nat.le_of_ble_eq_true rfl)) dL_law_785 ⟨by first | exact Nat.le_of_ble_eq_true rfl | omega | (dsimp only [lwR]; omega) | (show _ ≤ _; omega), by first | exact Nat.le_of_ble_eq_true rfl | omega | (dsimp only [lwR]; omega) | (show _ ≤ _; omega)⟩) hS_41 (fun q _ h => (ge_mm q) h) (fun q h => (ge_mm q) h) (fun z_59 H_57 locs_54 hz_56 hF_58 hS_55 => ?_)
    have hzf_60 := hF_58.1
    obtain ⟨hv_61, ho_62⟩ := hz_56
    subst z_59
    refine lv_istore (lv' := [(7, .int (kI (0))), (6, .int (kI (1))), (0, .ref b), (1, .ref x1), (2, .ref mm), (3, .ref out), (4, .ref outD), (5, .int (kI ((3 * j : Nat) : Int)))]) hx hb dL_law_788 hl (by decide) rfl (fun ls hl => ?_)
    refine lv_aload_n hx hb dL_law_790 rfl (lv_at hl 4 rfl) ?_
    refine kx_ci0 (va_runV (As := []) (rest := []) ⟨hx, hb, hml, hown, hts⟩ (m_X3_thrown l D H_57 mm ra sa ka ta nh ik t.length 1 sp9 iw le9 fi9 se9 ho_62 ) (cwV 0 hts (lw_V q2278 q2279 q2280 q89 q2281) rfl rfl rfl (by decide +kernel) ⟨Nat.le_of_ble_eq_true rfl, Nat.le_of_ble_eq_true rfl⟩) (kx_pv hK hS_55 hB (kx_rc hK ho_62 (C := RX3) (T := TX3) (N := 13) rfl)) rfl rfl hl.1 rfl (lv_room (Nat.le_of_ble_eq_true rfl)) dL_law_791 ⟨by first | exact Nat.le_of_ble_eq_true rfl | omega | (dsimp only [lwR]; omega) | (show _ ≤ _; omega), by first | exact Nat.le_of_ble_eq_true rfl | omega | (dsimp only [lwR]; omega) | (show _ ≤ _; omega)⟩) hS_55 (fun z_66 locs_63 hz_65 hS_64 => ?_)
    subst z_66
    refine lv_iload hx hb dL_law_794 (lv_at hl 1 rfl) ?_
    refine kx_icmp_eq (x := 1) (y := 1) (tgt := 801) hx hb dL_law_796 (by decide) (by omega) (by omega) (by omega) (by omega) (fun c_796_67 => ?_) (fun c_796_67 => ?_)
    · -- taken at 796
      refine lv_iload hx hb dL_law_801 (lv_at hl 1 rfl) ?_
      refine kx_if_ne (x := 1) (tgt := 818) hx hb dL_law_803 (by decide) (by omega) (by omega) (fun c_803_68 => ?_) (fun c_803_68 => ?_)
      · -- taken at 803
        refine lv_goto (tgt := 2493) hx hb dL_law_818 (by decide) ?_
        have h_69 := h_50.fr hF_58 (n_mm_ra.sm)
        have h_70 := h_51.fr hF_58 (n_mm_sa.sm)
        have h_71 := h_52.fr hF_58 (n_mm_ka.sm)
        have h_72 := h_53.fr hF_58 (n_mm_ta.sm)
        have h_73 := hA_out.ex hF_44
        have h_74 := h_73.fr hF_58 (n_mm_out.sm)
        have h_75 := hA_outD.ex hF_44
        have h_76 := h_75.fr hF_58 (n_mm_outD.sm)
        have h_77 := hW.ex hd9 hF_44
        have h_78 := h_77.fr hd9 hF_58 (fun x => (ty_mm x))
        refine W.widen (k := cells + 50000) (n := slots + 228000) (by omega) (by omega) ?_
        have hM9 : kM D H_57 c0 out mm (S, gap) ((sl.map Prod.snd).head?) (hl2.map Prod.snd) t := ⟨ra, sa, ka, ta, _, _, _, _, _, _, _, _, _, _, _, _, ho_62, h_69, h_70, h_71, h_72, hMr, hMh, hMk, hMt, ht60, hMd, hMb, hMi⟩
        exact kk (S, gap) ((sl.map Prod.snd).head?) (hl2.map Prod.snd) t _ _ _ ⟨hS_64, lv_sub hl [2, 3, 4, 5, 6, 7] rfl, h_78, hM9, ⟨_, h_74⟩, ⟨_, h_76⟩, by omega, by omega⟩
      · -- not taken at 803
        exfalso; omega
    · -- not taken at 796
      exfalso; omega

set_option maxHeartbeats 8000000 in
set_option maxRecDepth 100000 in
theorem lc_stepsOf {p : Program} {e : Env} {s : State} {m : MethodId} {below : List Frame} {meth : Method} {c : Code} {l : Launch} {D : kG} {b L c0 c1 x1 mm out outD : Nat} {xs : Nat → Int32} {Q : State → Prop} (C0 : lwC D p l s m meth c b L c0 c1 out outD xs) {j : Nat} (hj : 3 * j + 3 ≤ L) {S : Ls} {gap : Int} {sn : Option Sg} {hs : List Sg} {t : List Int} {H : Heap} {locs : List Loc} {ls : Array Slot} (I0 : lwI D s b c0 c1 x1 mm out outD j j (S, gap) sn hs t H locs ls) {cells slots : Nat} (hcl : cells + 50000 ≤ 1200144) (hsl9 : slots + 228000 ≤ 5496058) (kk : ∀ (σ : Sg) (sn : Option Sg) (hs : List Sg) (t : List Int) (H : Heap) (locs : List Loc) (ls : Array Slot), lwI D s b c0 c1 x1 mm out outD j (j + 1) σ sn hs t H locs ls → W p l e lwR s m #[Value.ref b] below meth c H locs (cells + 50000) (slots + 228000) Q (F0 m 2493 ls [])) : W p l e lwR s m #[Value.ref b] below meth c H locs cells slots Q (F0 m 821 ls []) := by
  obtain ⟨hx, hb, hml, hown, hts, hlk, hK, hl9, hX, hbl, hbs, hL72, hc0, hco, hod, hdc⟩ := C0
  obtain ⟨hS, hl, hW, hM, ⟨go, hA_out⟩, ⟨gd, hA_outD⟩, hc1, htl⟩ := I0
  have hB : ∀ q, (kNW s.heap) q → kBase D ≤ q := fun q h => Nat.le_trans hK.size h
  have hbA : ¬ (kNW s.heap) b := fun h => by have h9 : s.heap.size ≤ b := h; omega
  have hd9 := hK.dis
  have hxE : ¬ kBase D ≤ D.2.2.2 2 := hK.tE.out
  obtain ⟨z1, hz1⟩ : ∃ z, z = (xs (3 * j + 1)).toInt := ⟨_, rfl⟩
  obtain ⟨z2, hz2⟩ : ∃ z, z = (xs (3 * j + 2)).toInt := ⟨_, rfl⟩
  have hr1 : -2147483648 ≤ z1 ∧ z1 ≤ 2147483647 := by rw [hz1]; exact i32r _
  have hr2 : -2147483648 ≤ z2 ∧ z2 ≤ 2147483647 := by rw [hz2]; exact i32r _
  obtain ⟨⟨st, la, ea, F⟩, sl, hl2, hi, es, bu, vb, hO_x1, hDq, hTx, hX5, hev, hAl, hDj, hPw, hsl, hsn, hhs⟩ := id hW
  subst hsn
  subst hhs
  obtain ⟨ra, sa, ka, ta, nh, ik, th, sp9, iw, le9, fi9, se9, g, gs, gk, gt, hO_mm, hA_ra, hA_sa, hA_ka, hA_ta, hMr, hMh, hMk, hMt, ht60, hMd, hMb, hMi⟩ := id hM
  have hMr : MRow g S gap := hMr
  have h0 := hAl _ List.mem_cons_self
  have hP_kState_st : kState D H st la ea gap S F := h0.1
  have hok : LsOK S gap := h0.2.1
  have hG : StG S := h0.2.2.1
  have hL8 : S.length ≤ 8 := hok.1
  have hgp := hok.2.1
  have hO_x1 : kO D H x1 0 [.ref st, va_rf ((sl.map (fun a => a.1.1)).head?), .ref hi, .ref bu] := hO_x1
  have hOw : ∀ q, kOwn D st la ea F S.length q → q ∉ [x1, hi, es, bu, vb] ∧ (q < c0 ∨ c1 ≤ q) := h0.2.2.2
  have hev : Hd (es ≠ vb) := hev
  have io_x1 : ∀ x, c0 ≤ x → x < c1 → x ≠ x1 := fun x => out_of (hX5 x1 (by simp)).2
  have io_hi : ∀ x, c0 ≤ x → x < c1 → x ≠ hi := fun x => out_of (hX5 hi (by simp)).2
  have io_es : ∀ x, c0 ≤ x → x < c1 → x ≠ es := fun x => out_of (hX5 es (by simp)).2
  have io_bu : ∀ x, c0 ≤ x → x < c1 → x ≠ bu := fun x => out_of (hX5 bu (by simp)).2
  have io_vb : ∀ x, c0 ≤ x → x < c1 → x ≠ vb := fun x => out_of (hX5 vb (by simp)).2
  have b_x1 := (hX5 x1 (by simp)).1
  have b_hi := (hX5 hi (by simp)).1
  have b_es := (hX5 es (by simp)).1
  have b_bu := (hX5 bu (by simp)).1
  have b_vb := (hX5 vb (by simp)).1
  obtain ⟨⟨⟨n1, n2, n3, n4⟩, n5, n6, n7⟩, n8, n9, n10⟩ := hMd
  have n_mm_ra : Hd (mm ≠ ra) := n1
  have n_mm_sa : Hd (mm ≠ sa) := n2
  have n_mm_ka : Hd (mm ≠ ka) := n3
  have n_mm_ta : Hd (mm ≠ ta) := n4
  have n_ra_sa : Hd (ra ≠ sa) := n5
  have n_ra_ka : Hd (ra ≠ ka) := n6
  have n_ra_ta : Hd (ra ≠ ta) := n7
  have n_sa_ka : Hd (sa ≠ ka) := n8
  have n_sa_ta : Hd (sa ≠ ta) := n9
  have n_ka_ta : Hd (ka ≠ ta) := n10
  have hMd : Hd (((mm ≠ ra ∧ mm ≠ sa ∧ mm ≠ ka ∧ mm ≠ ta) ∧ ra ≠ sa ∧ ra ≠ ka ∧ ra ≠ ta) ∧ sa ≠ ka ∧ sa ≠ ta ∧ ka ≠ ta) := ⟨⟨⟨n1, n2, n3, n4⟩, n5, n6, n7⟩, n8, n9, n10⟩
  clear n1 n2 n3 n4 n5 n6 n7 n8 n9 n10
  obtain ⟨b_mm, b_ra, b_sa, b_ka, b_ta⟩ := id hMb
  obtain ⟨i_mm, i_ra, i_sa, i_ka, i_ta⟩ := id hMi
  have b_out : kBase D ≤ out := by omega
  have hcc : c0 ≤ c1 := by omega
  have w_mm : mm < c1 := by omega
  have n_mm_out : Hd (mm ≠ out) := Nat.ne_of_lt i_mm.2
  have n_mm_outD : Hd (mm ≠ outD) := Nat.ne_of_lt (Nat.lt_trans i_mm.2 hod)
  have w_ra : ra < c1 := by omega
  have n_ra_out : Hd (ra ≠ out) := Nat.ne_of_lt i_ra.2
  have n_ra_outD : Hd (ra ≠ outD) := Nat.ne_of_lt (Nat.lt_trans i_ra.2 hod)
  have w_sa : sa < c1 := by omega
  have n_sa_out : Hd (sa ≠ out) := Nat.ne_of_lt i_sa.2
  have n_sa_outD : Hd (sa ≠ outD) := Nat.ne_of_lt (Nat.lt_trans i_sa.2 hod)
  have w_ka : ka < c1 := by omega
  have n_ka_out : Hd (ka ≠ out) := Nat.ne_of_lt i_ka.2
  have n_ka_outD : Hd (ka ≠ outD) := Nat.ne_of_lt (Nat.lt_trans i_ka.2 hod)
  have w_ta : ta < c1 := by omega
  have n_ta_out : Hd (ta ≠ out) := Nat.ne_of_lt i_ta.2
  have n_ta_outD : Hd (ta ≠ outD) := Nat.ne_of_lt (Nat.lt_trans i_ta.2 hod)
  have ge_mm : ∀ q, q = mm → kNW s.heap q := fun q h => by rw [h]; show s.heap.size ≤ mm; omega
  have ge_ra : ∀ q, q = ra → kNW s.heap q := fun q h => by rw [h]; show s.heap.size ≤ ra; omega
  have ge_sa : ∀ q, q = sa → kNW s.heap q := fun q h => by rw [h]; show s.heap.size ≤ sa; omega
  have ge_ka : ∀ q, q = ka → kNW s.heap q := fun q h => by rw [h]; show s.heap.size ≤ ka; omega
  have ge_ta : ∀ q, q = ta → kNW s.heap q := fun q h => by rw [h]; show s.heap.size ≤ ta; omega
  have ge_out : ∀ q, q = out → kNW s.heap q := fun q h => by rw [h]; show s.heap.size ≤ out; omega
  have n_out_outD : Hd (out ≠ outD) := Nat.ne_of_lt hod
  have w_out : out < c1 := by omega
  have w_outD : outD < c1 := hdc
  have i_outD : c0 ≤ outD := by omega
  have htyo : kTy D H out := Or.inr ⟨2, _, by decide, hA_out⟩
  have htyd : kTy D H outD := Or.inr ⟨3, _, by decide, hA_outD⟩
  have to_out : ∀ x, x = out → H.size ≤ x ∨ (kTy D H x ∧ c0 ≤ x ∧ x < c1) := fun x h => by rw [h]; exact Or.inr ⟨htyo, hco, w_out⟩
  have to_outD : ∀ x, x = outD → H.size ≤ x ∨ (kTy D H x ∧ c0 ≤ x ∧ x < c1) := fun x h => by rw [h]; exact Or.inr ⟨htyd, i_outD, w_outD⟩
  obtain ⟨⟨hO_st, mc9, hO_la⟩, hLs9, hLn9, hF9, hDs9, hb1, hb2, hb3⟩ := id hP_kState_st
  by_cases hA : 0 ≤ z1 ∧ z1 < (S.length : Int)
  · -- hA
    obtain ⟨ln9, hv1⟩ : ∃ k : Nat, z1 = (k : Int) := ⟨z1.toNat, by omega⟩
    have hln : ln9 < S.length := by omega
    have hLn := hok.ln hln
    have hr9 := hLn.n
    have hn9 := hLn.n
    have hrv : -2147483648 ≤ ((ln_n (st_ln S ln9) : Nat) : Int) ∧ ((ln_n (st_ln S ln9) : Nat) : Int) ≤ 2147483647 := ⟨by omega, by omega⟩
    refine lv_aload_n hx hb dL_law_821 rfl (lv_at hl 1 rfl) ?_
    refine lv_aload_n hx hb dL_law_822 rfl (lv_at hl 0 rfl) ?_
    refine lv_iload hx hb dL_law_823 (lv_at hl 5 rfl) ?_
    refine kx_iconst hx hb dL_law_825 ?_
    refine kx_iadd hx hb dL_law_826 ?_
    refine kx_sld (i := (((3 * j : Nat) : Int) + 1)) hx hb hX hbl hbA hS (3 * j + 1) (by omega) (by omega) (by omega) dL_law_827 ?_
    refine kx_eqi (((ln9 : Nat) : Int)) (hz1.symm.trans hv1) ?_
    refine lv_aload_n hx hb dL_law_828 rfl (lv_at hl 3 rfl) ?_
    refine kx_ci (vx_runSW (As := [.ref x1, .int (kI ((ln9 : Nat) : Int)), .ref out]) (rest := []) ⟨hx, hb, hml, hown, hts⟩ (wr_stepsOf l hl9 D H x1 ((sl.map (fun a => a.1.1)).head?) hi bu st la mc9 ea F S gap ln9 out go hO_x1 hO_st hO_la hLs9 hLn9 hA_out (by first | assumption | omega) (by first | assumption | omega) (by first | assumption | omega) (by first | assumption | omega)) (vx_cwSW 3 hts (lw_SW q1938 q1939 q78 q1940) rfl rfl rfl (by decide +kernel) ⟨Nat.le_of_ble_eq_true rfl, Nat.le_of_ble_eq_true rfl⟩) (kx_ps hK hS hB) rfl rfl hl.1 rfl (lv_room (Nat.le_of_ble_eq_true rfl)) dL_law_829 ⟨by first | exact Nat.le_of_ble_eq_true rfl | omega | (dsimp only [lwR]; omega) | (show _ ≤ _; omega), by first | exact Nat.le_of_ble_eq_true rfl | omega | (dsimp only [lwR]; omega) | (show _ ≤ _; omega)⟩) hS (fun q _ h => (ge_out q) h) (fun q h => (ge_out q) h) (fun z_6 H_4 locs_1 hz_3 hF_5 hS_2 => ?_)
    have hzf_7 := hF_5.1
    obtain ⟨hv_8, ho_9⟩ := hz_3
    subst z_6
    refine lv_istore (lv' := [(6, .int (kI (0))), (0, .ref b), (1, .ref x1), (2, .ref mm), (3, .ref out), (4, .ref outD), (5, .int (kI ((3 * j : Nat) : Int)))]) hx hb dL_law_832 hl (by decide) rfl (fun ls hl => ?_)
    refine lv_aload_n hx hb dL_law_834 rfl (lv_at hl 3 rfl) ?_
    refine lv_aload_n hx hb dL_law_835 rfl (lv_at hl 1 rfl) ?_
    refine lv_iload hx hb dL_law_836 (lv_at hl 6 rfl) ?_
    refine kx_iconst hx hb dL_law_838 ?_
    refine kx_iadd hx hb dL_law_839 ?_
    refine kx_sld (i := (((3 * j : Nat) : Int) + 1)) hx hb hX hbl hbA hS_2 (3 * j + 1) (by omega) (by omega) (by omega) dL_law_840 ?_
    refine kx_eqi (((ln9 : Nat) : Int)) (hz1.symm.trans hv1) ?_
    have h_10 := hO_mm.fr hF_5 (n_mm_out)
    have h_11 := hA_ra.fr hF_5 (n_ra_out)
    have h_12 := hA_sa.fr hF_5 (n_sa_out)
    have h_13 := hA_ka.fr hF_5 (n_ka_out)
    have h_14 := hA_ta.fr hF_5 (n_ta_out)
    have ty_mm : ∀ x, x = mm → H_4.size ≤ x ∨ (kTy D H_4 x ∧ c0 ≤ x ∧ x < c1) := fun x h => by rw [h]; exact Or.inr ⟨Or.inl ⟨2, _, by decide, by decide, by decide, h_10⟩, i_mm.1, w_mm⟩
    refine kx_ci (va_runV (As := [.int (kI ((ln9 : Nat) : Int))]) (rest := []) ⟨hx, hb, hml, hown, hts⟩ (m_X3_stepsOf l D H_4 mm ra sa ka ta nh ik t.length th sp9 iw le9 fi9 se9 g S gap ln9 h_10 h_11 (by first | assumption | omega) (by first | assumption | omega) n_mm_ra b_mm (by first | assumption | omega)) (cwV 1 hts (lw_V q2459 q2460 q2461 q89 q2462) rfl rfl rfl (by decide +kernel) ⟨Nat.le_of_ble_eq_true rfl, Nat.le_of_ble_eq_true rfl⟩) (kx_pv hK hS_2 hB (kx_rc hK h_10 (C := RX3) (T := TX3) (N := 13) rfl)) rfl rfl hl.1 rfl (lv_room (Nat.le_of_ble_eq_true rfl)) dL_law_841 ⟨by first | exact Nat.le_of_ble_eq_true rfl | omega | (dsimp only [lwR]; omega) | (show _ ≤ _; omega), by first | exact Nat.le_of_ble_eq_true rfl | omega | (dsimp only [lwR]; omega) | (show _ ≤ _; omega)⟩) hS_2 (fun q _ h => (ge_mm q) h) (fun q h => (ge_mm q) h) (fun z_20 H_18 locs_15 hz_17 hF_19 hS_16 => ?_)
    have hzf_21 := hF_19.1
    obtain ⟨hv_22, ho_23⟩ := hz_17
    subst z_20
    refine lv_istore (lv' := [(7, .int (kI ((ln_n (st_ln S ln9) : Nat) : Int))), (6, .int (kI (0))), (0, .ref b), (1, .ref x1), (2, .ref mm), (3, .ref out), (4, .ref outD), (5, .int (kI ((3 * j : Nat) : Int)))]) hx hb dL_law_844 hl (by decide) rfl (fun ls hl => ?_)
    refine lv_aload_n hx hb dL_law_846 rfl (lv_at hl 4 rfl) ?_
    refine kx_ci0 (va_runV (As := []) (rest := []) ⟨hx, hb, hml, hown, hts⟩ (m_X3_thrown l D H_18 mm ra sa ka ta nh ik t.length 0 sp9 iw le9 fi9 se9 ho_23 ) (cwV 0 hts (lw_V q2278 q2279 q2280 q89 q2281) rfl rfl rfl (by decide +kernel) ⟨Nat.le_of_ble_eq_true rfl, Nat.le_of_ble_eq_true rfl⟩) (kx_pv hK hS_16 hB (kx_rc hK ho_23 (C := RX3) (T := TX3) (N := 13) rfl)) rfl rfl hl.1 rfl (lv_room (Nat.le_of_ble_eq_true rfl)) dL_law_847 ⟨by first | exact Nat.le_of_ble_eq_true rfl | omega | (dsimp only [lwR]; omega) | (show _ ≤ _; omega), by first | exact Nat.le_of_ble_eq_true rfl | omega | (dsimp only [lwR]; omega) | (show _ ≤ _; omega)⟩) hS_16 (fun z_27 locs_24 hz_26 hS_25 => ?_)
    subst z_27
    refine lv_iload hx hb dL_law_850 (lv_at hl 1 rfl) ?_
    refine kx_icmp_eq (x := 0) (y := 0) (tgt := 857) hx hb dL_law_852 (by decide) (by omega) (by omega) (by omega) (by omega) (fun c_852_28 => ?_) (fun c_852_28 => ?_)
    · -- taken at 852
      refine lv_iload hx hb dL_law_857 (lv_at hl 1 rfl) ?_
      refine kx_if_ne (x := 0) (tgt := 874) hx hb dL_law_859 (by decide) (by omega) (by omega) (fun c_859_29 => ?_) (fun c_859_29 => ?_)
      · -- taken at 859
        exfalso; omega
      · -- not taken at 859
        refine lv_aload_n hx hb dL_law_862 rfl (lv_at hl 5 rfl) ?_
        refine kx_iconst hx hb dL_law_863 ?_
        have h_30 := ho_9.fr hF_19 (n_mm_out.sm)
        refine kx_lald (i := 0) hx hb hK h_30 0 rfl (by decide) (by decide) dL_law_864 ?_
        refine lv_iload hx hb dL_law_865 (lv_at hl 0 rfl) ?_
        refine kx_i2l hx hb (z := ((ln_n (st_ln S ln9) : Nat) : Int)) (by omega) (by omega) dL_law_867 ?_
        refine kx_lcmpE hx hb (x := ((kup go 0 (kL (((ln_n (st_ln S ln9) : Nat) : Int))))) 0) (y := kL (((ln_n (st_ln S ln9) : Nat) : Int))) (kup_self _ _ _) dL_law_868 ?_
        refine kx_if_eq (x := 0) (tgt := 874) hx hb dL_law_869 (by decide) (by omega) (by omega) (fun c_869_31 => ?_) (fun c_869_31 => ?_)
        · -- taken at 869
          refine lv_goto (tgt := 2493) hx hb dL_law_874 (by decide) ?_
          have h_32 := h_11.fr hF_19 (n_mm_ra.sm)
          have h_33 := h_12.fr hF_19 (n_mm_sa.sm)
          have h_34 := h_13.fr hF_19 (n_mm_ka.sm)
          have h_35 := h_14.fr hF_19 (n_mm_ta.sm)
          have h_36 := hA_outD.fr hF_5 (n_out_outD.sm)
          have h_37 := h_36.fr hF_19 (n_mm_outD.sm)
          have h_38 := hW.fr hd9 hF_5 (fun x => (to_out x))
          have h_39 := h_38.fr hd9 hF_19 (fun x => (ty_mm x))
          refine W.widen (k := cells + 50000) (n := slots + 228000) (by omega) (by omega) ?_
          have hM9 : kM D H_18 c0 out mm (S, gap) ((sl.map Prod.snd).head?) (hl2.map Prod.snd) t := ⟨ra, sa, ka, ta, _, _, _, _, _, _, _, _, _, _, _, _, ho_23, h_32, h_33, h_34, h_35, hMr, hMh, hMk, hMt, ht60, hMd, hMb, hMi⟩
          exact kk (S, gap) ((sl.map Prod.snd).head?) (hl2.map Prod.snd) t _ _ _ ⟨hS_25, lv_sub hl [2, 3, 4, 5, 6, 7] rfl, h_39, hM9, ⟨_, h_30⟩, ⟨_, h_37⟩, by omega, by omega⟩
        · -- not taken at 869
          exfalso; omega
    · -- not taken at 852
      exfalso; omega
  · -- hA
    refine lv_aload_n hx hb dL_law_821 rfl (lv_at hl 1 rfl) ?_
    refine lv_aload_n hx hb dL_law_822 rfl (lv_at hl 0 rfl) ?_
    refine lv_iload hx hb dL_law_823 (lv_at hl 5 rfl) ?_
    refine kx_iconst hx hb dL_law_825 ?_
    refine kx_iadd hx hb dL_law_826 ?_
    refine kx_sld (i := (((3 * j : Nat) : Int) + 1)) hx hb hX hbl hbA hS (3 * j + 1) (by omega) (by omega) (by omega) dL_law_827 ?_
    refine kx_eqi (z1) (hz1.symm) ?_
    refine lv_aload_n hx hb dL_law_828 rfl (lv_at hl 3 rfl) ?_
    refine kx_ci (vx_runSW (As := [.ref x1, .int (kI (z1)), .ref out]) (rest := []) ⟨hx, hb, hml, hown, hts⟩ (wx_stepsOf l hl9 D H x1 ((sl.map (fun a => a.1.1)).head?) hi bu st la mc9 ea F S gap z1 out hO_x1 hO_st hO_la hLs9 hLn9 (by first | assumption | omega) (by first | assumption | omega) (by first | assumption | omega)) (vx_cwSW 3 hts (lw_SW q1938 q1939 q78 q1940) rfl rfl rfl (by decide +kernel) ⟨Nat.le_of_ble_eq_true rfl, Nat.le_of_ble_eq_true rfl⟩) (kx_ps hK hS hB) rfl rfl hl.1 rfl (lv_room (Nat.le_of_ble_eq_true rfl)) dL_law_829 ⟨by first | exact Nat.le_of_ble_eq_true rfl | omega | (dsimp only [lwR]; omega) | (show _ ≤ _; omega), by first | exact Nat.le_of_ble_eq_true rfl | omega | (dsimp only [lwR]; omega) | (show _ ≤ _; omega)⟩) hS (fun q _ h => by have h9 := hS.1; (try dsimp only at h); (try dsimp only); (try simp only [kNW] at h); (try simp only [kNW]); omega) (fun q h => by have h9 := hS.1; (try dsimp only at h); (try dsimp only); (try simp only [kNW] at h); (try simp only [kNW]); omega) (fun z_45 H_43 locs_40 hz_42 hF_44 hS_41 => ?_)
    have hzf_46 := hF_44.1
    have hF_44 := hF_44.nw
    obtain ⟨hv_47, hnw_48⟩ := hz_42
    subst z_45
    refine lv_istore (lv' := [(6, .int (kI (1))), (0, .ref b), (1, .ref x1), (2, .ref mm), (3, .ref out), (4, .ref outD), (5, .int (kI ((3 * j : Nat) : Int)))]) hx hb dL_law_832 hl (by decide) rfl (fun ls hl => ?_)
    refine lv_aload_n hx hb dL_law_834 rfl (lv_at hl 3 rfl) ?_
    refine lv_aload_n hx hb dL_law_835 rfl (lv_at hl 1 rfl) ?_
    refine lv_iload hx hb dL_law_836 (lv_at hl 6 rfl) ?_
    refine kx_iconst hx hb dL_law_838 ?_
    refine kx_iadd hx hb dL_law_839 ?_
    refine kx_sld (i := (((3 * j : Nat) : Int) + 1)) hx hb hX hbl hbA hS_41 (3 * j + 1) (by omega) (by omega) (by omega) dL_law_840 ?_
    refine kx_eqi (z1) (hz1.symm) ?_
    have h_49 := hO_mm.ex hF_44
    have h_50 := hA_ra.ex hF_44
    have h_51 := hA_sa.ex hF_44
    have h_52 := hA_ka.ex hF_44
    have h_53 := hA_ta.ex hF_44
    have ty_mm : ∀ x, x = mm → H_43.size ≤ x ∨ (kTy D H_43 x ∧ c0 ≤ x ∧ x < c1) := fun x h => by rw [h]; exact Or.inr ⟨Or.inl ⟨2, _, by decide, by decide, by decide, h_49⟩, i_mm.1, w_mm⟩
    refine kx_ci (va_runV (As := [.int (kI (z1))]) (rest := []) ⟨hx, hb, hml, hown, hts⟩ (m_X3_stepsOf_no l D H_43 mm ra sa ka ta nh ik t.length th sp9 iw le9 fi9 se9 g S gap z1 h_49 h_50 (by first | assumption | omega) (by first | assumption | omega) n_mm_ra b_mm (by first | assumption | omega) (by first | assumption | omega)) (cwV 1 hts (lw_V q2459 q2460 q2461 q89 q2462) rfl rfl rfl (by decide +kernel) ⟨Nat.le_of_ble_eq_true rfl, Nat.le_of_ble_eq_true rfl⟩) (kx_pv hK hS_41 hB (kx_rc hK h_49 (C := RX3) (T := TX3) (N := 13) rfl)) rfl rfl hl.1 rfl (lv_room (Nat.le_of_ble_eq_true rfl)) dL_law_841 ⟨by first | exact Nat.le_of_ble_eq_true rfl | omega | (dsimp only [lwR]; omega) | (show _ ≤ _; omega), by first | exact Nat.le_of_ble_eq_true rfl | omega | (dsimp only [lwR]; omega) | (show _ ≤ _; omega)⟩) hS_41 (fun q _ h => (ge_mm q) h) (fun q h => (ge_mm q) h) (fun z_59 H_57 locs_54 hz_56 hF_58 hS_55 => ?_)
    have hzf_60 := hF_58.1
    obtain ⟨hv_61, ho_62⟩ := hz_56
    subst z_59
    refine lv_istore (lv' := [(7, .int (kI (0))), (6, .int (kI (1))), (0, .ref b), (1, .ref x1), (2, .ref mm), (3, .ref out), (4, .ref outD), (5, .int (kI ((3 * j : Nat) : Int)))]) hx hb dL_law_844 hl (by decide) rfl (fun ls hl => ?_)
    refine lv_aload_n hx hb dL_law_846 rfl (lv_at hl 4 rfl) ?_
    refine kx_ci0 (va_runV (As := []) (rest := []) ⟨hx, hb, hml, hown, hts⟩ (m_X3_thrown l D H_57 mm ra sa ka ta nh ik t.length 1 sp9 iw le9 fi9 se9 ho_62 ) (cwV 0 hts (lw_V q2278 q2279 q2280 q89 q2281) rfl rfl rfl (by decide +kernel) ⟨Nat.le_of_ble_eq_true rfl, Nat.le_of_ble_eq_true rfl⟩) (kx_pv hK hS_55 hB (kx_rc hK ho_62 (C := RX3) (T := TX3) (N := 13) rfl)) rfl rfl hl.1 rfl (lv_room (Nat.le_of_ble_eq_true rfl)) dL_law_847 ⟨by first | exact Nat.le_of_ble_eq_true rfl | omega | (dsimp only [lwR]; omega) | (show _ ≤ _; omega), by first | exact Nat.le_of_ble_eq_true rfl | omega | (dsimp only [lwR]; omega) | (show _ ≤ _; omega)⟩) hS_55 (fun z_66 locs_63 hz_65 hS_64 => ?_)
    subst z_66
    refine lv_iload hx hb dL_law_850 (lv_at hl 1 rfl) ?_
    refine kx_icmp_eq (x := 1) (y := 1) (tgt := 857) hx hb dL_law_852 (by decide) (by omega) (by omega) (by omega) (by omega) (fun c_852_67 => ?_) (fun c_852_67 => ?_)
    · -- taken at 852
      refine lv_iload hx hb dL_law_857 (lv_at hl 1 rfl) ?_
      refine kx_if_ne (x := 1) (tgt := 874) hx hb dL_law_859 (by decide) (by omega) (by omega) (fun c_859_68 => ?_) (fun c_859_68 => ?_)
      · -- taken at 859
        refine lv_goto (tgt := 2493) hx hb dL_law_874 (by decide) ?_
        have h_69 := h_50.fr hF_58 (n_mm_ra.sm)
        have h_70 := h_51.fr hF_58 (n_mm_sa.sm)
        have h_71 := h_52.fr hF_58 (n_mm_ka.sm)
        have h_72 := h_53.fr hF_58 (n_mm_ta.sm)
        have h_73 := hA_out.ex hF_44
        have h_74 := h_73.fr hF_58 (n_mm_out.sm)
        have h_75 := hA_outD.ex hF_44
        have h_76 := h_75.fr hF_58 (n_mm_outD.sm)
        have h_77 := hW.ex hd9 hF_44
        have h_78 := h_77.fr hd9 hF_58 (fun x => (ty_mm x))
        refine W.widen (k := cells + 50000) (n := slots + 228000) (by omega) (by omega) ?_
        have hM9 : kM D H_57 c0 out mm (S, gap) ((sl.map Prod.snd).head?) (hl2.map Prod.snd) t := ⟨ra, sa, ka, ta, _, _, _, _, _, _, _, _, _, _, _, _, ho_62, h_69, h_70, h_71, h_72, hMr, hMh, hMk, hMt, ht60, hMd, hMb, hMi⟩
        exact kk (S, gap) ((sl.map Prod.snd).head?) (hl2.map Prod.snd) t _ _ _ ⟨hS_64, lv_sub hl [2, 3, 4, 5, 6, 7] rfl, h_78, hM9, ⟨_, h_74⟩, ⟨_, h_76⟩, by omega, by omega⟩
      · -- not taken at 859
        exfalso; omega
    · -- not taken at 852
      exfalso; omega

set_option maxHeartbeats 8000000 in
set_option maxRecDepth 100000 in
theorem lc_labelOf {p : Program} {e : Env} {s : State} {m : MethodId} {below : List Frame} {meth : Method} {c : Code} {l : Launch} {D : kG} {b L c0 c1 x1 mm out outD : Nat} {xs : Nat → Int32} {Q : State → Prop} (C0 : lwC D p l s m meth c b L c0 c1 out outD xs) {j : Nat} (hj : 3 * j + 3 ≤ L) {S : Ls} {gap : Int} {sn : Option Sg} {hs : List Sg} {t : List Int} {H : Heap} {locs : List Loc} {ls : Array Slot} (I0 : lwI D s b c0 c1 x1 mm out outD j j (S, gap) sn hs t H locs ls) {cells slots : Nat} (hcl : cells + 50000 ≤ 1200144) (hsl9 : slots + 228000 ≤ 5496058) (kk : ∀ (σ : Sg) (sn : Option Sg) (hs : List Sg) (t : List Int) (H : Heap) (locs : List Loc) (ls : Array Slot), lwI D s b c0 c1 x1 mm out outD j (j + 1) σ sn hs t H locs ls → W p l e lwR s m #[Value.ref b] below meth c H locs (cells + 50000) (slots + 228000) Q (F0 m 2493 ls [])) : W p l e lwR s m #[Value.ref b] below meth c H locs cells slots Q (F0 m 1380 ls []) := by
  obtain ⟨hx, hb, hml, hown, hts, hlk, hK, hl9, hX, hbl, hbs, hL72, hc0, hco, hod, hdc⟩ := C0
  obtain ⟨hS, hl, hW, hM, ⟨go, hA_out⟩, ⟨gd, hA_outD⟩, hc1, htl⟩ := I0
  have hB : ∀ q, (kNW s.heap) q → kBase D ≤ q := fun q h => Nat.le_trans hK.size h
  have hbA : ¬ (kNW s.heap) b := fun h => by have h9 : s.heap.size ≤ b := h; omega
  have hd9 := hK.dis
  have hxE : ¬ kBase D ≤ D.2.2.2 2 := hK.tE.out
  obtain ⟨z1, hz1⟩ : ∃ z, z = (xs (3 * j + 1)).toInt := ⟨_, rfl⟩
  obtain ⟨z2, hz2⟩ : ∃ z, z = (xs (3 * j + 2)).toInt := ⟨_, rfl⟩
  have hr1 : -2147483648 ≤ z1 ∧ z1 ≤ 2147483647 := by rw [hz1]; exact i32r _
  have hr2 : -2147483648 ≤ z2 ∧ z2 ≤ 2147483647 := by rw [hz2]; exact i32r _
  obtain ⟨⟨st, la, ea, F⟩, sl, hl2, hi, es, bu, vb, hO_x1, hDq, hTx, hX5, hev, hAl, hDj, hPw, hsl, hsn, hhs⟩ := id hW
  subst hsn
  subst hhs
  obtain ⟨ra, sa, ka, ta, nh, ik, th, sp9, iw, le9, fi9, se9, g, gs, gk, gt, hO_mm, hA_ra, hA_sa, hA_ka, hA_ta, hMr, hMh, hMk, hMt, ht60, hMd, hMb, hMi⟩ := id hM
  have hMr : MRow g S gap := hMr
  have h0 := hAl _ List.mem_cons_self
  have hP_kState_st : kState D H st la ea gap S F := h0.1
  have hok : LsOK S gap := h0.2.1
  have hG : StG S := h0.2.2.1
  have hL8 : S.length ≤ 8 := hok.1
  have hgp := hok.2.1
  have hO_x1 : kO D H x1 0 [.ref st, va_rf ((sl.map (fun a => a.1.1)).head?), .ref hi, .ref bu] := hO_x1
  have hOw : ∀ q, kOwn D st la ea F S.length q → q ∉ [x1, hi, es, bu, vb] ∧ (q < c0 ∨ c1 ≤ q) := h0.2.2.2
  have hev : Hd (es ≠ vb) := hev
  have io_x1 : ∀ x, c0 ≤ x → x < c1 → x ≠ x1 := fun x => out_of (hX5 x1 (by simp)).2
  have io_hi : ∀ x, c0 ≤ x → x < c1 → x ≠ hi := fun x => out_of (hX5 hi (by simp)).2
  have io_es : ∀ x, c0 ≤ x → x < c1 → x ≠ es := fun x => out_of (hX5 es (by simp)).2
  have io_bu : ∀ x, c0 ≤ x → x < c1 → x ≠ bu := fun x => out_of (hX5 bu (by simp)).2
  have io_vb : ∀ x, c0 ≤ x → x < c1 → x ≠ vb := fun x => out_of (hX5 vb (by simp)).2
  have b_x1 := (hX5 x1 (by simp)).1
  have b_hi := (hX5 hi (by simp)).1
  have b_es := (hX5 es (by simp)).1
  have b_bu := (hX5 bu (by simp)).1
  have b_vb := (hX5 vb (by simp)).1
  obtain ⟨⟨⟨n1, n2, n3, n4⟩, n5, n6, n7⟩, n8, n9, n10⟩ := hMd
  have n_mm_ra : Hd (mm ≠ ra) := n1
  have n_mm_sa : Hd (mm ≠ sa) := n2
  have n_mm_ka : Hd (mm ≠ ka) := n3
  have n_mm_ta : Hd (mm ≠ ta) := n4
  have n_ra_sa : Hd (ra ≠ sa) := n5
  have n_ra_ka : Hd (ra ≠ ka) := n6
  have n_ra_ta : Hd (ra ≠ ta) := n7
  have n_sa_ka : Hd (sa ≠ ka) := n8
  have n_sa_ta : Hd (sa ≠ ta) := n9
  have n_ka_ta : Hd (ka ≠ ta) := n10
  have hMd : Hd (((mm ≠ ra ∧ mm ≠ sa ∧ mm ≠ ka ∧ mm ≠ ta) ∧ ra ≠ sa ∧ ra ≠ ka ∧ ra ≠ ta) ∧ sa ≠ ka ∧ sa ≠ ta ∧ ka ≠ ta) := ⟨⟨⟨n1, n2, n3, n4⟩, n5, n6, n7⟩, n8, n9, n10⟩
  clear n1 n2 n3 n4 n5 n6 n7 n8 n9 n10
  obtain ⟨b_mm, b_ra, b_sa, b_ka, b_ta⟩ := id hMb
  obtain ⟨i_mm, i_ra, i_sa, i_ka, i_ta⟩ := id hMi
  have b_out : kBase D ≤ out := by omega
  have hcc : c0 ≤ c1 := by omega
  have w_mm : mm < c1 := by omega
  have n_mm_out : Hd (mm ≠ out) := Nat.ne_of_lt i_mm.2
  have n_mm_outD : Hd (mm ≠ outD) := Nat.ne_of_lt (Nat.lt_trans i_mm.2 hod)
  have w_ra : ra < c1 := by omega
  have n_ra_out : Hd (ra ≠ out) := Nat.ne_of_lt i_ra.2
  have n_ra_outD : Hd (ra ≠ outD) := Nat.ne_of_lt (Nat.lt_trans i_ra.2 hod)
  have w_sa : sa < c1 := by omega
  have n_sa_out : Hd (sa ≠ out) := Nat.ne_of_lt i_sa.2
  have n_sa_outD : Hd (sa ≠ outD) := Nat.ne_of_lt (Nat.lt_trans i_sa.2 hod)
  have w_ka : ka < c1 := by omega
  have n_ka_out : Hd (ka ≠ out) := Nat.ne_of_lt i_ka.2
  have n_ka_outD : Hd (ka ≠ outD) := Nat.ne_of_lt (Nat.lt_trans i_ka.2 hod)
  have w_ta : ta < c1 := by omega
  have n_ta_out : Hd (ta ≠ out) := Nat.ne_of_lt i_ta.2
  have n_ta_outD : Hd (ta ≠ outD) := Nat.ne_of_lt (Nat.lt_trans i_ta.2 hod)
  have ge_mm : ∀ q, q = mm → kNW s.heap q := fun q h => by rw [h]; show s.heap.size ≤ mm; omega
  have ge_ra : ∀ q, q = ra → kNW s.heap q := fun q h => by rw [h]; show s.heap.size ≤ ra; omega
  have ge_sa : ∀ q, q = sa → kNW s.heap q := fun q h => by rw [h]; show s.heap.size ≤ sa; omega
  have ge_ka : ∀ q, q = ka → kNW s.heap q := fun q h => by rw [h]; show s.heap.size ≤ ka; omega
  have ge_ta : ∀ q, q = ta → kNW s.heap q := fun q h => by rw [h]; show s.heap.size ≤ ta; omega
  have ge_out : ∀ q, q = out → kNW s.heap q := fun q h => by rw [h]; show s.heap.size ≤ out; omega
  have n_out_outD : Hd (out ≠ outD) := Nat.ne_of_lt hod
  have w_out : out < c1 := by omega
  have w_outD : outD < c1 := hdc
  have i_outD : c0 ≤ outD := by omega
  have htyo : kTy D H out := Or.inr ⟨2, _, by decide, hA_out⟩
  have htyd : kTy D H outD := Or.inr ⟨3, _, by decide, hA_outD⟩
  have to_out : ∀ x, x = out → H.size ≤ x ∨ (kTy D H x ∧ c0 ≤ x ∧ x < c1) := fun x h => by rw [h]; exact Or.inr ⟨htyo, hco, w_out⟩
  have to_outD : ∀ x, x = outD → H.size ≤ x ∨ (kTy D H x ∧ c0 ≤ x ∧ x < c1) := fun x h => by rw [h]; exact Or.inr ⟨htyd, i_outD, w_outD⟩
  obtain ⟨⟨hO_st, mc9, hO_la⟩, hLs9, hLn9, hF9, hDs9, hb1, hb2, hb3⟩ := id hP_kState_st
  by_cases hA : 0 ≤ z1 ∧ z1 < (S.length : Int)
  · -- hA
    obtain ⟨ln9, hv1⟩ : ∃ k : Nat, z1 = (k : Int) := ⟨z1.toNat, by omega⟩
    have hln : ln9 < S.length := by omega
    have hLn := hok.ln hln
    have hr9 := hLn.lbr
    have hn9 := hLn.n
    have hrv : -2147483648 ≤ ln_lb (st_ln S ln9) ∧ ln_lb (st_ln S ln9) ≤ 2147483647 := ⟨by omega, by omega⟩
    refine lv_aload_n hx hb dL_law_1380 rfl (lv_at hl 1 rfl) ?_
    refine lv_aload_n hx hb dL_law_1381 rfl (lv_at hl 0 rfl) ?_
    refine lv_iload hx hb dL_law_1382 (lv_at hl 5 rfl) ?_
    refine kx_iconst hx hb dL_law_1384 ?_
    refine kx_iadd hx hb dL_law_1385 ?_
    refine kx_sld (i := (((3 * j : Nat) : Int) + 1)) hx hb hX hbl hbA hS (3 * j + 1) (by omega) (by omega) (by omega) dL_law_1386 ?_
    refine kx_eqi (((ln9 : Nat) : Int)) (hz1.symm.trans hv1) ?_
    refine lv_aload_n hx hb dL_law_1387 rfl (lv_at hl 3 rfl) ?_
    refine kx_ci (vx_runSW (As := [.ref x1, .int (kI ((ln9 : Nat) : Int)), .ref out]) (rest := []) ⟨hx, hb, hml, hown, hts⟩ (wr_labelOf l hl9 D H x1 ((sl.map (fun a => a.1.1)).head?) hi bu st la mc9 ea F S gap ln9 out go hO_x1 hO_st hO_la hLs9 hLn9 hA_out (by first | assumption | omega) (by first | assumption | omega) (by first | assumption | omega) (by first | assumption | omega)) (vx_cwSW 3 hts (lw_SW q2003 q2004 q78 q2005) rfl rfl rfl (by decide +kernel) ⟨Nat.le_of_ble_eq_true rfl, Nat.le_of_ble_eq_true rfl⟩) (kx_ps hK hS hB) rfl rfl hl.1 rfl (lv_room (Nat.le_of_ble_eq_true rfl)) dL_law_1388 ⟨by first | exact Nat.le_of_ble_eq_true rfl | omega | (dsimp only [lwR]; omega) | (show _ ≤ _; omega), by first | exact Nat.le_of_ble_eq_true rfl | omega | (dsimp only [lwR]; omega) | (show _ ≤ _; omega)⟩) hS (fun q _ h => (ge_out q) h) (fun q h => (ge_out q) h) (fun z_6 H_4 locs_1 hz_3 hF_5 hS_2 => ?_)
    have hzf_7 := hF_5.1
    obtain ⟨hv_8, ho_9⟩ := hz_3
    subst z_6
    refine lv_istore (lv' := [(6, .int (kI (0))), (0, .ref b), (1, .ref x1), (2, .ref mm), (3, .ref out), (4, .ref outD), (5, .int (kI ((3 * j : Nat) : Int)))]) hx hb dL_law_1391 hl (by decide) rfl (fun ls hl => ?_)
    refine lv_aload_n hx hb dL_law_1393 rfl (lv_at hl 3 rfl) ?_
    refine lv_aload_n hx hb dL_law_1394 rfl (lv_at hl 1 rfl) ?_
    refine lv_iload hx hb dL_law_1395 (lv_at hl 6 rfl) ?_
    refine kx_iconst hx hb dL_law_1397 ?_
    refine kx_iadd hx hb dL_law_1398 ?_
    refine kx_sld (i := (((3 * j : Nat) : Int) + 1)) hx hb hX hbl hbA hS_2 (3 * j + 1) (by omega) (by omega) (by omega) dL_law_1399 ?_
    refine kx_eqi (((ln9 : Nat) : Int)) (hz1.symm.trans hv1) ?_
    have h_10 := hO_mm.fr hF_5 (n_mm_out)
    have h_11 := hA_ra.fr hF_5 (n_ra_out)
    have h_12 := hA_sa.fr hF_5 (n_sa_out)
    have h_13 := hA_ka.fr hF_5 (n_ka_out)
    have h_14 := hA_ta.fr hF_5 (n_ta_out)
    have ty_mm : ∀ x, x = mm → H_4.size ≤ x ∨ (kTy D H_4 x ∧ c0 ≤ x ∧ x < c1) := fun x h => by rw [h]; exact Or.inr ⟨Or.inl ⟨2, _, by decide, by decide, by decide, h_10⟩, i_mm.1, w_mm⟩
    refine kx_ci (va_runV (As := [.int (kI ((ln9 : Nat) : Int))]) (rest := []) ⟨hx, hb, hml, hown, hts⟩ (m_X3_labelOf l D H_4 mm ra sa ka ta nh ik t.length th sp9 iw le9 fi9 se9 g S gap ln9 h_10 h_11 (by first | assumption | omega) (by first | assumption | omega) n_mm_ra b_mm (by first | assumption | omega)) (cwV 1 hts (lw_V q2512 q2513 q2514 q89 q2515) rfl rfl rfl (by decide +kernel) ⟨Nat.le_of_ble_eq_true rfl, Nat.le_of_ble_eq_true rfl⟩) (kx_pv hK hS_2 hB (kx_rc hK h_10 (C := RX3) (T := TX3) (N := 13) rfl)) rfl rfl hl.1 rfl (lv_room (Nat.le_of_ble_eq_true rfl)) dL_law_1400 ⟨by first | exact Nat.le_of_ble_eq_true rfl | omega | (dsimp only [lwR]; omega) | (show _ ≤ _; omega), by first | exact Nat.le_of_ble_eq_true rfl | omega | (dsimp only [lwR]; omega) | (show _ ≤ _; omega)⟩) hS_2 (fun q _ h => (ge_mm q) h) (fun q h => (ge_mm q) h) (fun z_20 H_18 locs_15 hz_17 hF_19 hS_16 => ?_)
    have hzf_21 := hF_19.1
    obtain ⟨hv_22, ho_23⟩ := hz_17
    subst z_20
    refine lv_istore (lv' := [(7, .int (kI (ln_lb (st_ln S ln9)))), (6, .int (kI (0))), (0, .ref b), (1, .ref x1), (2, .ref mm), (3, .ref out), (4, .ref outD), (5, .int (kI ((3 * j : Nat) : Int)))]) hx hb dL_law_1403 hl (by decide) rfl (fun ls hl => ?_)
    refine lv_aload_n hx hb dL_law_1405 rfl (lv_at hl 4 rfl) ?_
    refine kx_ci0 (va_runV (As := []) (rest := []) ⟨hx, hb, hml, hown, hts⟩ (m_X3_thrown l D H_18 mm ra sa ka ta nh ik t.length 0 sp9 iw le9 fi9 se9 ho_23 ) (cwV 0 hts (lw_V q2278 q2279 q2280 q89 q2281) rfl rfl rfl (by decide +kernel) ⟨Nat.le_of_ble_eq_true rfl, Nat.le_of_ble_eq_true rfl⟩) (kx_pv hK hS_16 hB (kx_rc hK ho_23 (C := RX3) (T := TX3) (N := 13) rfl)) rfl rfl hl.1 rfl (lv_room (Nat.le_of_ble_eq_true rfl)) dL_law_1406 ⟨by first | exact Nat.le_of_ble_eq_true rfl | omega | (dsimp only [lwR]; omega) | (show _ ≤ _; omega), by first | exact Nat.le_of_ble_eq_true rfl | omega | (dsimp only [lwR]; omega) | (show _ ≤ _; omega)⟩) hS_16 (fun z_27 locs_24 hz_26 hS_25 => ?_)
    subst z_27
    refine lv_iload hx hb dL_law_1409 (lv_at hl 1 rfl) ?_
    refine kx_icmp_eq (x := 0) (y := 0) (tgt := 1416) hx hb dL_law_1411 (by decide) (by omega) (by omega) (by omega) (by omega) (fun c_1411_28 => ?_) (fun c_1411_28 => ?_)
    · -- taken at 1411
      refine lv_iload hx hb dL_law_1416 (lv_at hl 1 rfl) ?_
      refine kx_if_ne (x := 0) (tgt := 1433) hx hb dL_law_1418 (by decide) (by omega) (by omega) (fun c_1418_29 => ?_) (fun c_1418_29 => ?_)
      · -- taken at 1418
        exfalso; omega
      · -- not taken at 1418
        refine lv_aload_n hx hb dL_law_1421 rfl (lv_at hl 5 rfl) ?_
        refine kx_iconst hx hb dL_law_1422 ?_
        have h_30 := ho_9.fr hF_19 (n_mm_out.sm)
        refine kx_lald (i := 0) hx hb hK h_30 0 rfl (by decide) (by decide) dL_law_1423 ?_
        refine lv_iload hx hb dL_law_1424 (lv_at hl 0 rfl) ?_
        refine kx_i2l hx hb (z := ln_lb (st_ln S ln9)) (by omega) (by omega) dL_law_1426 ?_
        refine kx_lcmpE hx hb (x := ((kup go 0 (kL (ln_lb (st_ln S ln9))))) 0) (y := kL (ln_lb (st_ln S ln9))) (kup_self _ _ _) dL_law_1427 ?_
        refine kx_if_eq (x := 0) (tgt := 1433) hx hb dL_law_1428 (by decide) (by omega) (by omega) (fun c_1428_31 => ?_) (fun c_1428_31 => ?_)
        · -- taken at 1428
          refine lv_goto (tgt := 2493) hx hb dL_law_1433 (by decide) ?_
          have h_32 := h_11.fr hF_19 (n_mm_ra.sm)
          have h_33 := h_12.fr hF_19 (n_mm_sa.sm)
          have h_34 := h_13.fr hF_19 (n_mm_ka.sm)
          have h_35 := h_14.fr hF_19 (n_mm_ta.sm)
          have h_36 := hA_outD.fr hF_5 (n_out_outD.sm)
          have h_37 := h_36.fr hF_19 (n_mm_outD.sm)
          have h_38 := hW.fr hd9 hF_5 (fun x => (to_out x))
          have h_39 := h_38.fr hd9 hF_19 (fun x => (ty_mm x))
          refine W.widen (k := cells + 50000) (n := slots + 228000) (by omega) (by omega) ?_
          have hM9 : kM D H_18 c0 out mm (S, gap) ((sl.map Prod.snd).head?) (hl2.map Prod.snd) t := ⟨ra, sa, ka, ta, _, _, _, _, _, _, _, _, _, _, _, _, ho_23, h_32, h_33, h_34, h_35, hMr, hMh, hMk, hMt, ht60, hMd, hMb, hMi⟩
          exact kk (S, gap) ((sl.map Prod.snd).head?) (hl2.map Prod.snd) t _ _ _ ⟨hS_25, lv_sub hl [2, 3, 4, 5, 6, 7] rfl, h_39, hM9, ⟨_, h_30⟩, ⟨_, h_37⟩, by omega, by omega⟩
        · -- not taken at 1428
          exfalso; omega
    · -- not taken at 1411
      exfalso; omega
  · -- hA
    refine lv_aload_n hx hb dL_law_1380 rfl (lv_at hl 1 rfl) ?_
    refine lv_aload_n hx hb dL_law_1381 rfl (lv_at hl 0 rfl) ?_
    refine lv_iload hx hb dL_law_1382 (lv_at hl 5 rfl) ?_
    refine kx_iconst hx hb dL_law_1384 ?_
    refine kx_iadd hx hb dL_law_1385 ?_
    refine kx_sld (i := (((3 * j : Nat) : Int) + 1)) hx hb hX hbl hbA hS (3 * j + 1) (by omega) (by omega) (by omega) dL_law_1386 ?_
    refine kx_eqi (z1) (hz1.symm) ?_
    refine lv_aload_n hx hb dL_law_1387 rfl (lv_at hl 3 rfl) ?_
    refine kx_ci (vx_runSW (As := [.ref x1, .int (kI (z1)), .ref out]) (rest := []) ⟨hx, hb, hml, hown, hts⟩ (wx_labelOf l hl9 D H x1 ((sl.map (fun a => a.1.1)).head?) hi bu st la mc9 ea F S gap z1 out hO_x1 hO_st hO_la hLs9 hLn9 (by first | assumption | omega) (by first | assumption | omega) (by first | assumption | omega)) (vx_cwSW 3 hts (lw_SW q2003 q2004 q78 q2005) rfl rfl rfl (by decide +kernel) ⟨Nat.le_of_ble_eq_true rfl, Nat.le_of_ble_eq_true rfl⟩) (kx_ps hK hS hB) rfl rfl hl.1 rfl (lv_room (Nat.le_of_ble_eq_true rfl)) dL_law_1388 ⟨by first | exact Nat.le_of_ble_eq_true rfl | omega | (dsimp only [lwR]; omega) | (show _ ≤ _; omega), by first | exact Nat.le_of_ble_eq_true rfl | omega | (dsimp only [lwR]; omega) | (show _ ≤ _; omega)⟩) hS (fun q _ h => by have h9 := hS.1; (try dsimp only at h); (try dsimp only); (try simp only [kNW] at h); (try simp only [kNW]); omega) (fun q h => by have h9 := hS.1; (try dsimp only at h); (try dsimp only); (try simp only [kNW] at h); (try simp only [kNW]); omega) (fun z_45 H_43 locs_40 hz_42 hF_44 hS_41 => ?_)
    have hzf_46 := hF_44.1
    have hF_44 := hF_44.nw
    obtain ⟨hv_47, hnw_48⟩ := hz_42
    subst z_45
    refine lv_istore (lv' := [(6, .int (kI (1))), (0, .ref b), (1, .ref x1), (2, .ref mm), (3, .ref out), (4, .ref outD), (5, .int (kI ((3 * j : Nat) : Int)))]) hx hb dL_law_1391 hl (by decide) rfl (fun ls hl => ?_)
    refine lv_aload_n hx hb dL_law_1393 rfl (lv_at hl 3 rfl) ?_
    refine lv_aload_n hx hb dL_law_1394 rfl (lv_at hl 1 rfl) ?_
    refine lv_iload hx hb dL_law_1395 (lv_at hl 6 rfl) ?_
    refine kx_iconst hx hb dL_law_1397 ?_
    refine kx_iadd hx hb dL_law_1398 ?_
    refine kx_sld (i := (((3 * j : Nat) : Int) + 1)) hx hb hX hbl hbA hS_41 (3 * j + 1) (by omega) (by omega) (by omega) dL_law_1399 ?_
    refine kx_eqi (z1) (hz1.symm) ?_
    have h_49 := hO_mm.ex hF_44
    have h_50 := hA_ra.ex hF_44
    have h_51 := hA_sa.ex hF_44
    have h_52 := hA_ka.ex hF_44
    have h_53 := hA_ta.ex hF_44
    have ty_mm : ∀ x, x = mm → H_43.size ≤ x ∨ (kTy D H_43 x ∧ c0 ≤ x ∧ x < c1) := fun x h => by rw [h]; exact Or.inr ⟨Or.inl ⟨2, _, by decide, by decide, by decide, h_49⟩, i_mm.1, w_mm⟩
    refine kx_ci (va_runV (As := [.int (kI (z1))]) (rest := []) ⟨hx, hb, hml, hown, hts⟩ (m_X3_labelOf_no l D H_43 mm ra sa ka ta nh ik t.length th sp9 iw le9 fi9 se9 g S gap z1 h_49 h_50 (by first | assumption | omega) (by first | assumption | omega) n_mm_ra b_mm (by first | assumption | omega) (by first | assumption | omega)) (cwV 1 hts (lw_V q2512 q2513 q2514 q89 q2515) rfl rfl rfl (by decide +kernel) ⟨Nat.le_of_ble_eq_true rfl, Nat.le_of_ble_eq_true rfl⟩) (kx_pv hK hS_41 hB (kx_rc hK h_49 (C := RX3) (T := TX3) (N := 13) rfl)) rfl rfl hl.1 rfl (lv_room (Nat.le_of_ble_eq_true rfl)) dL_law_1400 ⟨by first | exact Nat.le_of_ble_eq_true rfl | omega | (dsimp only [lwR]; omega) | (show _ ≤ _; omega), by first | exact Nat.le_of_ble_eq_true rfl | omega | (dsimp only [lwR]; omega) | (show _ ≤ _; omega)⟩) hS_41 (fun q _ h => (ge_mm q) h) (fun q h => (ge_mm q) h) (fun z_59 H_57 locs_54 hz_56 hF_58 hS_55 => ?_)
    have hzf_60 := hF_58.1
    obtain ⟨hv_61, ho_62⟩ := hz_56
    subst z_59
    refine lv_istore (lv' := [(7, .int (kI (0))), (6, .int (kI (1))), (0, .ref b), (1, .ref x1), (2, .ref mm), (3, .ref out), (4, .ref outD), (5, .int (kI ((3 * j : Nat) : Int)))]) hx hb dL_law_1403 hl (by decide) rfl (fun ls hl => ?_)
    refine lv_aload_n hx hb dL_law_1405 rfl (lv_at hl 4 rfl) ?_
    refine kx_ci0 (va_runV (As := []) (rest := []) ⟨hx, hb, hml, hown, hts⟩ (m_X3_thrown l D H_57 mm ra sa ka ta nh ik t.length 1 sp9 iw le9 fi9 se9 ho_62 ) (cwV 0 hts (lw_V q2278 q2279 q2280 q89 q2281) rfl rfl rfl (by decide +kernel) ⟨Nat.le_of_ble_eq_true rfl, Nat.le_of_ble_eq_true rfl⟩) (kx_pv hK hS_55 hB (kx_rc hK ho_62 (C := RX3) (T := TX3) (N := 13) rfl)) rfl rfl hl.1 rfl (lv_room (Nat.le_of_ble_eq_true rfl)) dL_law_1406 ⟨by first | exact Nat.le_of_ble_eq_true rfl | omega | (dsimp only [lwR]; omega) | (show _ ≤ _; omega), by first | exact Nat.le_of_ble_eq_true rfl | omega | (dsimp only [lwR]; omega) | (show _ ≤ _; omega)⟩) hS_55 (fun z_66 locs_63 hz_65 hS_64 => ?_)
    subst z_66
    refine lv_iload hx hb dL_law_1409 (lv_at hl 1 rfl) ?_
    refine kx_icmp_eq (x := 1) (y := 1) (tgt := 1416) hx hb dL_law_1411 (by decide) (by omega) (by omega) (by omega) (by omega) (fun c_1411_67 => ?_) (fun c_1411_67 => ?_)
    · -- taken at 1411
      refine lv_iload hx hb dL_law_1416 (lv_at hl 1 rfl) ?_
      refine kx_if_ne (x := 1) (tgt := 1433) hx hb dL_law_1418 (by decide) (by omega) (by omega) (fun c_1418_68 => ?_) (fun c_1418_68 => ?_)
      · -- taken at 1418
        refine lv_goto (tgt := 2493) hx hb dL_law_1433 (by decide) ?_
        have h_69 := h_50.fr hF_58 (n_mm_ra.sm)
        have h_70 := h_51.fr hF_58 (n_mm_sa.sm)
        have h_71 := h_52.fr hF_58 (n_mm_ka.sm)
        have h_72 := h_53.fr hF_58 (n_mm_ta.sm)
        have h_73 := hA_out.ex hF_44
        have h_74 := h_73.fr hF_58 (n_mm_out.sm)
        have h_75 := hA_outD.ex hF_44
        have h_76 := h_75.fr hF_58 (n_mm_outD.sm)
        have h_77 := hW.ex hd9 hF_44
        have h_78 := h_77.fr hd9 hF_58 (fun x => (ty_mm x))
        refine W.widen (k := cells + 50000) (n := slots + 228000) (by omega) (by omega) ?_
        have hM9 : kM D H_57 c0 out mm (S, gap) ((sl.map Prod.snd).head?) (hl2.map Prod.snd) t := ⟨ra, sa, ka, ta, _, _, _, _, _, _, _, _, _, _, _, _, ho_62, h_69, h_70, h_71, h_72, hMr, hMh, hMk, hMt, ht60, hMd, hMb, hMi⟩
        exact kk (S, gap) ((sl.map Prod.snd).head?) (hl2.map Prod.snd) t _ _ _ ⟨hS_64, lv_sub hl [2, 3, 4, 5, 6, 7] rfl, h_78, hM9, ⟨_, h_74⟩, ⟨_, h_76⟩, by omega, by omega⟩
      · -- not taken at 1418
        exfalso; omega
    · -- not taken at 1411
      exfalso; omega

set_option maxHeartbeats 8000000 in
set_option maxRecDepth 100000 in
theorem lc_isClosed {p : Program} {e : Env} {s : State} {m : MethodId} {below : List Frame} {meth : Method} {c : Code} {l : Launch} {D : kG} {b L c0 c1 x1 mm out outD : Nat} {xs : Nat → Int32} {Q : State → Prop} (C0 : lwC D p l s m meth c b L c0 c1 out outD xs) {j : Nat} (hj : 3 * j + 3 ≤ L) {S : Ls} {gap : Int} {sn : Option Sg} {hs : List Sg} {t : List Int} {H : Heap} {locs : List Loc} {ls : Array Slot} (I0 : lwI D s b c0 c1 x1 mm out outD j j (S, gap) sn hs t H locs ls) {cells slots : Nat} (hcl : cells + 50000 ≤ 1200144) (hsl9 : slots + 228000 ≤ 5496058) (kk : ∀ (σ : Sg) (sn : Option Sg) (hs : List Sg) (t : List Int) (H : Heap) (locs : List Loc) (ls : Array Slot), lwI D s b c0 c1 x1 mm out outD j (j + 1) σ sn hs t H locs ls → W p l e lwR s m #[Value.ref b] below meth c H locs (cells + 50000) (slots + 228000) Q (F0 m 2493 ls [])) : W p l e lwR s m #[Value.ref b] below meth c H locs cells slots Q (F0 m 1001 ls []) := by
  obtain ⟨hx, hb, hml, hown, hts, hlk, hK, hl9, hX, hbl, hbs, hL72, hc0, hco, hod, hdc⟩ := C0
  obtain ⟨hS, hl, hW, hM, ⟨go, hA_out⟩, ⟨gd, hA_outD⟩, hc1, htl⟩ := I0
  have hB : ∀ q, (kNW s.heap) q → kBase D ≤ q := fun q h => Nat.le_trans hK.size h
  have hbA : ¬ (kNW s.heap) b := fun h => by have h9 : s.heap.size ≤ b := h; omega
  have hd9 := hK.dis
  have hxE : ¬ kBase D ≤ D.2.2.2 2 := hK.tE.out
  obtain ⟨z1, hz1⟩ : ∃ z, z = (xs (3 * j + 1)).toInt := ⟨_, rfl⟩
  obtain ⟨z2, hz2⟩ : ∃ z, z = (xs (3 * j + 2)).toInt := ⟨_, rfl⟩
  have hr1 : -2147483648 ≤ z1 ∧ z1 ≤ 2147483647 := by rw [hz1]; exact i32r _
  have hr2 : -2147483648 ≤ z2 ∧ z2 ≤ 2147483647 := by rw [hz2]; exact i32r _
  obtain ⟨⟨st, la, ea, F⟩, sl, hl2, hi, es, bu, vb, hO_x1, hDq, hTx, hX5, hev, hAl, hDj, hPw, hsl, hsn, hhs⟩ := id hW
  subst hsn
  subst hhs
  obtain ⟨ra, sa, ka, ta, nh, ik, th, sp9, iw, le9, fi9, se9, g, gs, gk, gt, hO_mm, hA_ra, hA_sa, hA_ka, hA_ta, hMr, hMh, hMk, hMt, ht60, hMd, hMb, hMi⟩ := id hM
  have hMr : MRow g S gap := hMr
  have h0 := hAl _ List.mem_cons_self
  have hP_kState_st : kState D H st la ea gap S F := h0.1
  have hok : LsOK S gap := h0.2.1
  have hG : StG S := h0.2.2.1
  have hL8 : S.length ≤ 8 := hok.1
  have hgp := hok.2.1
  have hO_x1 : kO D H x1 0 [.ref st, va_rf ((sl.map (fun a => a.1.1)).head?), .ref hi, .ref bu] := hO_x1
  have hOw : ∀ q, kOwn D st la ea F S.length q → q ∉ [x1, hi, es, bu, vb] ∧ (q < c0 ∨ c1 ≤ q) := h0.2.2.2
  have hev : Hd (es ≠ vb) := hev
  have io_x1 : ∀ x, c0 ≤ x → x < c1 → x ≠ x1 := fun x => out_of (hX5 x1 (by simp)).2
  have io_hi : ∀ x, c0 ≤ x → x < c1 → x ≠ hi := fun x => out_of (hX5 hi (by simp)).2
  have io_es : ∀ x, c0 ≤ x → x < c1 → x ≠ es := fun x => out_of (hX5 es (by simp)).2
  have io_bu : ∀ x, c0 ≤ x → x < c1 → x ≠ bu := fun x => out_of (hX5 bu (by simp)).2
  have io_vb : ∀ x, c0 ≤ x → x < c1 → x ≠ vb := fun x => out_of (hX5 vb (by simp)).2
  have b_x1 := (hX5 x1 (by simp)).1
  have b_hi := (hX5 hi (by simp)).1
  have b_es := (hX5 es (by simp)).1
  have b_bu := (hX5 bu (by simp)).1
  have b_vb := (hX5 vb (by simp)).1
  obtain ⟨⟨⟨n1, n2, n3, n4⟩, n5, n6, n7⟩, n8, n9, n10⟩ := hMd
  have n_mm_ra : Hd (mm ≠ ra) := n1
  have n_mm_sa : Hd (mm ≠ sa) := n2
  have n_mm_ka : Hd (mm ≠ ka) := n3
  have n_mm_ta : Hd (mm ≠ ta) := n4
  have n_ra_sa : Hd (ra ≠ sa) := n5
  have n_ra_ka : Hd (ra ≠ ka) := n6
  have n_ra_ta : Hd (ra ≠ ta) := n7
  have n_sa_ka : Hd (sa ≠ ka) := n8
  have n_sa_ta : Hd (sa ≠ ta) := n9
  have n_ka_ta : Hd (ka ≠ ta) := n10
  have hMd : Hd (((mm ≠ ra ∧ mm ≠ sa ∧ mm ≠ ka ∧ mm ≠ ta) ∧ ra ≠ sa ∧ ra ≠ ka ∧ ra ≠ ta) ∧ sa ≠ ka ∧ sa ≠ ta ∧ ka ≠ ta) := ⟨⟨⟨n1, n2, n3, n4⟩, n5, n6, n7⟩, n8, n9, n10⟩
  clear n1 n2 n3 n4 n5 n6 n7 n8 n9 n10
  obtain ⟨b_mm, b_ra, b_sa, b_ka, b_ta⟩ := id hMb
  obtain ⟨i_mm, i_ra, i_sa, i_ka, i_ta⟩ := id hMi
  have b_out : kBase D ≤ out := by omega
  have hcc : c0 ≤ c1 := by omega
  have w_mm : mm < c1 := by omega
  have n_mm_out : Hd (mm ≠ out) := Nat.ne_of_lt i_mm.2
  have n_mm_outD : Hd (mm ≠ outD) := Nat.ne_of_lt (Nat.lt_trans i_mm.2 hod)
  have w_ra : ra < c1 := by omega
  have n_ra_out : Hd (ra ≠ out) := Nat.ne_of_lt i_ra.2
  have n_ra_outD : Hd (ra ≠ outD) := Nat.ne_of_lt (Nat.lt_trans i_ra.2 hod)
  have w_sa : sa < c1 := by omega
  have n_sa_out : Hd (sa ≠ out) := Nat.ne_of_lt i_sa.2
  have n_sa_outD : Hd (sa ≠ outD) := Nat.ne_of_lt (Nat.lt_trans i_sa.2 hod)
  have w_ka : ka < c1 := by omega
  have n_ka_out : Hd (ka ≠ out) := Nat.ne_of_lt i_ka.2
  have n_ka_outD : Hd (ka ≠ outD) := Nat.ne_of_lt (Nat.lt_trans i_ka.2 hod)
  have w_ta : ta < c1 := by omega
  have n_ta_out : Hd (ta ≠ out) := Nat.ne_of_lt i_ta.2
  have n_ta_outD : Hd (ta ≠ outD) := Nat.ne_of_lt (Nat.lt_trans i_ta.2 hod)
  have ge_mm : ∀ q, q = mm → kNW s.heap q := fun q h => by rw [h]; show s.heap.size ≤ mm; omega
  have ge_ra : ∀ q, q = ra → kNW s.heap q := fun q h => by rw [h]; show s.heap.size ≤ ra; omega
  have ge_sa : ∀ q, q = sa → kNW s.heap q := fun q h => by rw [h]; show s.heap.size ≤ sa; omega
  have ge_ka : ∀ q, q = ka → kNW s.heap q := fun q h => by rw [h]; show s.heap.size ≤ ka; omega
  have ge_ta : ∀ q, q = ta → kNW s.heap q := fun q h => by rw [h]; show s.heap.size ≤ ta; omega
  have ge_out : ∀ q, q = out → kNW s.heap q := fun q h => by rw [h]; show s.heap.size ≤ out; omega
  have n_out_outD : Hd (out ≠ outD) := Nat.ne_of_lt hod
  have w_out : out < c1 := by omega
  have w_outD : outD < c1 := hdc
  have i_outD : c0 ≤ outD := by omega
  have htyo : kTy D H out := Or.inr ⟨2, _, by decide, hA_out⟩
  have htyd : kTy D H outD := Or.inr ⟨3, _, by decide, hA_outD⟩
  have to_out : ∀ x, x = out → H.size ≤ x ∨ (kTy D H x ∧ c0 ≤ x ∧ x < c1) := fun x h => by rw [h]; exact Or.inr ⟨htyo, hco, w_out⟩
  have to_outD : ∀ x, x = outD → H.size ≤ x ∨ (kTy D H x ∧ c0 ≤ x ∧ x < c1) := fun x h => by rw [h]; exact Or.inr ⟨htyd, i_outD, w_outD⟩
  obtain ⟨⟨hO_st, mc9, hO_la⟩, hLs9, hLn9, hF9, hDs9, hb1, hb2, hb3⟩ := id hP_kState_st
  by_cases hA : 0 ≤ z1 ∧ z1 < (S.length : Int)
  · -- hA
    obtain ⟨ln9, hv1⟩ : ∃ k : Nat, z1 = (k : Int) := ⟨z1.toNat, by omega⟩
    have hln : ln9 < S.length := by omega
    have hLn := hok.ln hln
    refine lv_aload_n hx hb dL_law_1001 rfl (lv_at hl 1 rfl) ?_
    refine lv_aload_n hx hb dL_law_1002 rfl (lv_at hl 0 rfl) ?_
    refine lv_iload hx hb dL_law_1003 (lv_at hl 5 rfl) ?_
    refine kx_iconst hx hb dL_law_1005 ?_
    refine kx_iadd hx hb dL_law_1006 ?_
    refine kx_sld (i := (((3 * j : Nat) : Int) + 1)) hx hb hX hbl hbA hS (3 * j + 1) (by omega) (by omega) (by omega) dL_law_1007 ?_
    refine kx_eqi (((ln9 : Nat) : Int)) (hz1.symm.trans hv1) ?_
    refine lv_aload_n hx hb dL_law_1008 rfl (lv_at hl 3 rfl) ?_
    refine kx_ci (vx_runSW (As := [.ref x1, .int (kI ((ln9 : Nat) : Int)), .ref out]) (rest := []) ⟨hx, hb, hml, hown, hts⟩ (wr_isClosed l hl9 D H x1 ((sl.map (fun a => a.1.1)).head?) hi bu st la mc9 ea F S gap ln9 out go hO_x1 hO_st hO_la hLs9 hLn9 hA_out (by first | assumption | omega) (by first | assumption | omega) (by first | assumption | omega)) (vx_cwSW 3 hts (lw_SW q1959 q1960 q78 q1961) rfl rfl rfl (by decide +kernel) ⟨Nat.le_of_ble_eq_true rfl, Nat.le_of_ble_eq_true rfl⟩) (kx_ps hK hS hB) rfl rfl hl.1 rfl (lv_room (Nat.le_of_ble_eq_true rfl)) dL_law_1009 ⟨by first | exact Nat.le_of_ble_eq_true rfl | omega | (dsimp only [lwR]; omega) | (show _ ≤ _; omega), by first | exact Nat.le_of_ble_eq_true rfl | omega | (dsimp only [lwR]; omega) | (show _ ≤ _; omega)⟩) hS (fun q _ h => (ge_out q) h) (fun q h => (ge_out q) h) (fun z_6 H_4 locs_1 hz_3 hF_5 hS_2 => ?_)
    have hzf_7 := hF_5.1
    obtain ⟨hv_8, ho_9⟩ := hz_3
    subst z_6
    refine lv_istore (lv' := [(6, .int (kI (0))), (0, .ref b), (1, .ref x1), (2, .ref mm), (3, .ref out), (4, .ref outD), (5, .int (kI ((3 * j : Nat) : Int)))]) hx hb dL_law_1012 hl (by decide) rfl (fun ls hl => ?_)
    refine lv_aload_n hx hb dL_law_1014 rfl (lv_at hl 3 rfl) ?_
    refine lv_aload_n hx hb dL_law_1015 rfl (lv_at hl 1 rfl) ?_
    refine lv_iload hx hb dL_law_1016 (lv_at hl 6 rfl) ?_
    refine kx_iconst hx hb dL_law_1018 ?_
    refine kx_iadd hx hb dL_law_1019 ?_
    refine kx_sld (i := (((3 * j : Nat) : Int) + 1)) hx hb hX hbl hbA hS_2 (3 * j + 1) (by omega) (by omega) (by omega) dL_law_1020 ?_
    refine kx_eqi (((ln9 : Nat) : Int)) (hz1.symm.trans hv1) ?_
    have h_10 := hO_mm.fr hF_5 (n_mm_out)
    have h_11 := hA_ra.fr hF_5 (n_ra_out)
    have h_12 := hA_sa.fr hF_5 (n_sa_out)
    have h_13 := hA_ka.fr hF_5 (n_ka_out)
    have h_14 := hA_ta.fr hF_5 (n_ta_out)
    have ty_mm : ∀ x, x = mm → H_4.size ≤ x ∨ (kTy D H_4 x ∧ c0 ≤ x ∧ x < c1) := fun x h => by rw [h]; exact Or.inr ⟨Or.inl ⟨2, _, by decide, by decide, by decide, h_10⟩, i_mm.1, w_mm⟩
    refine kx_cb (va_runV (As := [.int (kI ((ln9 : Nat) : Int))]) (rest := []) ⟨hx, hb, hml, hown, hts⟩ (m_X3_isClosed l D H_4 mm ra sa ka ta nh ik t.length th sp9 iw le9 fi9 se9 g S gap ln9 h_10 h_11 (by first | assumption | omega) (by first | assumption | omega) n_mm_ra b_mm (by first | assumption | omega)) (cwV 1 hts (lw_V q2475 q2476 q2477 q89 q2478) rfl rfl rfl (by decide +kernel) ⟨Nat.le_of_ble_eq_true rfl, Nat.le_of_ble_eq_true rfl⟩) (kx_pv hK hS_2 hB (kx_rc hK h_10 (C := RX3) (T := TX3) (N := 13) rfl)) rfl rfl hl.1 rfl (lv_room (Nat.le_of_ble_eq_true rfl)) dL_law_1021 ⟨by first | exact Nat.le_of_ble_eq_true rfl | omega | (dsimp only [lwR]; omega) | (show _ ≤ _; omega), by first | exact Nat.le_of_ble_eq_true rfl | omega | (dsimp only [lwR]; omega) | (show _ ≤ _; omega)⟩) hS_2 (fun q _ h => (ge_mm q) h) (fun q h => (ge_mm q) h) (fun z_20 H_18 locs_15 hz_17 hF_19 hS_16 => ?_)
    have hzf_21 := hF_19.1
    obtain ⟨hv_22, ho_23⟩ := hz_17
    subst z_20
    refine lv_istore (lv' := [(7, .int (kI (kb (ln_cl (st_ln S ln9))))), (6, .int (kI (0))), (0, .ref b), (1, .ref x1), (2, .ref mm), (3, .ref out), (4, .ref outD), (5, .int (kI ((3 * j : Nat) : Int)))]) hx hb dL_law_1024 hl (by decide) rfl (fun ls hl => ?_)
    refine lv_aload_n hx hb dL_law_1026 rfl (lv_at hl 4 rfl) ?_
    refine kx_ci0 (va_runV (As := []) (rest := []) ⟨hx, hb, hml, hown, hts⟩ (m_X3_thrown l D H_18 mm ra sa ka ta nh ik t.length 0 sp9 iw le9 fi9 se9 ho_23 ) (cwV 0 hts (lw_V q2278 q2279 q2280 q89 q2281) rfl rfl rfl (by decide +kernel) ⟨Nat.le_of_ble_eq_true rfl, Nat.le_of_ble_eq_true rfl⟩) (kx_pv hK hS_16 hB (kx_rc hK ho_23 (C := RX3) (T := TX3) (N := 13) rfl)) rfl rfl hl.1 rfl (lv_room (Nat.le_of_ble_eq_true rfl)) dL_law_1027 ⟨by first | exact Nat.le_of_ble_eq_true rfl | omega | (dsimp only [lwR]; omega) | (show _ ≤ _; omega), by first | exact Nat.le_of_ble_eq_true rfl | omega | (dsimp only [lwR]; omega) | (show _ ≤ _; omega)⟩) hS_16 (fun z_27 locs_24 hz_26 hS_25 => ?_)
    subst z_27
    refine lv_iload hx hb dL_law_1030 (lv_at hl 1 rfl) ?_
    refine kx_icmp_eq (x := 0) (y := 0) (tgt := 1037) hx hb dL_law_1032 (by decide) (by omega) (by omega) (by omega) (by omega) (fun c_1032_28 => ?_) (fun c_1032_28 => ?_)
    · -- taken at 1032
      refine lv_iload hx hb dL_law_1037 (lv_at hl 1 rfl) ?_
      refine kx_if_ne (x := 0) (tgt := 1061) hx hb dL_law_1039 (by decide) (by omega) (by omega) (fun c_1039_29 => ?_) (fun c_1039_29 => ?_)
      · -- taken at 1039
        exfalso; omega
      · -- not taken at 1039
        refine lv_aload_n hx hb dL_law_1042 rfl (lv_at hl 5 rfl) ?_
        refine kx_iconst hx hb dL_law_1043 ?_
        have h_30 := ho_9.fr hF_19 (n_mm_out.sm)
        refine kx_lald (i := 0) hx hb hK h_30 0 rfl (by decide) (by decide) dL_law_1044 ?_
        refine lv_iload hx hb dL_law_1045 (lv_at hl 0 rfl) ?_
        refine kx_ifz (tgt := 1054) hx hb dL_law_1047 (by decide) (fun cb9 => ?_) (fun cb9 => ?_)
        · -- taken at 1047
          refine kx_lconst0 hx hb dL_law_1054 ?_
          refine kx_lcmpE hx hb (x := ((kup go 0 (kL (kb (ln_cl (st_ln S ln9)))))) 0) (y := kL (0)) ((kup_self _ _ _).trans (by first | rfl | (rw [cb9]; rfl))) dL_law_1055 ?_
          refine kx_if_eq (x := 0) (tgt := 1061) hx hb dL_law_1056 (by decide) (by omega) (by omega) (fun c_1056_31 => ?_) (fun c_1056_31 => ?_)
          · -- taken at 1056
            refine lv_goto (tgt := 2493) hx hb dL_law_1061 (by decide) ?_
            have h_32 := h_11.fr hF_19 (n_mm_ra.sm)
            have h_33 := h_12.fr hF_19 (n_mm_sa.sm)
            have h_34 := h_13.fr hF_19 (n_mm_ka.sm)
            have h_35 := h_14.fr hF_19 (n_mm_ta.sm)
            have h_36 := hA_outD.fr hF_5 (n_out_outD.sm)
            have h_37 := h_36.fr hF_19 (n_mm_outD.sm)
            have h_38 := hW.fr hd9 hF_5 (fun x => (to_out x))
            have h_39 := h_38.fr hd9 hF_19 (fun x => (ty_mm x))
            refine W.widen (k := cells + 50000) (n := slots + 228000) (by omega) (by omega) ?_
            have hM9 : kM D H_18 c0 out mm (S, gap) ((sl.map Prod.snd).head?) (hl2.map Prod.snd) t := ⟨ra, sa, ka, ta, _, _, _, _, _, _, _, _, _, _, _, _, ho_23, h_32, h_33, h_34, h_35, hMr, hMh, hMk, hMt, ht60, hMd, hMb, hMi⟩
            exact kk (S, gap) ((sl.map Prod.snd).head?) (hl2.map Prod.snd) t _ _ _ ⟨hS_25, lv_sub hl [2, 3, 4, 5, 6, 7] rfl, h_39, hM9, ⟨_, h_30⟩, ⟨_, h_37⟩, by omega, by omega⟩
          · -- not taken at 1056
            exfalso; omega
        · -- not taken at 1047
          refine kx_lconst1 hx hb dL_law_1050 ?_
          refine lv_goto (tgt := 1055) hx hb dL_law_1051 (by decide) ?_
          refine kx_lcmpE hx hb (x := ((kup go 0 (kL (kb (ln_cl (st_ln S ln9)))))) 0) (y := kL (1)) ((kup_self _ _ _).trans (by first | rfl | (rw [cb9]; rfl))) dL_law_1055 ?_
          refine kx_if_eq (x := 0) (tgt := 1061) hx hb dL_law_1056 (by decide) (by omega) (by omega) (fun c_1056_40 => ?_) (fun c_1056_40 => ?_)
          · -- taken at 1056
            refine lv_goto (tgt := 2493) hx hb dL_law_1061 (by decide) ?_
            have h_41 := h_11.fr hF_19 (n_mm_ra.sm)
            have h_42 := h_12.fr hF_19 (n_mm_sa.sm)
            have h_43 := h_13.fr hF_19 (n_mm_ka.sm)
            have h_44 := h_14.fr hF_19 (n_mm_ta.sm)
            have h_45 := hA_outD.fr hF_5 (n_out_outD.sm)
            have h_46 := h_45.fr hF_19 (n_mm_outD.sm)
            have h_47 := hW.fr hd9 hF_5 (fun x => (to_out x))
            have h_48 := h_47.fr hd9 hF_19 (fun x => (ty_mm x))
            refine W.widen (k := cells + 50000) (n := slots + 228000) (by omega) (by omega) ?_
            have hM9 : kM D H_18 c0 out mm (S, gap) ((sl.map Prod.snd).head?) (hl2.map Prod.snd) t := ⟨ra, sa, ka, ta, _, _, _, _, _, _, _, _, _, _, _, _, ho_23, h_41, h_42, h_43, h_44, hMr, hMh, hMk, hMt, ht60, hMd, hMb, hMi⟩
            exact kk (S, gap) ((sl.map Prod.snd).head?) (hl2.map Prod.snd) t _ _ _ ⟨hS_25, lv_sub hl [2, 3, 4, 5, 6, 7] rfl, h_48, hM9, ⟨_, h_30⟩, ⟨_, h_46⟩, by omega, by omega⟩
          · -- not taken at 1056
            exfalso; omega
    · -- not taken at 1032
      exfalso; omega
  · -- hA
    refine lv_aload_n hx hb dL_law_1001 rfl (lv_at hl 1 rfl) ?_
    refine lv_aload_n hx hb dL_law_1002 rfl (lv_at hl 0 rfl) ?_
    refine lv_iload hx hb dL_law_1003 (lv_at hl 5 rfl) ?_
    refine kx_iconst hx hb dL_law_1005 ?_
    refine kx_iadd hx hb dL_law_1006 ?_
    refine kx_sld (i := (((3 * j : Nat) : Int) + 1)) hx hb hX hbl hbA hS (3 * j + 1) (by omega) (by omega) (by omega) dL_law_1007 ?_
    refine kx_eqi (z1) (hz1.symm) ?_
    refine lv_aload_n hx hb dL_law_1008 rfl (lv_at hl 3 rfl) ?_
    refine kx_ci (vx_runSW (As := [.ref x1, .int (kI (z1)), .ref out]) (rest := []) ⟨hx, hb, hml, hown, hts⟩ (wx_isClosed l hl9 D H x1 ((sl.map (fun a => a.1.1)).head?) hi bu st la mc9 ea F S gap z1 out hO_x1 hO_st hO_la hLs9 hLn9 (by first | assumption | omega) (by first | assumption | omega) (by first | assumption | omega)) (vx_cwSW 3 hts (lw_SW q1959 q1960 q78 q1961) rfl rfl rfl (by decide +kernel) ⟨Nat.le_of_ble_eq_true rfl, Nat.le_of_ble_eq_true rfl⟩) (kx_ps hK hS hB) rfl rfl hl.1 rfl (lv_room (Nat.le_of_ble_eq_true rfl)) dL_law_1009 ⟨by first | exact Nat.le_of_ble_eq_true rfl | omega | (dsimp only [lwR]; omega) | (show _ ≤ _; omega), by first | exact Nat.le_of_ble_eq_true rfl | omega | (dsimp only [lwR]; omega) | (show _ ≤ _; omega)⟩) hS (fun q _ h => by have h9 := hS.1; (try dsimp only at h); (try dsimp only); (try simp only [kNW] at h); (try simp only [kNW]); omega) (fun q h => by have h9 := hS.1; (try dsimp only at h); (try dsimp only); (try simp only [kNW] at h); (try simp only [kNW]); omega) (fun z_54 H_52 locs_49 hz_51 hF_53 hS_50 => ?_)
    have hzf_55 := hF_53.1
    have hF_53 := hF_53.nw
    obtain ⟨hv_56, hnw_57⟩ := hz_51
    subst z_54
    refine lv_istore (lv' := [(6, .int (kI (1))), (0, .ref b), (1, .ref x1), (2, .ref mm), (3, .ref out), (4, .ref outD), (5, .int (kI ((3 * j : Nat) : Int)))]) hx hb dL_law_1012 hl (by decide) rfl (fun ls hl => ?_)
    refine lv_aload_n hx hb dL_law_1014 rfl (lv_at hl 3 rfl) ?_
    refine lv_aload_n hx hb dL_law_1015 rfl (lv_at hl 1 rfl) ?_
    refine lv_iload hx hb dL_law_1016 (lv_at hl 6 rfl) ?_
    refine kx_iconst hx hb dL_law_1018 ?_
    refine kx_iadd hx hb dL_law_1019 ?_
    refine kx_sld (i := (((3 * j : Nat) : Int) + 1)) hx hb hX hbl hbA hS_50 (3 * j + 1) (by omega) (by omega) (by omega) dL_law_1020 ?_
    refine kx_eqi (z1) (hz1.symm) ?_
    have h_58 := hO_mm.ex hF_53
    have h_59 := hA_ra.ex hF_53
    have h_60 := hA_sa.ex hF_53
    have h_61 := hA_ka.ex hF_53
    have h_62 := hA_ta.ex hF_53
    have ty_mm : ∀ x, x = mm → H_52.size ≤ x ∨ (kTy D H_52 x ∧ c0 ≤ x ∧ x < c1) := fun x h => by rw [h]; exact Or.inr ⟨Or.inl ⟨2, _, by decide, by decide, by decide, h_58⟩, i_mm.1, w_mm⟩
    refine kx_cb (va_runV (As := [.int (kI (z1))]) (rest := []) ⟨hx, hb, hml, hown, hts⟩ (m_X3_isClosed_no l D H_52 mm ra sa ka ta nh ik t.length th sp9 iw le9 fi9 se9 g S gap z1 h_58 h_59 (by first | assumption | omega) (by first | assumption | omega) n_mm_ra b_mm (by first | assumption | omega) (by first | assumption | omega)) (cwV 1 hts (lw_V q2475 q2476 q2477 q89 q2478) rfl rfl rfl (by decide +kernel) ⟨Nat.le_of_ble_eq_true rfl, Nat.le_of_ble_eq_true rfl⟩) (kx_pv hK hS_50 hB (kx_rc hK h_58 (C := RX3) (T := TX3) (N := 13) rfl)) rfl rfl hl.1 rfl (lv_room (Nat.le_of_ble_eq_true rfl)) dL_law_1021 ⟨by first | exact Nat.le_of_ble_eq_true rfl | omega | (dsimp only [lwR]; omega) | (show _ ≤ _; omega), by first | exact Nat.le_of_ble_eq_true rfl | omega | (dsimp only [lwR]; omega) | (show _ ≤ _; omega)⟩) hS_50 (fun q _ h => (ge_mm q) h) (fun q h => (ge_mm q) h) (fun z_68 H_66 locs_63 hz_65 hF_67 hS_64 => ?_)
    have hzf_69 := hF_67.1
    obtain ⟨hv_70, ho_71⟩ := hz_65
    subst z_68
    refine lv_istore (lv' := [(7, .int (kI (kb (false)))), (6, .int (kI (1))), (0, .ref b), (1, .ref x1), (2, .ref mm), (3, .ref out), (4, .ref outD), (5, .int (kI ((3 * j : Nat) : Int)))]) hx hb dL_law_1024 hl (by decide) rfl (fun ls hl => ?_)
    refine lv_aload_n hx hb dL_law_1026 rfl (lv_at hl 4 rfl) ?_
    refine kx_ci0 (va_runV (As := []) (rest := []) ⟨hx, hb, hml, hown, hts⟩ (m_X3_thrown l D H_66 mm ra sa ka ta nh ik t.length 1 sp9 iw le9 fi9 se9 ho_71 ) (cwV 0 hts (lw_V q2278 q2279 q2280 q89 q2281) rfl rfl rfl (by decide +kernel) ⟨Nat.le_of_ble_eq_true rfl, Nat.le_of_ble_eq_true rfl⟩) (kx_pv hK hS_64 hB (kx_rc hK ho_71 (C := RX3) (T := TX3) (N := 13) rfl)) rfl rfl hl.1 rfl (lv_room (Nat.le_of_ble_eq_true rfl)) dL_law_1027 ⟨by first | exact Nat.le_of_ble_eq_true rfl | omega | (dsimp only [lwR]; omega) | (show _ ≤ _; omega), by first | exact Nat.le_of_ble_eq_true rfl | omega | (dsimp only [lwR]; omega) | (show _ ≤ _; omega)⟩) hS_64 (fun z_75 locs_72 hz_74 hS_73 => ?_)
    subst z_75
    refine lv_iload hx hb dL_law_1030 (lv_at hl 1 rfl) ?_
    refine kx_icmp_eq (x := 1) (y := 1) (tgt := 1037) hx hb dL_law_1032 (by decide) (by omega) (by omega) (by omega) (by omega) (fun c_1032_76 => ?_) (fun c_1032_76 => ?_)
    · -- taken at 1032
      refine lv_iload hx hb dL_law_1037 (lv_at hl 1 rfl) ?_
      refine kx_if_ne (x := 1) (tgt := 1061) hx hb dL_law_1039 (by decide) (by omega) (by omega) (fun c_1039_77 => ?_) (fun c_1039_77 => ?_)
      · -- taken at 1039
        refine lv_goto (tgt := 2493) hx hb dL_law_1061 (by decide) ?_
        have h_78 := h_59.fr hF_67 (n_mm_ra.sm)
        have h_79 := h_60.fr hF_67 (n_mm_sa.sm)
        have h_80 := h_61.fr hF_67 (n_mm_ka.sm)
        have h_81 := h_62.fr hF_67 (n_mm_ta.sm)
        have h_82 := hA_out.ex hF_53
        have h_83 := h_82.fr hF_67 (n_mm_out.sm)
        have h_84 := hA_outD.ex hF_53
        have h_85 := h_84.fr hF_67 (n_mm_outD.sm)
        have h_86 := hW.ex hd9 hF_53
        have h_87 := h_86.fr hd9 hF_67 (fun x => (ty_mm x))
        refine W.widen (k := cells + 50000) (n := slots + 228000) (by omega) (by omega) ?_
        have hM9 : kM D H_66 c0 out mm (S, gap) ((sl.map Prod.snd).head?) (hl2.map Prod.snd) t := ⟨ra, sa, ka, ta, _, _, _, _, _, _, _, _, _, _, _, _, ho_71, h_78, h_79, h_80, h_81, hMr, hMh, hMk, hMt, ht60, hMd, hMb, hMi⟩
        exact kk (S, gap) ((sl.map Prod.snd).head?) (hl2.map Prod.snd) t _ _ _ ⟨hS_73, lv_sub hl [2, 3, 4, 5, 6, 7] rfl, h_87, hM9, ⟨_, h_83⟩, ⟨_, h_85⟩, by omega, by omega⟩
      · -- not taken at 1039
        exfalso; omega
    · -- not taken at 1032
      exfalso; omega

set_option maxHeartbeats 8000000 in
set_option maxRecDepth 100000 in
theorem lc_isTurned {p : Program} {e : Env} {s : State} {m : MethodId} {below : List Frame} {meth : Method} {c : Code} {l : Launch} {D : kG} {b L c0 c1 x1 mm out outD : Nat} {xs : Nat → Int32} {Q : State → Prop} (C0 : lwC D p l s m meth c b L c0 c1 out outD xs) {j : Nat} (hj : 3 * j + 3 ≤ L) {S : Ls} {gap : Int} {sn : Option Sg} {hs : List Sg} {t : List Int} {H : Heap} {locs : List Loc} {ls : Array Slot} (I0 : lwI D s b c0 c1 x1 mm out outD j j (S, gap) sn hs t H locs ls) {cells slots : Nat} (hcl : cells + 50000 ≤ 1200144) (hsl9 : slots + 228000 ≤ 5496058) (kk : ∀ (σ : Sg) (sn : Option Sg) (hs : List Sg) (t : List Int) (H : Heap) (locs : List Loc) (ls : Array Slot), lwI D s b c0 c1 x1 mm out outD j (j + 1) σ sn hs t H locs ls → W p l e lwR s m #[Value.ref b] below meth c H locs (cells + 50000) (slots + 228000) Q (F0 m 2493 ls [])) : W p l e lwR s m #[Value.ref b] below meth c H locs cells slots Q (F0 m 1436 ls []) := by
  obtain ⟨hx, hb, hml, hown, hts, hlk, hK, hl9, hX, hbl, hbs, hL72, hc0, hco, hod, hdc⟩ := C0
  obtain ⟨hS, hl, hW, hM, ⟨go, hA_out⟩, ⟨gd, hA_outD⟩, hc1, htl⟩ := I0
  have hB : ∀ q, (kNW s.heap) q → kBase D ≤ q := fun q h => Nat.le_trans hK.size h
  have hbA : ¬ (kNW s.heap) b := fun h => by have h9 : s.heap.size ≤ b := h; omega
  have hd9 := hK.dis
  have hxE : ¬ kBase D ≤ D.2.2.2 2 := hK.tE.out
  obtain ⟨z1, hz1⟩ : ∃ z, z = (xs (3 * j + 1)).toInt := ⟨_, rfl⟩
  obtain ⟨z2, hz2⟩ : ∃ z, z = (xs (3 * j + 2)).toInt := ⟨_, rfl⟩
  have hr1 : -2147483648 ≤ z1 ∧ z1 ≤ 2147483647 := by rw [hz1]; exact i32r _
  have hr2 : -2147483648 ≤ z2 ∧ z2 ≤ 2147483647 := by rw [hz2]; exact i32r _
  obtain ⟨⟨st, la, ea, F⟩, sl, hl2, hi, es, bu, vb, hO_x1, hDq, hTx, hX5, hev, hAl, hDj, hPw, hsl, hsn, hhs⟩ := id hW
  subst hsn
  subst hhs
  obtain ⟨ra, sa, ka, ta, nh, ik, th, sp9, iw, le9, fi9, se9, g, gs, gk, gt, hO_mm, hA_ra, hA_sa, hA_ka, hA_ta, hMr, hMh, hMk, hMt, ht60, hMd, hMb, hMi⟩ := id hM
  have hMr : MRow g S gap := hMr
  have h0 := hAl _ List.mem_cons_self
  have hP_kState_st : kState D H st la ea gap S F := h0.1
  have hok : LsOK S gap := h0.2.1
  have hG : StG S := h0.2.2.1
  have hL8 : S.length ≤ 8 := hok.1
  have hgp := hok.2.1
  have hO_x1 : kO D H x1 0 [.ref st, va_rf ((sl.map (fun a => a.1.1)).head?), .ref hi, .ref bu] := hO_x1
  have hOw : ∀ q, kOwn D st la ea F S.length q → q ∉ [x1, hi, es, bu, vb] ∧ (q < c0 ∨ c1 ≤ q) := h0.2.2.2
  have hev : Hd (es ≠ vb) := hev
  have io_x1 : ∀ x, c0 ≤ x → x < c1 → x ≠ x1 := fun x => out_of (hX5 x1 (by simp)).2
  have io_hi : ∀ x, c0 ≤ x → x < c1 → x ≠ hi := fun x => out_of (hX5 hi (by simp)).2
  have io_es : ∀ x, c0 ≤ x → x < c1 → x ≠ es := fun x => out_of (hX5 es (by simp)).2
  have io_bu : ∀ x, c0 ≤ x → x < c1 → x ≠ bu := fun x => out_of (hX5 bu (by simp)).2
  have io_vb : ∀ x, c0 ≤ x → x < c1 → x ≠ vb := fun x => out_of (hX5 vb (by simp)).2
  have b_x1 := (hX5 x1 (by simp)).1
  have b_hi := (hX5 hi (by simp)).1
  have b_es := (hX5 es (by simp)).1
  have b_bu := (hX5 bu (by simp)).1
  have b_vb := (hX5 vb (by simp)).1
  obtain ⟨⟨⟨n1, n2, n3, n4⟩, n5, n6, n7⟩, n8, n9, n10⟩ := hMd
  have n_mm_ra : Hd (mm ≠ ra) := n1
  have n_mm_sa : Hd (mm ≠ sa) := n2
  have n_mm_ka : Hd (mm ≠ ka) := n3
  have n_mm_ta : Hd (mm ≠ ta) := n4
  have n_ra_sa : Hd (ra ≠ sa) := n5
  have n_ra_ka : Hd (ra ≠ ka) := n6
  have n_ra_ta : Hd (ra ≠ ta) := n7
  have n_sa_ka : Hd (sa ≠ ka) := n8
  have n_sa_ta : Hd (sa ≠ ta) := n9
  have n_ka_ta : Hd (ka ≠ ta) := n10
  have hMd : Hd (((mm ≠ ra ∧ mm ≠ sa ∧ mm ≠ ka ∧ mm ≠ ta) ∧ ra ≠ sa ∧ ra ≠ ka ∧ ra ≠ ta) ∧ sa ≠ ka ∧ sa ≠ ta ∧ ka ≠ ta) := ⟨⟨⟨n1, n2, n3, n4⟩, n5, n6, n7⟩, n8, n9, n10⟩
  clear n1 n2 n3 n4 n5 n6 n7 n8 n9 n10
  obtain ⟨b_mm, b_ra, b_sa, b_ka, b_ta⟩ := id hMb
  obtain ⟨i_mm, i_ra, i_sa, i_ka, i_ta⟩ := id hMi
  have b_out : kBase D ≤ out := by omega
  have hcc : c0 ≤ c1 := by omega
  have w_mm : mm < c1 := by omega
  have n_mm_out : Hd (mm ≠ out) := Nat.ne_of_lt i_mm.2
  have n_mm_outD : Hd (mm ≠ outD) := Nat.ne_of_lt (Nat.lt_trans i_mm.2 hod)
  have w_ra : ra < c1 := by omega
  have n_ra_out : Hd (ra ≠ out) := Nat.ne_of_lt i_ra.2
  have n_ra_outD : Hd (ra ≠ outD) := Nat.ne_of_lt (Nat.lt_trans i_ra.2 hod)
  have w_sa : sa < c1 := by omega
  have n_sa_out : Hd (sa ≠ out) := Nat.ne_of_lt i_sa.2
  have n_sa_outD : Hd (sa ≠ outD) := Nat.ne_of_lt (Nat.lt_trans i_sa.2 hod)
  have w_ka : ka < c1 := by omega
  have n_ka_out : Hd (ka ≠ out) := Nat.ne_of_lt i_ka.2
  have n_ka_outD : Hd (ka ≠ outD) := Nat.ne_of_lt (Nat.lt_trans i_ka.2 hod)
  have w_ta : ta < c1 := by omega
  have n_ta_out : Hd (ta ≠ out) := Nat.ne_of_lt i_ta.2
  have n_ta_outD : Hd (ta ≠ outD) := Nat.ne_of_lt (Nat.lt_trans i_ta.2 hod)
  have ge_mm : ∀ q, q = mm → kNW s.heap q := fun q h => by rw [h]; show s.heap.size ≤ mm; omega
  have ge_ra : ∀ q, q = ra → kNW s.heap q := fun q h => by rw [h]; show s.heap.size ≤ ra; omega
  have ge_sa : ∀ q, q = sa → kNW s.heap q := fun q h => by rw [h]; show s.heap.size ≤ sa; omega
  have ge_ka : ∀ q, q = ka → kNW s.heap q := fun q h => by rw [h]; show s.heap.size ≤ ka; omega
  have ge_ta : ∀ q, q = ta → kNW s.heap q := fun q h => by rw [h]; show s.heap.size ≤ ta; omega
  have ge_out : ∀ q, q = out → kNW s.heap q := fun q h => by rw [h]; show s.heap.size ≤ out; omega
  have n_out_outD : Hd (out ≠ outD) := Nat.ne_of_lt hod
  have w_out : out < c1 := by omega
  have w_outD : outD < c1 := hdc
  have i_outD : c0 ≤ outD := by omega
  have htyo : kTy D H out := Or.inr ⟨2, _, by decide, hA_out⟩
  have htyd : kTy D H outD := Or.inr ⟨3, _, by decide, hA_outD⟩
  have to_out : ∀ x, x = out → H.size ≤ x ∨ (kTy D H x ∧ c0 ≤ x ∧ x < c1) := fun x h => by rw [h]; exact Or.inr ⟨htyo, hco, w_out⟩
  have to_outD : ∀ x, x = outD → H.size ≤ x ∨ (kTy D H x ∧ c0 ≤ x ∧ x < c1) := fun x h => by rw [h]; exact Or.inr ⟨htyd, i_outD, w_outD⟩
  obtain ⟨⟨hO_st, mc9, hO_la⟩, hLs9, hLn9, hF9, hDs9, hb1, hb2, hb3⟩ := id hP_kState_st
  by_cases hA : 0 ≤ z1 ∧ z1 < (S.length : Int)
  · -- hA
    obtain ⟨ln9, hv1⟩ : ∃ k : Nat, z1 = (k : Int) := ⟨z1.toNat, by omega⟩
    have hln : ln9 < S.length := by omega
    have hLn := hok.ln hln
    refine lv_aload_n hx hb dL_law_1436 rfl (lv_at hl 1 rfl) ?_
    refine lv_aload_n hx hb dL_law_1437 rfl (lv_at hl 0 rfl) ?_
    refine lv_iload hx hb dL_law_1438 (lv_at hl 5 rfl) ?_
    refine kx_iconst hx hb dL_law_1440 ?_
    refine kx_iadd hx hb dL_law_1441 ?_
    refine kx_sld (i := (((3 * j : Nat) : Int) + 1)) hx hb hX hbl hbA hS (3 * j + 1) (by omega) (by omega) (by omega) dL_law_1442 ?_
    refine kx_eqi (((ln9 : Nat) : Int)) (hz1.symm.trans hv1) ?_
    refine lv_aload_n hx hb dL_law_1443 rfl (lv_at hl 3 rfl) ?_
    refine kx_ci (vx_runSW (As := [.ref x1, .int (kI ((ln9 : Nat) : Int)), .ref out]) (rest := []) ⟨hx, hb, hml, hown, hts⟩ (wr_isTurned l hl9 D H x1 ((sl.map (fun a => a.1.1)).head?) hi bu st la mc9 ea F S gap ln9 out go hO_x1 hO_st hO_la hLs9 hLn9 hA_out (by first | assumption | omega) (by first | assumption | omega) (by first | assumption | omega)) (vx_cwSW 3 hts (lw_SW q2010 q2011 q78 q2012) rfl rfl rfl (by decide +kernel) ⟨Nat.le_of_ble_eq_true rfl, Nat.le_of_ble_eq_true rfl⟩) (kx_ps hK hS hB) rfl rfl hl.1 rfl (lv_room (Nat.le_of_ble_eq_true rfl)) dL_law_1444 ⟨by first | exact Nat.le_of_ble_eq_true rfl | omega | (dsimp only [lwR]; omega) | (show _ ≤ _; omega), by first | exact Nat.le_of_ble_eq_true rfl | omega | (dsimp only [lwR]; omega) | (show _ ≤ _; omega)⟩) hS (fun q _ h => (ge_out q) h) (fun q h => (ge_out q) h) (fun z_6 H_4 locs_1 hz_3 hF_5 hS_2 => ?_)
    have hzf_7 := hF_5.1
    obtain ⟨hv_8, ho_9⟩ := hz_3
    subst z_6
    refine lv_istore (lv' := [(6, .int (kI (0))), (0, .ref b), (1, .ref x1), (2, .ref mm), (3, .ref out), (4, .ref outD), (5, .int (kI ((3 * j : Nat) : Int)))]) hx hb dL_law_1447 hl (by decide) rfl (fun ls hl => ?_)
    refine lv_aload_n hx hb dL_law_1449 rfl (lv_at hl 3 rfl) ?_
    refine lv_aload_n hx hb dL_law_1450 rfl (lv_at hl 1 rfl) ?_
    refine lv_iload hx hb dL_law_1451 (lv_at hl 6 rfl) ?_
    refine kx_iconst hx hb dL_law_1453 ?_
    refine kx_iadd hx hb dL_law_1454 ?_
    refine kx_sld (i := (((3 * j : Nat) : Int) + 1)) hx hb hX hbl hbA hS_2 (3 * j + 1) (by omega) (by omega) (by omega) dL_law_1455 ?_
    refine kx_eqi (((ln9 : Nat) : Int)) (hz1.symm.trans hv1) ?_
    have h_10 := hO_mm.fr hF_5 (n_mm_out)
    have h_11 := hA_ra.fr hF_5 (n_ra_out)
    have h_12 := hA_sa.fr hF_5 (n_sa_out)
    have h_13 := hA_ka.fr hF_5 (n_ka_out)
    have h_14 := hA_ta.fr hF_5 (n_ta_out)
    have ty_mm : ∀ x, x = mm → H_4.size ≤ x ∨ (kTy D H_4 x ∧ c0 ≤ x ∧ x < c1) := fun x h => by rw [h]; exact Or.inr ⟨Or.inl ⟨2, _, by decide, by decide, by decide, h_10⟩, i_mm.1, w_mm⟩
    refine kx_cb (va_runV (As := [.int (kI ((ln9 : Nat) : Int))]) (rest := []) ⟨hx, hb, hml, hown, hts⟩ (m_X3_isTurned l D H_4 mm ra sa ka ta nh ik t.length th sp9 iw le9 fi9 se9 g S gap ln9 h_10 h_11 (by first | assumption | omega) (by first | assumption | omega) n_mm_ra b_mm (by first | assumption | omega)) (cwV 1 hts (lw_V q2516 q2517 q2518 q89 q2519) rfl rfl rfl (by decide +kernel) ⟨Nat.le_of_ble_eq_true rfl, Nat.le_of_ble_eq_true rfl⟩) (kx_pv hK hS_2 hB (kx_rc hK h_10 (C := RX3) (T := TX3) (N := 13) rfl)) rfl rfl hl.1 rfl (lv_room (Nat.le_of_ble_eq_true rfl)) dL_law_1456 ⟨by first | exact Nat.le_of_ble_eq_true rfl | omega | (dsimp only [lwR]; omega) | (show _ ≤ _; omega), by first | exact Nat.le_of_ble_eq_true rfl | omega | (dsimp only [lwR]; omega) | (show _ ≤ _; omega)⟩) hS_2 (fun q _ h => (ge_mm q) h) (fun q h => (ge_mm q) h) (fun z_20 H_18 locs_15 hz_17 hF_19 hS_16 => ?_)
    have hzf_21 := hF_19.1
    obtain ⟨hv_22, ho_23⟩ := hz_17
    subst z_20
    refine lv_istore (lv' := [(7, .int (kI (kb (ln_left (st_ln S ln9))))), (6, .int (kI (0))), (0, .ref b), (1, .ref x1), (2, .ref mm), (3, .ref out), (4, .ref outD), (5, .int (kI ((3 * j : Nat) : Int)))]) hx hb dL_law_1459 hl (by decide) rfl (fun ls hl => ?_)
    refine lv_aload_n hx hb dL_law_1461 rfl (lv_at hl 4 rfl) ?_
    refine kx_ci0 (va_runV (As := []) (rest := []) ⟨hx, hb, hml, hown, hts⟩ (m_X3_thrown l D H_18 mm ra sa ka ta nh ik t.length 0 sp9 iw le9 fi9 se9 ho_23 ) (cwV 0 hts (lw_V q2278 q2279 q2280 q89 q2281) rfl rfl rfl (by decide +kernel) ⟨Nat.le_of_ble_eq_true rfl, Nat.le_of_ble_eq_true rfl⟩) (kx_pv hK hS_16 hB (kx_rc hK ho_23 (C := RX3) (T := TX3) (N := 13) rfl)) rfl rfl hl.1 rfl (lv_room (Nat.le_of_ble_eq_true rfl)) dL_law_1462 ⟨by first | exact Nat.le_of_ble_eq_true rfl | omega | (dsimp only [lwR]; omega) | (show _ ≤ _; omega), by first | exact Nat.le_of_ble_eq_true rfl | omega | (dsimp only [lwR]; omega) | (show _ ≤ _; omega)⟩) hS_16 (fun z_27 locs_24 hz_26 hS_25 => ?_)
    subst z_27
    refine lv_iload hx hb dL_law_1465 (lv_at hl 1 rfl) ?_
    refine kx_icmp_eq (x := 0) (y := 0) (tgt := 1472) hx hb dL_law_1467 (by decide) (by omega) (by omega) (by omega) (by omega) (fun c_1467_28 => ?_) (fun c_1467_28 => ?_)
    · -- taken at 1467
      refine lv_iload hx hb dL_law_1472 (lv_at hl 1 rfl) ?_
      refine kx_if_ne (x := 0) (tgt := 1496) hx hb dL_law_1474 (by decide) (by omega) (by omega) (fun c_1474_29 => ?_) (fun c_1474_29 => ?_)
      · -- taken at 1474
        exfalso; omega
      · -- not taken at 1474
        refine lv_aload_n hx hb dL_law_1477 rfl (lv_at hl 5 rfl) ?_
        refine kx_iconst hx hb dL_law_1478 ?_
        have h_30 := ho_9.fr hF_19 (n_mm_out.sm)
        refine kx_lald (i := 0) hx hb hK h_30 0 rfl (by decide) (by decide) dL_law_1479 ?_
        refine lv_iload hx hb dL_law_1480 (lv_at hl 0 rfl) ?_
        refine kx_ifz (tgt := 1489) hx hb dL_law_1482 (by decide) (fun cb9 => ?_) (fun cb9 => ?_)
        · -- taken at 1482
          refine kx_lconst0 hx hb dL_law_1489 ?_
          refine kx_lcmpE hx hb (x := ((kup go 0 (kL (kb (ln_left (st_ln S ln9)))))) 0) (y := kL (0)) ((kup_self _ _ _).trans (by first | rfl | (rw [cb9]; rfl))) dL_law_1490 ?_
          refine kx_if_eq (x := 0) (tgt := 1496) hx hb dL_law_1491 (by decide) (by omega) (by omega) (fun c_1491_31 => ?_) (fun c_1491_31 => ?_)
          · -- taken at 1491
            refine lv_goto (tgt := 2493) hx hb dL_law_1496 (by decide) ?_
            have h_32 := h_11.fr hF_19 (n_mm_ra.sm)
            have h_33 := h_12.fr hF_19 (n_mm_sa.sm)
            have h_34 := h_13.fr hF_19 (n_mm_ka.sm)
            have h_35 := h_14.fr hF_19 (n_mm_ta.sm)
            have h_36 := hA_outD.fr hF_5 (n_out_outD.sm)
            have h_37 := h_36.fr hF_19 (n_mm_outD.sm)
            have h_38 := hW.fr hd9 hF_5 (fun x => (to_out x))
            have h_39 := h_38.fr hd9 hF_19 (fun x => (ty_mm x))
            refine W.widen (k := cells + 50000) (n := slots + 228000) (by omega) (by omega) ?_
            have hM9 : kM D H_18 c0 out mm (S, gap) ((sl.map Prod.snd).head?) (hl2.map Prod.snd) t := ⟨ra, sa, ka, ta, _, _, _, _, _, _, _, _, _, _, _, _, ho_23, h_32, h_33, h_34, h_35, hMr, hMh, hMk, hMt, ht60, hMd, hMb, hMi⟩
            exact kk (S, gap) ((sl.map Prod.snd).head?) (hl2.map Prod.snd) t _ _ _ ⟨hS_25, lv_sub hl [2, 3, 4, 5, 6, 7] rfl, h_39, hM9, ⟨_, h_30⟩, ⟨_, h_37⟩, by omega, by omega⟩
          · -- not taken at 1491
            exfalso; omega
        · -- not taken at 1482
          refine kx_lconst1 hx hb dL_law_1485 ?_
          refine lv_goto (tgt := 1490) hx hb dL_law_1486 (by decide) ?_
          refine kx_lcmpE hx hb (x := ((kup go 0 (kL (kb (ln_left (st_ln S ln9)))))) 0) (y := kL (1)) ((kup_self _ _ _).trans (by first | rfl | (rw [cb9]; rfl))) dL_law_1490 ?_
          refine kx_if_eq (x := 0) (tgt := 1496) hx hb dL_law_1491 (by decide) (by omega) (by omega) (fun c_1491_40 => ?_) (fun c_1491_40 => ?_)
          · -- taken at 1491
            refine lv_goto (tgt := 2493) hx hb dL_law_1496 (by decide) ?_
            have h_41 := h_11.fr hF_19 (n_mm_ra.sm)
            have h_42 := h_12.fr hF_19 (n_mm_sa.sm)
            have h_43 := h_13.fr hF_19 (n_mm_ka.sm)
            have h_44 := h_14.fr hF_19 (n_mm_ta.sm)
            have h_45 := hA_outD.fr hF_5 (n_out_outD.sm)
            have h_46 := h_45.fr hF_19 (n_mm_outD.sm)
            have h_47 := hW.fr hd9 hF_5 (fun x => (to_out x))
            have h_48 := h_47.fr hd9 hF_19 (fun x => (ty_mm x))
            refine W.widen (k := cells + 50000) (n := slots + 228000) (by omega) (by omega) ?_
            have hM9 : kM D H_18 c0 out mm (S, gap) ((sl.map Prod.snd).head?) (hl2.map Prod.snd) t := ⟨ra, sa, ka, ta, _, _, _, _, _, _, _, _, _, _, _, _, ho_23, h_41, h_42, h_43, h_44, hMr, hMh, hMk, hMt, ht60, hMd, hMb, hMi⟩
            exact kk (S, gap) ((sl.map Prod.snd).head?) (hl2.map Prod.snd) t _ _ _ ⟨hS_25, lv_sub hl [2, 3, 4, 5, 6, 7] rfl, h_48, hM9, ⟨_, h_30⟩, ⟨_, h_46⟩, by omega, by omega⟩
          · -- not taken at 1491
            exfalso; omega
    · -- not taken at 1467
      exfalso; omega
  · -- hA
    refine lv_aload_n hx hb dL_law_1436 rfl (lv_at hl 1 rfl) ?_
    refine lv_aload_n hx hb dL_law_1437 rfl (lv_at hl 0 rfl) ?_
    refine lv_iload hx hb dL_law_1438 (lv_at hl 5 rfl) ?_
    refine kx_iconst hx hb dL_law_1440 ?_
    refine kx_iadd hx hb dL_law_1441 ?_
    refine kx_sld (i := (((3 * j : Nat) : Int) + 1)) hx hb hX hbl hbA hS (3 * j + 1) (by omega) (by omega) (by omega) dL_law_1442 ?_
    refine kx_eqi (z1) (hz1.symm) ?_
    refine lv_aload_n hx hb dL_law_1443 rfl (lv_at hl 3 rfl) ?_
    refine kx_ci (vx_runSW (As := [.ref x1, .int (kI (z1)), .ref out]) (rest := []) ⟨hx, hb, hml, hown, hts⟩ (wx_isTurned l hl9 D H x1 ((sl.map (fun a => a.1.1)).head?) hi bu st la mc9 ea F S gap z1 out hO_x1 hO_st hO_la hLs9 hLn9 (by first | assumption | omega) (by first | assumption | omega) (by first | assumption | omega)) (vx_cwSW 3 hts (lw_SW q2010 q2011 q78 q2012) rfl rfl rfl (by decide +kernel) ⟨Nat.le_of_ble_eq_true rfl, Nat.le_of_ble_eq_true rfl⟩) (kx_ps hK hS hB) rfl rfl hl.1 rfl (lv_room (Nat.le_of_ble_eq_true rfl)) dL_law_1444 ⟨by first | exact Nat.le_of_ble_eq_true rfl | omega | (dsimp only [lwR]; omega) | (show _ ≤ _; omega), by first | exact Nat.le_of_ble_eq_true rfl | omega | (dsimp only [lwR]; omega) | (show _ ≤ _; omega)⟩) hS (fun q _ h => by have h9 := hS.1; (try dsimp only at h); (try dsimp only); (try simp only [kNW] at h); (try simp only [kNW]); omega) (fun q h => by have h9 := hS.1; (try dsimp only at h); (try dsimp only); (try simp only [kNW] at h); (try simp only [kNW]); omega) (fun z_54 H_52 locs_49 hz_51 hF_53 hS_50 => ?_)
    have hzf_55 := hF_53.1
    have hF_53 := hF_53.nw
    obtain ⟨hv_56, hnw_57⟩ := hz_51
    subst z_54
    refine lv_istore (lv' := [(6, .int (kI (1))), (0, .ref b), (1, .ref x1), (2, .ref mm), (3, .ref out), (4, .ref outD), (5, .int (kI ((3 * j : Nat) : Int)))]) hx hb dL_law_1447 hl (by decide) rfl (fun ls hl => ?_)
    refine lv_aload_n hx hb dL_law_1449 rfl (lv_at hl 3 rfl) ?_
    refine lv_aload_n hx hb dL_law_1450 rfl (lv_at hl 1 rfl) ?_
    refine lv_iload hx hb dL_law_1451 (lv_at hl 6 rfl) ?_
    refine kx_iconst hx hb dL_law_1453 ?_
    refine kx_iadd hx hb dL_law_1454 ?_
    refine kx_sld (i := (((3 * j : Nat) : Int) + 1)) hx hb hX hbl hbA hS_50 (3 * j + 1) (by omega) (by omega) (by omega) dL_law_1455 ?_
    refine kx_eqi (z1) (hz1.symm) ?_
    have h_58 := hO_mm.ex hF_53
    have h_59 := hA_ra.ex hF_53
    have h_60 := hA_sa.ex hF_53
    have h_61 := hA_ka.ex hF_53
    have h_62 := hA_ta.ex hF_53
    have ty_mm : ∀ x, x = mm → H_52.size ≤ x ∨ (kTy D H_52 x ∧ c0 ≤ x ∧ x < c1) := fun x h => by rw [h]; exact Or.inr ⟨Or.inl ⟨2, _, by decide, by decide, by decide, h_58⟩, i_mm.1, w_mm⟩
    refine kx_cb (va_runV (As := [.int (kI (z1))]) (rest := []) ⟨hx, hb, hml, hown, hts⟩ (m_X3_isTurned_no l D H_52 mm ra sa ka ta nh ik t.length th sp9 iw le9 fi9 se9 g S gap z1 h_58 h_59 (by first | assumption | omega) (by first | assumption | omega) n_mm_ra b_mm (by first | assumption | omega) (by first | assumption | omega)) (cwV 1 hts (lw_V q2516 q2517 q2518 q89 q2519) rfl rfl rfl (by decide +kernel) ⟨Nat.le_of_ble_eq_true rfl, Nat.le_of_ble_eq_true rfl⟩) (kx_pv hK hS_50 hB (kx_rc hK h_58 (C := RX3) (T := TX3) (N := 13) rfl)) rfl rfl hl.1 rfl (lv_room (Nat.le_of_ble_eq_true rfl)) dL_law_1456 ⟨by first | exact Nat.le_of_ble_eq_true rfl | omega | (dsimp only [lwR]; omega) | (show _ ≤ _; omega), by first | exact Nat.le_of_ble_eq_true rfl | omega | (dsimp only [lwR]; omega) | (show _ ≤ _; omega)⟩) hS_50 (fun q _ h => (ge_mm q) h) (fun q h => (ge_mm q) h) (fun z_68 H_66 locs_63 hz_65 hF_67 hS_64 => ?_)
    have hzf_69 := hF_67.1
    obtain ⟨hv_70, ho_71⟩ := hz_65
    subst z_68
    refine lv_istore (lv' := [(7, .int (kI (kb (false)))), (6, .int (kI (1))), (0, .ref b), (1, .ref x1), (2, .ref mm), (3, .ref out), (4, .ref outD), (5, .int (kI ((3 * j : Nat) : Int)))]) hx hb dL_law_1459 hl (by decide) rfl (fun ls hl => ?_)
    refine lv_aload_n hx hb dL_law_1461 rfl (lv_at hl 4 rfl) ?_
    refine kx_ci0 (va_runV (As := []) (rest := []) ⟨hx, hb, hml, hown, hts⟩ (m_X3_thrown l D H_66 mm ra sa ka ta nh ik t.length 1 sp9 iw le9 fi9 se9 ho_71 ) (cwV 0 hts (lw_V q2278 q2279 q2280 q89 q2281) rfl rfl rfl (by decide +kernel) ⟨Nat.le_of_ble_eq_true rfl, Nat.le_of_ble_eq_true rfl⟩) (kx_pv hK hS_64 hB (kx_rc hK ho_71 (C := RX3) (T := TX3) (N := 13) rfl)) rfl rfl hl.1 rfl (lv_room (Nat.le_of_ble_eq_true rfl)) dL_law_1462 ⟨by first | exact Nat.le_of_ble_eq_true rfl | omega | (dsimp only [lwR]; omega) | (show _ ≤ _; omega), by first | exact Nat.le_of_ble_eq_true rfl | omega | (dsimp only [lwR]; omega) | (show _ ≤ _; omega)⟩) hS_64 (fun z_75 locs_72 hz_74 hS_73 => ?_)
    subst z_75
    refine lv_iload hx hb dL_law_1465 (lv_at hl 1 rfl) ?_
    refine kx_icmp_eq (x := 1) (y := 1) (tgt := 1472) hx hb dL_law_1467 (by decide) (by omega) (by omega) (by omega) (by omega) (fun c_1467_76 => ?_) (fun c_1467_76 => ?_)
    · -- taken at 1467
      refine lv_iload hx hb dL_law_1472 (lv_at hl 1 rfl) ?_
      refine kx_if_ne (x := 1) (tgt := 1496) hx hb dL_law_1474 (by decide) (by omega) (by omega) (fun c_1474_77 => ?_) (fun c_1474_77 => ?_)
      · -- taken at 1474
        refine lv_goto (tgt := 2493) hx hb dL_law_1496 (by decide) ?_
        have h_78 := h_59.fr hF_67 (n_mm_ra.sm)
        have h_79 := h_60.fr hF_67 (n_mm_sa.sm)
        have h_80 := h_61.fr hF_67 (n_mm_ka.sm)
        have h_81 := h_62.fr hF_67 (n_mm_ta.sm)
        have h_82 := hA_out.ex hF_53
        have h_83 := h_82.fr hF_67 (n_mm_out.sm)
        have h_84 := hA_outD.ex hF_53
        have h_85 := h_84.fr hF_67 (n_mm_outD.sm)
        have h_86 := hW.ex hd9 hF_53
        have h_87 := h_86.fr hd9 hF_67 (fun x => (ty_mm x))
        refine W.widen (k := cells + 50000) (n := slots + 228000) (by omega) (by omega) ?_
        have hM9 : kM D H_66 c0 out mm (S, gap) ((sl.map Prod.snd).head?) (hl2.map Prod.snd) t := ⟨ra, sa, ka, ta, _, _, _, _, _, _, _, _, _, _, _, _, ho_71, h_78, h_79, h_80, h_81, hMr, hMh, hMk, hMt, ht60, hMd, hMb, hMi⟩
        exact kk (S, gap) ((sl.map Prod.snd).head?) (hl2.map Prod.snd) t _ _ _ ⟨hS_73, lv_sub hl [2, 3, 4, 5, 6, 7] rfl, h_87, hM9, ⟨_, h_83⟩, ⟨_, h_85⟩, by omega, by omega⟩
      · -- not taken at 1474
        exfalso; omega
    · -- not taken at 1467
      exfalso; omega

set_option maxHeartbeats 8000000 in
set_option maxRecDepth 100000 in
theorem lc_readFrom {p : Program} {e : Env} {s : State} {m : MethodId} {below : List Frame} {meth : Method} {c : Code} {l : Launch} {D : kG} {b L c0 c1 x1 mm out outD : Nat} {xs : Nat → Int32} {Q : State → Prop} (C0 : lwC D p l s m meth c b L c0 c1 out outD xs) {j : Nat} (hj : 3 * j + 3 ≤ L) {S : Ls} {gap : Int} {sn : Option Sg} {hs : List Sg} {t : List Int} {H : Heap} {locs : List Loc} {ls : Array Slot} (I0 : lwI D s b c0 c1 x1 mm out outD j j (S, gap) sn hs t H locs ls) {cells slots : Nat} (hcl : cells + 50000 ≤ 1200144) (hsl9 : slots + 228000 ≤ 5496058) (kk : ∀ (σ : Sg) (sn : Option Sg) (hs : List Sg) (t : List Int) (H : Heap) (locs : List Loc) (ls : Array Slot), lwI D s b c0 c1 x1 mm out outD j (j + 1) σ sn hs t H locs ls → W p l e lwR s m #[Value.ref b] below meth c H locs (cells + 50000) (slots + 228000) Q (F0 m 2493 ls [])) : W p l e lwR s m #[Value.ref b] below meth c H locs cells slots Q (F0 m 1499 ls []) := by
  obtain ⟨hx, hb, hml, hown, hts, hlk, hK, hl9, hX, hbl, hbs, hL72, hc0, hco, hod, hdc⟩ := C0
  obtain ⟨hS, hl, hW, hM, ⟨go, hA_out⟩, ⟨gd, hA_outD⟩, hc1, htl⟩ := I0
  have hB : ∀ q, (kNW s.heap) q → kBase D ≤ q := fun q h => Nat.le_trans hK.size h
  have hbA : ¬ (kNW s.heap) b := fun h => by have h9 : s.heap.size ≤ b := h; omega
  have hd9 := hK.dis
  have hxE : ¬ kBase D ≤ D.2.2.2 2 := hK.tE.out
  obtain ⟨z1, hz1⟩ : ∃ z, z = (xs (3 * j + 1)).toInt := ⟨_, rfl⟩
  obtain ⟨z2, hz2⟩ : ∃ z, z = (xs (3 * j + 2)).toInt := ⟨_, rfl⟩
  have hr1 : -2147483648 ≤ z1 ∧ z1 ≤ 2147483647 := by rw [hz1]; exact i32r _
  have hr2 : -2147483648 ≤ z2 ∧ z2 ≤ 2147483647 := by rw [hz2]; exact i32r _
  obtain ⟨⟨st, la, ea, F⟩, sl, hl2, hi, es, bu, vb, hO_x1, hDq, hTx, hX5, hev, hAl, hDj, hPw, hsl, hsn, hhs⟩ := id hW
  subst hsn
  subst hhs
  obtain ⟨ra, sa, ka, ta, nh, ik, th, sp9, iw, le9, fi9, se9, g, gs, gk, gt, hO_mm, hA_ra, hA_sa, hA_ka, hA_ta, hMr, hMh, hMk, hMt, ht60, hMd, hMb, hMi⟩ := id hM
  have hMr : MRow g S gap := hMr
  have h0 := hAl _ List.mem_cons_self
  have hP_kState_st : kState D H st la ea gap S F := h0.1
  have hok : LsOK S gap := h0.2.1
  have hG : StG S := h0.2.2.1
  have hL8 : S.length ≤ 8 := hok.1
  have hgp := hok.2.1
  have hO_x1 : kO D H x1 0 [.ref st, va_rf ((sl.map (fun a => a.1.1)).head?), .ref hi, .ref bu] := hO_x1
  have hOw : ∀ q, kOwn D st la ea F S.length q → q ∉ [x1, hi, es, bu, vb] ∧ (q < c0 ∨ c1 ≤ q) := h0.2.2.2
  have hev : Hd (es ≠ vb) := hev
  have io_x1 : ∀ x, c0 ≤ x → x < c1 → x ≠ x1 := fun x => out_of (hX5 x1 (by simp)).2
  have io_hi : ∀ x, c0 ≤ x → x < c1 → x ≠ hi := fun x => out_of (hX5 hi (by simp)).2
  have io_es : ∀ x, c0 ≤ x → x < c1 → x ≠ es := fun x => out_of (hX5 es (by simp)).2
  have io_bu : ∀ x, c0 ≤ x → x < c1 → x ≠ bu := fun x => out_of (hX5 bu (by simp)).2
  have io_vb : ∀ x, c0 ≤ x → x < c1 → x ≠ vb := fun x => out_of (hX5 vb (by simp)).2
  have b_x1 := (hX5 x1 (by simp)).1
  have b_hi := (hX5 hi (by simp)).1
  have b_es := (hX5 es (by simp)).1
  have b_bu := (hX5 bu (by simp)).1
  have b_vb := (hX5 vb (by simp)).1
  obtain ⟨⟨⟨n1, n2, n3, n4⟩, n5, n6, n7⟩, n8, n9, n10⟩ := hMd
  have n_mm_ra : Hd (mm ≠ ra) := n1
  have n_mm_sa : Hd (mm ≠ sa) := n2
  have n_mm_ka : Hd (mm ≠ ka) := n3
  have n_mm_ta : Hd (mm ≠ ta) := n4
  have n_ra_sa : Hd (ra ≠ sa) := n5
  have n_ra_ka : Hd (ra ≠ ka) := n6
  have n_ra_ta : Hd (ra ≠ ta) := n7
  have n_sa_ka : Hd (sa ≠ ka) := n8
  have n_sa_ta : Hd (sa ≠ ta) := n9
  have n_ka_ta : Hd (ka ≠ ta) := n10
  have hMd : Hd (((mm ≠ ra ∧ mm ≠ sa ∧ mm ≠ ka ∧ mm ≠ ta) ∧ ra ≠ sa ∧ ra ≠ ka ∧ ra ≠ ta) ∧ sa ≠ ka ∧ sa ≠ ta ∧ ka ≠ ta) := ⟨⟨⟨n1, n2, n3, n4⟩, n5, n6, n7⟩, n8, n9, n10⟩
  clear n1 n2 n3 n4 n5 n6 n7 n8 n9 n10
  obtain ⟨b_mm, b_ra, b_sa, b_ka, b_ta⟩ := id hMb
  obtain ⟨i_mm, i_ra, i_sa, i_ka, i_ta⟩ := id hMi
  have b_out : kBase D ≤ out := by omega
  have hcc : c0 ≤ c1 := by omega
  have w_mm : mm < c1 := by omega
  have n_mm_out : Hd (mm ≠ out) := Nat.ne_of_lt i_mm.2
  have n_mm_outD : Hd (mm ≠ outD) := Nat.ne_of_lt (Nat.lt_trans i_mm.2 hod)
  have w_ra : ra < c1 := by omega
  have n_ra_out : Hd (ra ≠ out) := Nat.ne_of_lt i_ra.2
  have n_ra_outD : Hd (ra ≠ outD) := Nat.ne_of_lt (Nat.lt_trans i_ra.2 hod)
  have w_sa : sa < c1 := by omega
  have n_sa_out : Hd (sa ≠ out) := Nat.ne_of_lt i_sa.2
  have n_sa_outD : Hd (sa ≠ outD) := Nat.ne_of_lt (Nat.lt_trans i_sa.2 hod)
  have w_ka : ka < c1 := by omega
  have n_ka_out : Hd (ka ≠ out) := Nat.ne_of_lt i_ka.2
  have n_ka_outD : Hd (ka ≠ outD) := Nat.ne_of_lt (Nat.lt_trans i_ka.2 hod)
  have w_ta : ta < c1 := by omega
  have n_ta_out : Hd (ta ≠ out) := Nat.ne_of_lt i_ta.2
  have n_ta_outD : Hd (ta ≠ outD) := Nat.ne_of_lt (Nat.lt_trans i_ta.2 hod)
  have ge_mm : ∀ q, q = mm → kNW s.heap q := fun q h => by rw [h]; show s.heap.size ≤ mm; omega
  have ge_ra : ∀ q, q = ra → kNW s.heap q := fun q h => by rw [h]; show s.heap.size ≤ ra; omega
  have ge_sa : ∀ q, q = sa → kNW s.heap q := fun q h => by rw [h]; show s.heap.size ≤ sa; omega
  have ge_ka : ∀ q, q = ka → kNW s.heap q := fun q h => by rw [h]; show s.heap.size ≤ ka; omega
  have ge_ta : ∀ q, q = ta → kNW s.heap q := fun q h => by rw [h]; show s.heap.size ≤ ta; omega
  have ge_out : ∀ q, q = out → kNW s.heap q := fun q h => by rw [h]; show s.heap.size ≤ out; omega
  have n_out_outD : Hd (out ≠ outD) := Nat.ne_of_lt hod
  have w_out : out < c1 := by omega
  have w_outD : outD < c1 := hdc
  have i_outD : c0 ≤ outD := by omega
  have htyo : kTy D H out := Or.inr ⟨2, _, by decide, hA_out⟩
  have htyd : kTy D H outD := Or.inr ⟨3, _, by decide, hA_outD⟩
  have to_out : ∀ x, x = out → H.size ≤ x ∨ (kTy D H x ∧ c0 ≤ x ∧ x < c1) := fun x h => by rw [h]; exact Or.inr ⟨htyo, hco, w_out⟩
  have to_outD : ∀ x, x = outD → H.size ≤ x ∨ (kTy D H x ∧ c0 ≤ x ∧ x < c1) := fun x h => by rw [h]; exact Or.inr ⟨htyd, i_outD, w_outD⟩
  obtain ⟨⟨hO_st, mc9, hO_la⟩, hLs9, hLn9, hF9, hDs9, hb1, hb2, hb3⟩ := id hP_kState_st
  by_cases hA : 0 ≤ z1 ∧ z1 < (S.length : Int)
  · -- hA
    obtain ⟨ln9, hv1⟩ : ∃ k : Nat, z1 = (k : Int) := ⟨z1.toNat, by omega⟩
    have hln : ln9 < S.length := by omega
    have hLn := hok.ln hln
    have hr9 := rd_rng hLn
    have hn9 := hLn.n
    have hrv : -2147483648 ≤ (if ln_lb (st_ln S ln9) = -1 then -1 else if ln_left (st_ln S ln9) = true then ln_pos (st_ln S ln9) ((ln_lb (st_ln S ln9)).toNat + ln_size (st_ln S ln9) - 1) else ln_pos (st_ln S ln9) (ln_lb (st_ln S ln9)).toNat) ∧ (if ln_lb (st_ln S ln9) = -1 then -1 else if ln_left (st_ln S ln9) = true then ln_pos (st_ln S ln9) ((ln_lb (st_ln S ln9)).toNat + ln_size (st_ln S ln9) - 1) else ln_pos (st_ln S ln9) (ln_lb (st_ln S ln9)).toNat) ≤ 2147483647 := hr9
    refine lv_aload_n hx hb dL_law_1499 rfl (lv_at hl 1 rfl) ?_
    refine lv_aload_n hx hb dL_law_1500 rfl (lv_at hl 0 rfl) ?_
    refine lv_iload hx hb dL_law_1501 (lv_at hl 5 rfl) ?_
    refine kx_iconst hx hb dL_law_1503 ?_
    refine kx_iadd hx hb dL_law_1504 ?_
    refine kx_sld (i := (((3 * j : Nat) : Int) + 1)) hx hb hX hbl hbA hS (3 * j + 1) (by omega) (by omega) (by omega) dL_law_1505 ?_
    refine kx_eqi (((ln9 : Nat) : Int)) (hz1.symm.trans hv1) ?_
    refine lv_aload_n hx hb dL_law_1506 rfl (lv_at hl 3 rfl) ?_
    refine kx_ci (vx_runSW (As := [.ref x1, .int (kI ((ln9 : Nat) : Int)), .ref out]) (rest := []) ⟨hx, hb, hml, hown, hts⟩ (wr_readFrom l hl9 D H x1 ((sl.map (fun a => a.1.1)).head?) hi bu st la mc9 ea F S gap ln9 out go hO_x1 hO_st hO_la hLs9 hLn9 hA_out (by first | assumption | omega) (by first | assumption | omega) (by first | assumption | omega) (by first | assumption | omega)) (vx_cwSW 3 hts (lw_SW q2021 q2022 q78 q2023) rfl rfl rfl (by decide +kernel) ⟨Nat.le_of_ble_eq_true rfl, Nat.le_of_ble_eq_true rfl⟩) (kx_ps hK hS hB) rfl rfl hl.1 rfl (lv_room (Nat.le_of_ble_eq_true rfl)) dL_law_1507 ⟨by first | exact Nat.le_of_ble_eq_true rfl | omega | (dsimp only [lwR]; omega) | (show _ ≤ _; omega), by first | exact Nat.le_of_ble_eq_true rfl | omega | (dsimp only [lwR]; omega) | (show _ ≤ _; omega)⟩) hS (fun q _ h => (ge_out q) h) (fun q h => (ge_out q) h) (fun z_6 H_4 locs_1 hz_3 hF_5 hS_2 => ?_)
    have hzf_7 := hF_5.1
    obtain ⟨hv_8, ho_9⟩ := hz_3
    subst z_6
    refine lv_istore (lv' := [(6, .int (kI (0))), (0, .ref b), (1, .ref x1), (2, .ref mm), (3, .ref out), (4, .ref outD), (5, .int (kI ((3 * j : Nat) : Int)))]) hx hb dL_law_1510 hl (by decide) rfl (fun ls hl => ?_)
    refine lv_aload_n hx hb dL_law_1512 rfl (lv_at hl 3 rfl) ?_
    refine lv_aload_n hx hb dL_law_1513 rfl (lv_at hl 1 rfl) ?_
    refine lv_iload hx hb dL_law_1514 (lv_at hl 6 rfl) ?_
    refine kx_iconst hx hb dL_law_1516 ?_
    refine kx_iadd hx hb dL_law_1517 ?_
    refine kx_sld (i := (((3 * j : Nat) : Int) + 1)) hx hb hX hbl hbA hS_2 (3 * j + 1) (by omega) (by omega) (by omega) dL_law_1518 ?_
    refine kx_eqi (((ln9 : Nat) : Int)) (hz1.symm.trans hv1) ?_
    have h_10 := hO_mm.fr hF_5 (n_mm_out)
    have h_11 := hA_ra.fr hF_5 (n_ra_out)
    have h_12 := hA_sa.fr hF_5 (n_sa_out)
    have h_13 := hA_ka.fr hF_5 (n_ka_out)
    have h_14 := hA_ta.fr hF_5 (n_ta_out)
    have ty_mm : ∀ x, x = mm → H_4.size ≤ x ∨ (kTy D H_4 x ∧ c0 ≤ x ∧ x < c1) := fun x h => by rw [h]; exact Or.inr ⟨Or.inl ⟨2, _, by decide, by decide, by decide, h_10⟩, i_mm.1, w_mm⟩
    refine kx_ci (va_runV (As := [.int (kI ((ln9 : Nat) : Int))]) (rest := []) ⟨hx, hb, hml, hown, hts⟩ (m_X3_readFrom l D H_4 mm ra sa ka ta nh ik t.length th sp9 iw le9 fi9 se9 g S gap ln9 h_10 h_11 (by first | assumption | omega) (by first | assumption | omega) n_mm_ra b_mm (by first | assumption | omega)) (cwV 1 hts (lw_V q2528 q2529 q2530 q89 q2531) rfl rfl rfl (by decide +kernel) ⟨Nat.le_of_ble_eq_true rfl, Nat.le_of_ble_eq_true rfl⟩) (kx_pv hK hS_2 hB (kx_rc hK h_10 (C := RX3) (T := TX3) (N := 13) rfl)) rfl rfl hl.1 rfl (lv_room (Nat.le_of_ble_eq_true rfl)) dL_law_1519 ⟨by first | exact Nat.le_of_ble_eq_true rfl | omega | (dsimp only [lwR]; omega) | (show _ ≤ _; omega), by first | exact Nat.le_of_ble_eq_true rfl | omega | (dsimp only [lwR]; omega) | (show _ ≤ _; omega)⟩) hS_2 (fun q _ h => (ge_mm q) h) (fun q h => (ge_mm q) h) (fun z_20 H_18 locs_15 hz_17 hF_19 hS_16 => ?_)
    have hzf_21 := hF_19.1
    obtain ⟨hv_22, ho_23⟩ := hz_17
    subst z_20
    refine lv_istore (lv' := [(7, .int (kI ((if ln_lb (st_ln S ln9) = -1 then -1 else if ln_left (st_ln S ln9) = true then ln_pos (st_ln S ln9) ((ln_lb (st_ln S ln9)).toNat + ln_size (st_ln S ln9) - 1) else ln_pos (st_ln S ln9) (ln_lb (st_ln S ln9)).toNat)))), (6, .int (kI (0))), (0, .ref b), (1, .ref x1), (2, .ref mm), (3, .ref out), (4, .ref outD), (5, .int (kI ((3 * j : Nat) : Int)))]) hx hb dL_law_1522 hl (by decide) rfl (fun ls hl => ?_)
    refine lv_aload_n hx hb dL_law_1524 rfl (lv_at hl 4 rfl) ?_
    refine kx_ci0 (va_runV (As := []) (rest := []) ⟨hx, hb, hml, hown, hts⟩ (m_X3_thrown l D H_18 mm ra sa ka ta nh ik t.length 0 sp9 iw le9 fi9 se9 ho_23 ) (cwV 0 hts (lw_V q2278 q2279 q2280 q89 q2281) rfl rfl rfl (by decide +kernel) ⟨Nat.le_of_ble_eq_true rfl, Nat.le_of_ble_eq_true rfl⟩) (kx_pv hK hS_16 hB (kx_rc hK ho_23 (C := RX3) (T := TX3) (N := 13) rfl)) rfl rfl hl.1 rfl (lv_room (Nat.le_of_ble_eq_true rfl)) dL_law_1525 ⟨by first | exact Nat.le_of_ble_eq_true rfl | omega | (dsimp only [lwR]; omega) | (show _ ≤ _; omega), by first | exact Nat.le_of_ble_eq_true rfl | omega | (dsimp only [lwR]; omega) | (show _ ≤ _; omega)⟩) hS_16 (fun z_27 locs_24 hz_26 hS_25 => ?_)
    subst z_27
    refine lv_iload hx hb dL_law_1528 (lv_at hl 1 rfl) ?_
    refine kx_icmp_eq (x := 0) (y := 0) (tgt := 1535) hx hb dL_law_1530 (by decide) (by omega) (by omega) (by omega) (by omega) (fun c_1530_28 => ?_) (fun c_1530_28 => ?_)
    · -- taken at 1530
      refine lv_iload hx hb dL_law_1535 (lv_at hl 1 rfl) ?_
      refine kx_if_ne (x := 0) (tgt := 1552) hx hb dL_law_1537 (by decide) (by omega) (by omega) (fun c_1537_29 => ?_) (fun c_1537_29 => ?_)
      · -- taken at 1537
        exfalso; omega
      · -- not taken at 1537
        refine lv_aload_n hx hb dL_law_1540 rfl (lv_at hl 5 rfl) ?_
        refine kx_iconst hx hb dL_law_1541 ?_
        have h_30 := ho_9.fr hF_19 (n_mm_out.sm)
        refine kx_lald (i := 0) hx hb hK h_30 0 rfl (by decide) (by decide) dL_law_1542 ?_
        refine lv_iload hx hb dL_law_1543 (lv_at hl 0 rfl) ?_
        refine kx_i2l hx hb (z := (if ln_lb (st_ln S ln9) = -1 then -1 else if ln_left (st_ln S ln9) = true then ln_pos (st_ln S ln9) ((ln_lb (st_ln S ln9)).toNat + ln_size (st_ln S ln9) - 1) else ln_pos (st_ln S ln9) (ln_lb (st_ln S ln9)).toNat)) (by omega) (by omega) dL_law_1545 ?_
        refine kx_lcmpE hx hb (x := ((kup go 0 (kL ((if ln_lb (st_ln S ln9) = -1 then -1 else if ln_left (st_ln S ln9) = true then ln_pos (st_ln S ln9) ((ln_lb (st_ln S ln9)).toNat + ln_size (st_ln S ln9) - 1) else ln_pos (st_ln S ln9) (ln_lb (st_ln S ln9)).toNat))))) 0) (y := kL ((if ln_lb (st_ln S ln9) = -1 then -1 else if ln_left (st_ln S ln9) = true then ln_pos (st_ln S ln9) ((ln_lb (st_ln S ln9)).toNat + ln_size (st_ln S ln9) - 1) else ln_pos (st_ln S ln9) (ln_lb (st_ln S ln9)).toNat))) (kup_self _ _ _) dL_law_1546 ?_
        refine kx_if_eq (x := 0) (tgt := 1552) hx hb dL_law_1547 (by decide) (by omega) (by omega) (fun c_1547_31 => ?_) (fun c_1547_31 => ?_)
        · -- taken at 1547
          refine lv_goto (tgt := 2493) hx hb dL_law_1552 (by decide) ?_
          have h_32 := h_11.fr hF_19 (n_mm_ra.sm)
          have h_33 := h_12.fr hF_19 (n_mm_sa.sm)
          have h_34 := h_13.fr hF_19 (n_mm_ka.sm)
          have h_35 := h_14.fr hF_19 (n_mm_ta.sm)
          have h_36 := hA_outD.fr hF_5 (n_out_outD.sm)
          have h_37 := h_36.fr hF_19 (n_mm_outD.sm)
          have h_38 := hW.fr hd9 hF_5 (fun x => (to_out x))
          have h_39 := h_38.fr hd9 hF_19 (fun x => (ty_mm x))
          refine W.widen (k := cells + 50000) (n := slots + 228000) (by omega) (by omega) ?_
          have hM9 : kM D H_18 c0 out mm (S, gap) ((sl.map Prod.snd).head?) (hl2.map Prod.snd) t := ⟨ra, sa, ka, ta, _, _, _, _, _, _, _, _, _, _, _, _, ho_23, h_32, h_33, h_34, h_35, hMr, hMh, hMk, hMt, ht60, hMd, hMb, hMi⟩
          exact kk (S, gap) ((sl.map Prod.snd).head?) (hl2.map Prod.snd) t _ _ _ ⟨hS_25, lv_sub hl [2, 3, 4, 5, 6, 7] rfl, h_39, hM9, ⟨_, h_30⟩, ⟨_, h_37⟩, by omega, by omega⟩
        · -- not taken at 1547
          exfalso; omega
    · -- not taken at 1530
      exfalso; omega
  · -- hA
    refine lv_aload_n hx hb dL_law_1499 rfl (lv_at hl 1 rfl) ?_
    refine lv_aload_n hx hb dL_law_1500 rfl (lv_at hl 0 rfl) ?_
    refine lv_iload hx hb dL_law_1501 (lv_at hl 5 rfl) ?_
    refine kx_iconst hx hb dL_law_1503 ?_
    refine kx_iadd hx hb dL_law_1504 ?_
    refine kx_sld (i := (((3 * j : Nat) : Int) + 1)) hx hb hX hbl hbA hS (3 * j + 1) (by omega) (by omega) (by omega) dL_law_1505 ?_
    refine kx_eqi (z1) (hz1.symm) ?_
    refine lv_aload_n hx hb dL_law_1506 rfl (lv_at hl 3 rfl) ?_
    refine kx_ci (vx_runSW (As := [.ref x1, .int (kI (z1)), .ref out]) (rest := []) ⟨hx, hb, hml, hown, hts⟩ (wx_readFrom l hl9 D H x1 ((sl.map (fun a => a.1.1)).head?) hi bu st la mc9 ea F S gap z1 out hO_x1 hO_st hO_la hLs9 hLn9 (by first | assumption | omega) (by first | assumption | omega) (by first | assumption | omega)) (vx_cwSW 3 hts (lw_SW q2021 q2022 q78 q2023) rfl rfl rfl (by decide +kernel) ⟨Nat.le_of_ble_eq_true rfl, Nat.le_of_ble_eq_true rfl⟩) (kx_ps hK hS hB) rfl rfl hl.1 rfl (lv_room (Nat.le_of_ble_eq_true rfl)) dL_law_1507 ⟨by first | exact Nat.le_of_ble_eq_true rfl | omega | (dsimp only [lwR]; omega) | (show _ ≤ _; omega), by first | exact Nat.le_of_ble_eq_true rfl | omega | (dsimp only [lwR]; omega) | (show _ ≤ _; omega)⟩) hS (fun q _ h => by have h9 := hS.1; (try dsimp only at h); (try dsimp only); (try simp only [kNW] at h); (try simp only [kNW]); omega) (fun q h => by have h9 := hS.1; (try dsimp only at h); (try dsimp only); (try simp only [kNW] at h); (try simp only [kNW]); omega) (fun z_45 H_43 locs_40 hz_42 hF_44 hS_41 => ?_)
    have hzf_46 := hF_44.1
    have hF_44 := hF_44.nw
    obtain ⟨hv_47, hnw_48⟩ := hz_42
    subst z_45
    refine lv_istore (lv' := [(6, .int (kI (1))), (0, .ref b), (1, .ref x1), (2, .ref mm), (3, .ref out), (4, .ref outD), (5, .int (kI ((3 * j : Nat) : Int)))]) hx hb dL_law_1510 hl (by decide) rfl (fun ls hl => ?_)
    refine lv_aload_n hx hb dL_law_1512 rfl (lv_at hl 3 rfl) ?_
    refine lv_aload_n hx hb dL_law_1513 rfl (lv_at hl 1 rfl) ?_
    refine lv_iload hx hb dL_law_1514 (lv_at hl 6 rfl) ?_
    refine kx_iconst hx hb dL_law_1516 ?_
    refine kx_iadd hx hb dL_law_1517 ?_
    refine kx_sld (i := (((3 * j : Nat) : Int) + 1)) hx hb hX hbl hbA hS_41 (3 * j + 1) (by omega) (by omega) (by omega) dL_law_1518 ?_
    refine kx_eqi (z1) (hz1.symm) ?_
    have h_49 := hO_mm.ex hF_44
    have h_50 := hA_ra.ex hF_44
    have h_51 := hA_sa.ex hF_44
    have h_52 := hA_ka.ex hF_44
    have h_53 := hA_ta.ex hF_44
    have ty_mm : ∀ x, x = mm → H_43.size ≤ x ∨ (kTy D H_43 x ∧ c0 ≤ x ∧ x < c1) := fun x h => by rw [h]; exact Or.inr ⟨Or.inl ⟨2, _, by decide, by decide, by decide, h_49⟩, i_mm.1, w_mm⟩
    refine kx_ci (va_runV (As := [.int (kI (z1))]) (rest := []) ⟨hx, hb, hml, hown, hts⟩ (m_X3_readFrom_no l D H_43 mm ra sa ka ta nh ik t.length th sp9 iw le9 fi9 se9 g S gap z1 h_49 h_50 (by first | assumption | omega) (by first | assumption | omega) n_mm_ra b_mm (by first | assumption | omega) (by first | assumption | omega)) (cwV 1 hts (lw_V q2528 q2529 q2530 q89 q2531) rfl rfl rfl (by decide +kernel) ⟨Nat.le_of_ble_eq_true rfl, Nat.le_of_ble_eq_true rfl⟩) (kx_pv hK hS_41 hB (kx_rc hK h_49 (C := RX3) (T := TX3) (N := 13) rfl)) rfl rfl hl.1 rfl (lv_room (Nat.le_of_ble_eq_true rfl)) dL_law_1519 ⟨by first | exact Nat.le_of_ble_eq_true rfl | omega | (dsimp only [lwR]; omega) | (show _ ≤ _; omega), by first | exact Nat.le_of_ble_eq_true rfl | omega | (dsimp only [lwR]; omega) | (show _ ≤ _; omega)⟩) hS_41 (fun q _ h => (ge_mm q) h) (fun q h => (ge_mm q) h) (fun z_59 H_57 locs_54 hz_56 hF_58 hS_55 => ?_)
    have hzf_60 := hF_58.1
    obtain ⟨hv_61, ho_62⟩ := hz_56
    subst z_59
    refine lv_istore (lv' := [(7, .int (kI (0))), (6, .int (kI (1))), (0, .ref b), (1, .ref x1), (2, .ref mm), (3, .ref out), (4, .ref outD), (5, .int (kI ((3 * j : Nat) : Int)))]) hx hb dL_law_1522 hl (by decide) rfl (fun ls hl => ?_)
    refine lv_aload_n hx hb dL_law_1524 rfl (lv_at hl 4 rfl) ?_
    refine kx_ci0 (va_runV (As := []) (rest := []) ⟨hx, hb, hml, hown, hts⟩ (m_X3_thrown l D H_57 mm ra sa ka ta nh ik t.length 1 sp9 iw le9 fi9 se9 ho_62 ) (cwV 0 hts (lw_V q2278 q2279 q2280 q89 q2281) rfl rfl rfl (by decide +kernel) ⟨Nat.le_of_ble_eq_true rfl, Nat.le_of_ble_eq_true rfl⟩) (kx_pv hK hS_55 hB (kx_rc hK ho_62 (C := RX3) (T := TX3) (N := 13) rfl)) rfl rfl hl.1 rfl (lv_room (Nat.le_of_ble_eq_true rfl)) dL_law_1525 ⟨by first | exact Nat.le_of_ble_eq_true rfl | omega | (dsimp only [lwR]; omega) | (show _ ≤ _; omega), by first | exact Nat.le_of_ble_eq_true rfl | omega | (dsimp only [lwR]; omega) | (show _ ≤ _; omega)⟩) hS_55 (fun z_66 locs_63 hz_65 hS_64 => ?_)
    subst z_66
    refine lv_iload hx hb dL_law_1528 (lv_at hl 1 rfl) ?_
    refine kx_icmp_eq (x := 1) (y := 1) (tgt := 1535) hx hb dL_law_1530 (by decide) (by omega) (by omega) (by omega) (by omega) (fun c_1530_67 => ?_) (fun c_1530_67 => ?_)
    · -- taken at 1530
      refine lv_iload hx hb dL_law_1535 (lv_at hl 1 rfl) ?_
      refine kx_if_ne (x := 1) (tgt := 1552) hx hb dL_law_1537 (by decide) (by omega) (by omega) (fun c_1537_68 => ?_) (fun c_1537_68 => ?_)
      · -- taken at 1537
        refine lv_goto (tgt := 2493) hx hb dL_law_1552 (by decide) ?_
        have h_69 := h_50.fr hF_58 (n_mm_ra.sm)
        have h_70 := h_51.fr hF_58 (n_mm_sa.sm)
        have h_71 := h_52.fr hF_58 (n_mm_ka.sm)
        have h_72 := h_53.fr hF_58 (n_mm_ta.sm)
        have h_73 := hA_out.ex hF_44
        have h_74 := h_73.fr hF_58 (n_mm_out.sm)
        have h_75 := hA_outD.ex hF_44
        have h_76 := h_75.fr hF_58 (n_mm_outD.sm)
        have h_77 := hW.ex hd9 hF_44
        have h_78 := h_77.fr hd9 hF_58 (fun x => (ty_mm x))
        refine W.widen (k := cells + 50000) (n := slots + 228000) (by omega) (by omega) ?_
        have hM9 : kM D H_57 c0 out mm (S, gap) ((sl.map Prod.snd).head?) (hl2.map Prod.snd) t := ⟨ra, sa, ka, ta, _, _, _, _, _, _, _, _, _, _, _, _, ho_62, h_69, h_70, h_71, h_72, hMr, hMh, hMk, hMt, ht60, hMd, hMb, hMi⟩
        exact kk (S, gap) ((sl.map Prod.snd).head?) (hl2.map Prod.snd) t _ _ _ ⟨hS_64, lv_sub hl [2, 3, 4, 5, 6, 7] rfl, h_78, hM9, ⟨_, h_74⟩, ⟨_, h_76⟩, by omega, by omega⟩
      · -- not taken at 1537
        exfalso; omega
    · -- not taken at 1530
      exfalso; omega

set_option maxHeartbeats 8000000 in
set_option maxRecDepth 100000 in
theorem lc_sizeOf {p : Program} {e : Env} {s : State} {m : MethodId} {below : List Frame} {meth : Method} {c : Code} {l : Launch} {D : kG} {b L c0 c1 x1 mm out outD : Nat} {xs : Nat → Int32} {Q : State → Prop} (C0 : lwC D p l s m meth c b L c0 c1 out outD xs) {j : Nat} (hj : 3 * j + 3 ≤ L) {S : Ls} {gap : Int} {sn : Option Sg} {hs : List Sg} {t : List Int} {H : Heap} {locs : List Loc} {ls : Array Slot} (I0 : lwI D s b c0 c1 x1 mm out outD j j (S, gap) sn hs t H locs ls) {cells slots : Nat} (hcl : cells + 50000 ≤ 1200144) (hsl9 : slots + 228000 ≤ 5496058) (kk : ∀ (σ : Sg) (sn : Option Sg) (hs : List Sg) (t : List Int) (H : Heap) (locs : List Loc) (ls : Array Slot), lwI D s b c0 c1 x1 mm out outD j (j + 1) σ sn hs t H locs ls → W p l e lwR s m #[Value.ref b] below meth c H locs (cells + 50000) (slots + 228000) Q (F0 m 2493 ls [])) : W p l e lwR s m #[Value.ref b] below meth c H locs cells slots Q (F0 m 1555 ls []) := by
  obtain ⟨hx, hb, hml, hown, hts, hlk, hK, hl9, hX, hbl, hbs, hL72, hc0, hco, hod, hdc⟩ := C0
  obtain ⟨hS, hl, hW, hM, ⟨go, hA_out⟩, ⟨gd, hA_outD⟩, hc1, htl⟩ := I0
  have hB : ∀ q, (kNW s.heap) q → kBase D ≤ q := fun q h => Nat.le_trans hK.size h
  have hbA : ¬ (kNW s.heap) b := fun h => by have h9 : s.heap.size ≤ b := h; omega
  have hd9 := hK.dis
  have hxE : ¬ kBase D ≤ D.2.2.2 2 := hK.tE.out
  obtain ⟨z1, hz1⟩ : ∃ z, z = (xs (3 * j + 1)).toInt := ⟨_, rfl⟩
  obtain ⟨z2, hz2⟩ : ∃ z, z = (xs (3 * j + 2)).toInt := ⟨_, rfl⟩
  have hr1 : -2147483648 ≤ z1 ∧ z1 ≤ 2147483647 := by rw [hz1]; exact i32r _
  have hr2 : -2147483648 ≤ z2 ∧ z2 ≤ 2147483647 := by rw [hz2]; exact i32r _
  obtain ⟨⟨st, la, ea, F⟩, sl, hl2, hi, es, bu, vb, hO_x1, hDq, hTx, hX5, hev, hAl, hDj, hPw, hsl, hsn, hhs⟩ := id hW
  subst hsn
  subst hhs
  obtain ⟨ra, sa, ka, ta, nh, ik, th, sp9, iw, le9, fi9, se9, g, gs, gk, gt, hO_mm, hA_ra, hA_sa, hA_ka, hA_ta, hMr, hMh, hMk, hMt, ht60, hMd, hMb, hMi⟩ := id hM
  have hMr : MRow g S gap := hMr
  have h0 := hAl _ List.mem_cons_self
  have hP_kState_st : kState D H st la ea gap S F := h0.1
  have hok : LsOK S gap := h0.2.1
  have hG : StG S := h0.2.2.1
  have hL8 : S.length ≤ 8 := hok.1
  have hgp := hok.2.1
  have hO_x1 : kO D H x1 0 [.ref st, va_rf ((sl.map (fun a => a.1.1)).head?), .ref hi, .ref bu] := hO_x1
  have hOw : ∀ q, kOwn D st la ea F S.length q → q ∉ [x1, hi, es, bu, vb] ∧ (q < c0 ∨ c1 ≤ q) := h0.2.2.2
  have hev : Hd (es ≠ vb) := hev
  have io_x1 : ∀ x, c0 ≤ x → x < c1 → x ≠ x1 := fun x => out_of (hX5 x1 (by simp)).2
  have io_hi : ∀ x, c0 ≤ x → x < c1 → x ≠ hi := fun x => out_of (hX5 hi (by simp)).2
  have io_es : ∀ x, c0 ≤ x → x < c1 → x ≠ es := fun x => out_of (hX5 es (by simp)).2
  have io_bu : ∀ x, c0 ≤ x → x < c1 → x ≠ bu := fun x => out_of (hX5 bu (by simp)).2
  have io_vb : ∀ x, c0 ≤ x → x < c1 → x ≠ vb := fun x => out_of (hX5 vb (by simp)).2
  have b_x1 := (hX5 x1 (by simp)).1
  have b_hi := (hX5 hi (by simp)).1
  have b_es := (hX5 es (by simp)).1
  have b_bu := (hX5 bu (by simp)).1
  have b_vb := (hX5 vb (by simp)).1
  obtain ⟨⟨⟨n1, n2, n3, n4⟩, n5, n6, n7⟩, n8, n9, n10⟩ := hMd
  have n_mm_ra : Hd (mm ≠ ra) := n1
  have n_mm_sa : Hd (mm ≠ sa) := n2
  have n_mm_ka : Hd (mm ≠ ka) := n3
  have n_mm_ta : Hd (mm ≠ ta) := n4
  have n_ra_sa : Hd (ra ≠ sa) := n5
  have n_ra_ka : Hd (ra ≠ ka) := n6
  have n_ra_ta : Hd (ra ≠ ta) := n7
  have n_sa_ka : Hd (sa ≠ ka) := n8
  have n_sa_ta : Hd (sa ≠ ta) := n9
  have n_ka_ta : Hd (ka ≠ ta) := n10
  have hMd : Hd (((mm ≠ ra ∧ mm ≠ sa ∧ mm ≠ ka ∧ mm ≠ ta) ∧ ra ≠ sa ∧ ra ≠ ka ∧ ra ≠ ta) ∧ sa ≠ ka ∧ sa ≠ ta ∧ ka ≠ ta) := ⟨⟨⟨n1, n2, n3, n4⟩, n5, n6, n7⟩, n8, n9, n10⟩
  clear n1 n2 n3 n4 n5 n6 n7 n8 n9 n10
  obtain ⟨b_mm, b_ra, b_sa, b_ka, b_ta⟩ := id hMb
  obtain ⟨i_mm, i_ra, i_sa, i_ka, i_ta⟩ := id hMi
  have b_out : kBase D ≤ out := by omega
  have hcc : c0 ≤ c1 := by omega
  have w_mm : mm < c1 := by omega
  have n_mm_out : Hd (mm ≠ out) := Nat.ne_of_lt i_mm.2
  have n_mm_outD : Hd (mm ≠ outD) := Nat.ne_of_lt (Nat.lt_trans i_mm.2 hod)
  have w_ra : ra < c1 := by omega
  have n_ra_out : Hd (ra ≠ out) := Nat.ne_of_lt i_ra.2
  have n_ra_outD : Hd (ra ≠ outD) := Nat.ne_of_lt (Nat.lt_trans i_ra.2 hod)
  have w_sa : sa < c1 := by omega
  have n_sa_out : Hd (sa ≠ out) := Nat.ne_of_lt i_sa.2
  have n_sa_outD : Hd (sa ≠ outD) := Nat.ne_of_lt (Nat.lt_trans i_sa.2 hod)
  have w_ka : ka < c1 := by omega
  have n_ka_out : Hd (ka ≠ out) := Nat.ne_of_lt i_ka.2
  have n_ka_outD : Hd (ka ≠ outD) := Nat.ne_of_lt (Nat.lt_trans i_ka.2 hod)
  have w_ta : ta < c1 := by omega
  have n_ta_out : Hd (ta ≠ out) := Nat.ne_of_lt i_ta.2
  have n_ta_outD : Hd (ta ≠ outD) := Nat.ne_of_lt (Nat.lt_trans i_ta.2 hod)
  have ge_mm : ∀ q, q = mm → kNW s.heap q := fun q h => by rw [h]; show s.heap.size ≤ mm; omega
  have ge_ra : ∀ q, q = ra → kNW s.heap q := fun q h => by rw [h]; show s.heap.size ≤ ra; omega
  have ge_sa : ∀ q, q = sa → kNW s.heap q := fun q h => by rw [h]; show s.heap.size ≤ sa; omega
  have ge_ka : ∀ q, q = ka → kNW s.heap q := fun q h => by rw [h]; show s.heap.size ≤ ka; omega
  have ge_ta : ∀ q, q = ta → kNW s.heap q := fun q h => by rw [h]; show s.heap.size ≤ ta; omega
  have ge_out : ∀ q, q = out → kNW s.heap q := fun q h => by rw [h]; show s.heap.size ≤ out; omega
  have n_out_outD : Hd (out ≠ outD) := Nat.ne_of_lt hod
  have w_out : out < c1 := by omega
  have w_outD : outD < c1 := hdc
  have i_outD : c0 ≤ outD := by omega
  have htyo : kTy D H out := Or.inr ⟨2, _, by decide, hA_out⟩
  have htyd : kTy D H outD := Or.inr ⟨3, _, by decide, hA_outD⟩
  have to_out : ∀ x, x = out → H.size ≤ x ∨ (kTy D H x ∧ c0 ≤ x ∧ x < c1) := fun x h => by rw [h]; exact Or.inr ⟨htyo, hco, w_out⟩
  have to_outD : ∀ x, x = outD → H.size ≤ x ∨ (kTy D H x ∧ c0 ≤ x ∧ x < c1) := fun x h => by rw [h]; exact Or.inr ⟨htyd, i_outD, w_outD⟩
  obtain ⟨⟨hO_st, mc9, hO_la⟩, hLs9, hLn9, hF9, hDs9, hb1, hb2, hb3⟩ := id hP_kState_st
  by_cases hA : 0 ≤ z1 ∧ z1 < (S.length : Int)
  · -- hA
    obtain ⟨ln9, hv1⟩ : ∃ k : Nat, z1 = (k : Int) := ⟨z1.toNat, by omega⟩
    have hln : ln9 < S.length := by omega
    have hLn := hok.ln hln
    have hr9 := ln_size_23 (st_ln S ln9)
    have hn9 := hLn.n
    have hrv : -2147483648 ≤ ((ln_size (st_ln S ln9) : Nat) : Int) ∧ ((ln_size (st_ln S ln9) : Nat) : Int) ≤ 2147483647 := ⟨by omega, by omega⟩
    refine lv_aload_n hx hb dL_law_1555 rfl (lv_at hl 1 rfl) ?_
    refine lv_aload_n hx hb dL_law_1556 rfl (lv_at hl 0 rfl) ?_
    refine lv_iload hx hb dL_law_1557 (lv_at hl 5 rfl) ?_
    refine kx_iconst hx hb dL_law_1559 ?_
    refine kx_iadd hx hb dL_law_1560 ?_
    refine kx_sld (i := (((3 * j : Nat) : Int) + 1)) hx hb hX hbl hbA hS (3 * j + 1) (by omega) (by omega) (by omega) dL_law_1561 ?_
    refine kx_eqi (((ln9 : Nat) : Int)) (hz1.symm.trans hv1) ?_
    refine lv_aload_n hx hb dL_law_1562 rfl (lv_at hl 3 rfl) ?_
    refine kx_ci (vx_runSW (As := [.ref x1, .int (kI ((ln9 : Nat) : Int)), .ref out]) (rest := []) ⟨hx, hb, hml, hown, hts⟩ (wr_sizeOf l hl9 D H x1 ((sl.map (fun a => a.1.1)).head?) hi bu st la mc9 ea F S gap ln9 out go hO_x1 hO_st hO_la hLs9 hLn9 hA_out (by first | assumption | omega) (by first | assumption | omega) (by first | assumption | omega) (by first | assumption | omega)) (vx_cwSW 3 hts (lw_SW q2033 q2034 q78 q2035) rfl rfl rfl (by decide +kernel) ⟨Nat.le_of_ble_eq_true rfl, Nat.le_of_ble_eq_true rfl⟩) (kx_ps hK hS hB) rfl rfl hl.1 rfl (lv_room (Nat.le_of_ble_eq_true rfl)) dL_law_1563 ⟨by first | exact Nat.le_of_ble_eq_true rfl | omega | (dsimp only [lwR]; omega) | (show _ ≤ _; omega), by first | exact Nat.le_of_ble_eq_true rfl | omega | (dsimp only [lwR]; omega) | (show _ ≤ _; omega)⟩) hS (fun q _ h => (ge_out q) h) (fun q h => (ge_out q) h) (fun z_6 H_4 locs_1 hz_3 hF_5 hS_2 => ?_)
    have hzf_7 := hF_5.1
    obtain ⟨hv_8, ho_9⟩ := hz_3
    subst z_6
    refine lv_istore (lv' := [(6, .int (kI (0))), (0, .ref b), (1, .ref x1), (2, .ref mm), (3, .ref out), (4, .ref outD), (5, .int (kI ((3 * j : Nat) : Int)))]) hx hb dL_law_1566 hl (by decide) rfl (fun ls hl => ?_)
    refine lv_aload_n hx hb dL_law_1568 rfl (lv_at hl 3 rfl) ?_
    refine lv_aload_n hx hb dL_law_1569 rfl (lv_at hl 1 rfl) ?_
    refine lv_iload hx hb dL_law_1570 (lv_at hl 6 rfl) ?_
    refine kx_iconst hx hb dL_law_1572 ?_
    refine kx_iadd hx hb dL_law_1573 ?_
    refine kx_sld (i := (((3 * j : Nat) : Int) + 1)) hx hb hX hbl hbA hS_2 (3 * j + 1) (by omega) (by omega) (by omega) dL_law_1574 ?_
    refine kx_eqi (((ln9 : Nat) : Int)) (hz1.symm.trans hv1) ?_
    have h_10 := hO_mm.fr hF_5 (n_mm_out)
    have h_11 := hA_ra.fr hF_5 (n_ra_out)
    have h_12 := hA_sa.fr hF_5 (n_sa_out)
    have h_13 := hA_ka.fr hF_5 (n_ka_out)
    have h_14 := hA_ta.fr hF_5 (n_ta_out)
    have ty_mm : ∀ x, x = mm → H_4.size ≤ x ∨ (kTy D H_4 x ∧ c0 ≤ x ∧ x < c1) := fun x h => by rw [h]; exact Or.inr ⟨Or.inl ⟨2, _, by decide, by decide, by decide, h_10⟩, i_mm.1, w_mm⟩
    refine kx_ci (va_runV (As := [.int (kI ((ln9 : Nat) : Int))]) (rest := []) ⟨hx, hb, hml, hown, hts⟩ (m_X3_sizeOf l D H_4 mm ra sa ka ta nh ik t.length th sp9 iw le9 fi9 se9 g S gap ln9 h_10 h_11 (by first | assumption | omega) (by first | assumption | omega) n_mm_ra b_mm (by first | assumption | omega)) (cwV 1 hts (lw_V q2532 q2533 q2534 q89 q2535) rfl rfl rfl (by decide +kernel) ⟨Nat.le_of_ble_eq_true rfl, Nat.le_of_ble_eq_true rfl⟩) (kx_pv hK hS_2 hB (kx_rc hK h_10 (C := RX3) (T := TX3) (N := 13) rfl)) rfl rfl hl.1 rfl (lv_room (Nat.le_of_ble_eq_true rfl)) dL_law_1575 ⟨by first | exact Nat.le_of_ble_eq_true rfl | omega | (dsimp only [lwR]; omega) | (show _ ≤ _; omega), by first | exact Nat.le_of_ble_eq_true rfl | omega | (dsimp only [lwR]; omega) | (show _ ≤ _; omega)⟩) hS_2 (fun q _ h => (ge_mm q) h) (fun q h => (ge_mm q) h) (fun z_20 H_18 locs_15 hz_17 hF_19 hS_16 => ?_)
    have hzf_21 := hF_19.1
    obtain ⟨hv_22, ho_23⟩ := hz_17
    subst z_20
    refine lv_istore (lv' := [(7, .int (kI ((ln_size (st_ln S ln9) : Nat) : Int))), (6, .int (kI (0))), (0, .ref b), (1, .ref x1), (2, .ref mm), (3, .ref out), (4, .ref outD), (5, .int (kI ((3 * j : Nat) : Int)))]) hx hb dL_law_1578 hl (by decide) rfl (fun ls hl => ?_)
    refine lv_aload_n hx hb dL_law_1580 rfl (lv_at hl 4 rfl) ?_
    refine kx_ci0 (va_runV (As := []) (rest := []) ⟨hx, hb, hml, hown, hts⟩ (m_X3_thrown l D H_18 mm ra sa ka ta nh ik t.length 0 sp9 iw le9 fi9 se9 ho_23 ) (cwV 0 hts (lw_V q2278 q2279 q2280 q89 q2281) rfl rfl rfl (by decide +kernel) ⟨Nat.le_of_ble_eq_true rfl, Nat.le_of_ble_eq_true rfl⟩) (kx_pv hK hS_16 hB (kx_rc hK ho_23 (C := RX3) (T := TX3) (N := 13) rfl)) rfl rfl hl.1 rfl (lv_room (Nat.le_of_ble_eq_true rfl)) dL_law_1581 ⟨by first | exact Nat.le_of_ble_eq_true rfl | omega | (dsimp only [lwR]; omega) | (show _ ≤ _; omega), by first | exact Nat.le_of_ble_eq_true rfl | omega | (dsimp only [lwR]; omega) | (show _ ≤ _; omega)⟩) hS_16 (fun z_27 locs_24 hz_26 hS_25 => ?_)
    subst z_27
    refine lv_iload hx hb dL_law_1584 (lv_at hl 1 rfl) ?_
    refine kx_icmp_eq (x := 0) (y := 0) (tgt := 1591) hx hb dL_law_1586 (by decide) (by omega) (by omega) (by omega) (by omega) (fun c_1586_28 => ?_) (fun c_1586_28 => ?_)
    · -- taken at 1586
      refine lv_iload hx hb dL_law_1591 (lv_at hl 1 rfl) ?_
      refine kx_if_ne (x := 0) (tgt := 1608) hx hb dL_law_1593 (by decide) (by omega) (by omega) (fun c_1593_29 => ?_) (fun c_1593_29 => ?_)
      · -- taken at 1593
        exfalso; omega
      · -- not taken at 1593
        refine lv_aload_n hx hb dL_law_1596 rfl (lv_at hl 5 rfl) ?_
        refine kx_iconst hx hb dL_law_1597 ?_
        have h_30 := ho_9.fr hF_19 (n_mm_out.sm)
        refine kx_lald (i := 0) hx hb hK h_30 0 rfl (by decide) (by decide) dL_law_1598 ?_
        refine lv_iload hx hb dL_law_1599 (lv_at hl 0 rfl) ?_
        refine kx_i2l hx hb (z := ((ln_size (st_ln S ln9) : Nat) : Int)) (by omega) (by omega) dL_law_1601 ?_
        refine kx_lcmpE hx hb (x := ((kup go 0 (kL (((ln_size (st_ln S ln9) : Nat) : Int))))) 0) (y := kL (((ln_size (st_ln S ln9) : Nat) : Int))) (kup_self _ _ _) dL_law_1602 ?_
        refine kx_if_eq (x := 0) (tgt := 1608) hx hb dL_law_1603 (by decide) (by omega) (by omega) (fun c_1603_31 => ?_) (fun c_1603_31 => ?_)
        · -- taken at 1603
          refine lv_goto (tgt := 2493) hx hb dL_law_1608 (by decide) ?_
          have h_32 := h_11.fr hF_19 (n_mm_ra.sm)
          have h_33 := h_12.fr hF_19 (n_mm_sa.sm)
          have h_34 := h_13.fr hF_19 (n_mm_ka.sm)
          have h_35 := h_14.fr hF_19 (n_mm_ta.sm)
          have h_36 := hA_outD.fr hF_5 (n_out_outD.sm)
          have h_37 := h_36.fr hF_19 (n_mm_outD.sm)
          have h_38 := hW.fr hd9 hF_5 (fun x => (to_out x))
          have h_39 := h_38.fr hd9 hF_19 (fun x => (ty_mm x))
          refine W.widen (k := cells + 50000) (n := slots + 228000) (by omega) (by omega) ?_
          have hM9 : kM D H_18 c0 out mm (S, gap) ((sl.map Prod.snd).head?) (hl2.map Prod.snd) t := ⟨ra, sa, ka, ta, _, _, _, _, _, _, _, _, _, _, _, _, ho_23, h_32, h_33, h_34, h_35, hMr, hMh, hMk, hMt, ht60, hMd, hMb, hMi⟩
          exact kk (S, gap) ((sl.map Prod.snd).head?) (hl2.map Prod.snd) t _ _ _ ⟨hS_25, lv_sub hl [2, 3, 4, 5, 6, 7] rfl, h_39, hM9, ⟨_, h_30⟩, ⟨_, h_37⟩, by omega, by omega⟩
        · -- not taken at 1603
          exfalso; omega
    · -- not taken at 1586
      exfalso; omega
  · -- hA
    refine lv_aload_n hx hb dL_law_1555 rfl (lv_at hl 1 rfl) ?_
    refine lv_aload_n hx hb dL_law_1556 rfl (lv_at hl 0 rfl) ?_
    refine lv_iload hx hb dL_law_1557 (lv_at hl 5 rfl) ?_
    refine kx_iconst hx hb dL_law_1559 ?_
    refine kx_iadd hx hb dL_law_1560 ?_
    refine kx_sld (i := (((3 * j : Nat) : Int) + 1)) hx hb hX hbl hbA hS (3 * j + 1) (by omega) (by omega) (by omega) dL_law_1561 ?_
    refine kx_eqi (z1) (hz1.symm) ?_
    refine lv_aload_n hx hb dL_law_1562 rfl (lv_at hl 3 rfl) ?_
    refine kx_ci (vx_runSW (As := [.ref x1, .int (kI (z1)), .ref out]) (rest := []) ⟨hx, hb, hml, hown, hts⟩ (wx_sizeOf l hl9 D H x1 ((sl.map (fun a => a.1.1)).head?) hi bu st la mc9 ea F S gap z1 out hO_x1 hO_st hO_la hLs9 hLn9 (by first | assumption | omega) (by first | assumption | omega) (by first | assumption | omega)) (vx_cwSW 3 hts (lw_SW q2033 q2034 q78 q2035) rfl rfl rfl (by decide +kernel) ⟨Nat.le_of_ble_eq_true rfl, Nat.le_of_ble_eq_true rfl⟩) (kx_ps hK hS hB) rfl rfl hl.1 rfl (lv_room (Nat.le_of_ble_eq_true rfl)) dL_law_1563 ⟨by first | exact Nat.le_of_ble_eq_true rfl | omega | (dsimp only [lwR]; omega) | (show _ ≤ _; omega), by first | exact Nat.le_of_ble_eq_true rfl | omega | (dsimp only [lwR]; omega) | (show _ ≤ _; omega)⟩) hS (fun q _ h => by have h9 := hS.1; (try dsimp only at h); (try dsimp only); (try simp only [kNW] at h); (try simp only [kNW]); omega) (fun q h => by have h9 := hS.1; (try dsimp only at h); (try dsimp only); (try simp only [kNW] at h); (try simp only [kNW]); omega) (fun z_45 H_43 locs_40 hz_42 hF_44 hS_41 => ?_)
    have hzf_46 := hF_44.1
    have hF_44 := hF_44.nw
    obtain ⟨hv_47, hnw_48⟩ := hz_42
    subst z_45
    refine lv_istore (lv' := [(6, .int (kI (1))), (0, .ref b), (1, .ref x1), (2, .ref mm), (3, .ref out), (4, .ref outD), (5, .int (kI ((3 * j : Nat) : Int)))]) hx hb dL_law_1566 hl (by decide) rfl (fun ls hl => ?_)
    refine lv_aload_n hx hb dL_law_1568 rfl (lv_at hl 3 rfl) ?_
    refine lv_aload_n hx hb dL_law_1569 rfl (lv_at hl 1 rfl) ?_
    refine lv_iload hx hb dL_law_1570 (lv_at hl 6 rfl) ?_
    refine kx_iconst hx hb dL_law_1572 ?_
    refine kx_iadd hx hb dL_law_1573 ?_
    refine kx_sld (i := (((3 * j : Nat) : Int) + 1)) hx hb hX hbl hbA hS_41 (3 * j + 1) (by omega) (by omega) (by omega) dL_law_1574 ?_
    refine kx_eqi (z1) (hz1.symm) ?_
    have h_49 := hO_mm.ex hF_44
    have h_50 := hA_ra.ex hF_44
    have h_51 := hA_sa.ex hF_44
    have h_52 := hA_ka.ex hF_44
    have h_53 := hA_ta.ex hF_44
    have ty_mm : ∀ x, x = mm → H_43.size ≤ x ∨ (kTy D H_43 x ∧ c0 ≤ x ∧ x < c1) := fun x h => by rw [h]; exact Or.inr ⟨Or.inl ⟨2, _, by decide, by decide, by decide, h_49⟩, i_mm.1, w_mm⟩
    refine kx_ci (va_runV (As := [.int (kI (z1))]) (rest := []) ⟨hx, hb, hml, hown, hts⟩ (m_X3_sizeOf_no l D H_43 mm ra sa ka ta nh ik t.length th sp9 iw le9 fi9 se9 g S gap z1 h_49 h_50 (by first | assumption | omega) (by first | assumption | omega) n_mm_ra b_mm (by first | assumption | omega) (by first | assumption | omega)) (cwV 1 hts (lw_V q2532 q2533 q2534 q89 q2535) rfl rfl rfl (by decide +kernel) ⟨Nat.le_of_ble_eq_true rfl, Nat.le_of_ble_eq_true rfl⟩) (kx_pv hK hS_41 hB (kx_rc hK h_49 (C := RX3) (T := TX3) (N := 13) rfl)) rfl rfl hl.1 rfl (lv_room (Nat.le_of_ble_eq_true rfl)) dL_law_1575 ⟨by first | exact Nat.le_of_ble_eq_true rfl | omega | (dsimp only [lwR]; omega) | (show _ ≤ _; omega), by first | exact Nat.le_of_ble_eq_true rfl | omega | (dsimp only [lwR]; omega) | (show _ ≤ _; omega)⟩) hS_41 (fun q _ h => (ge_mm q) h) (fun q h => (ge_mm q) h) (fun z_59 H_57 locs_54 hz_56 hF_58 hS_55 => ?_)
    have hzf_60 := hF_58.1
    obtain ⟨hv_61, ho_62⟩ := hz_56
    subst z_59
    refine lv_istore (lv' := [(7, .int (kI (0))), (6, .int (kI (1))), (0, .ref b), (1, .ref x1), (2, .ref mm), (3, .ref out), (4, .ref outD), (5, .int (kI ((3 * j : Nat) : Int)))]) hx hb dL_law_1578 hl (by decide) rfl (fun ls hl => ?_)
    refine lv_aload_n hx hb dL_law_1580 rfl (lv_at hl 4 rfl) ?_
    refine kx_ci0 (va_runV (As := []) (rest := []) ⟨hx, hb, hml, hown, hts⟩ (m_X3_thrown l D H_57 mm ra sa ka ta nh ik t.length 1 sp9 iw le9 fi9 se9 ho_62 ) (cwV 0 hts (lw_V q2278 q2279 q2280 q89 q2281) rfl rfl rfl (by decide +kernel) ⟨Nat.le_of_ble_eq_true rfl, Nat.le_of_ble_eq_true rfl⟩) (kx_pv hK hS_55 hB (kx_rc hK ho_62 (C := RX3) (T := TX3) (N := 13) rfl)) rfl rfl hl.1 rfl (lv_room (Nat.le_of_ble_eq_true rfl)) dL_law_1581 ⟨by first | exact Nat.le_of_ble_eq_true rfl | omega | (dsimp only [lwR]; omega) | (show _ ≤ _; omega), by first | exact Nat.le_of_ble_eq_true rfl | omega | (dsimp only [lwR]; omega) | (show _ ≤ _; omega)⟩) hS_55 (fun z_66 locs_63 hz_65 hS_64 => ?_)
    subst z_66
    refine lv_iload hx hb dL_law_1584 (lv_at hl 1 rfl) ?_
    refine kx_icmp_eq (x := 1) (y := 1) (tgt := 1591) hx hb dL_law_1586 (by decide) (by omega) (by omega) (by omega) (by omega) (fun c_1586_67 => ?_) (fun c_1586_67 => ?_)
    · -- taken at 1586
      refine lv_iload hx hb dL_law_1591 (lv_at hl 1 rfl) ?_
      refine kx_if_ne (x := 1) (tgt := 1608) hx hb dL_law_1593 (by decide) (by omega) (by omega) (fun c_1593_68 => ?_) (fun c_1593_68 => ?_)
      · -- taken at 1593
        refine lv_goto (tgt := 2493) hx hb dL_law_1608 (by decide) ?_
        have h_69 := h_50.fr hF_58 (n_mm_ra.sm)
        have h_70 := h_51.fr hF_58 (n_mm_sa.sm)
        have h_71 := h_52.fr hF_58 (n_mm_ka.sm)
        have h_72 := h_53.fr hF_58 (n_mm_ta.sm)
        have h_73 := hA_out.ex hF_44
        have h_74 := h_73.fr hF_58 (n_mm_out.sm)
        have h_75 := hA_outD.ex hF_44
        have h_76 := h_75.fr hF_58 (n_mm_outD.sm)
        have h_77 := hW.ex hd9 hF_44
        have h_78 := h_77.fr hd9 hF_58 (fun x => (ty_mm x))
        refine W.widen (k := cells + 50000) (n := slots + 228000) (by omega) (by omega) ?_
        have hM9 : kM D H_57 c0 out mm (S, gap) ((sl.map Prod.snd).head?) (hl2.map Prod.snd) t := ⟨ra, sa, ka, ta, _, _, _, _, _, _, _, _, _, _, _, _, ho_62, h_69, h_70, h_71, h_72, hMr, hMh, hMk, hMt, ht60, hMd, hMb, hMi⟩
        exact kk (S, gap) ((sl.map Prod.snd).head?) (hl2.map Prod.snd) t _ _ _ ⟨hS_64, lv_sub hl [2, 3, 4, 5, 6, 7] rfl, h_78, hM9, ⟨_, h_74⟩, ⟨_, h_76⟩, by omega, by omega⟩
      · -- not taken at 1593
        exfalso; omega
    · -- not taken at 1586
      exfalso; omega

set_option maxHeartbeats 8000000 in
set_option maxRecDepth 100000 in
theorem lc_placesOf {p : Program} {e : Env} {s : State} {m : MethodId} {below : List Frame} {meth : Method} {c : Code} {l : Launch} {D : kG} {b L c0 c1 x1 mm out outD : Nat} {xs : Nat → Int32} {Q : State → Prop} (C0 : lwC D p l s m meth c b L c0 c1 out outD xs) {j : Nat} (hj : 3 * j + 3 ≤ L) {S : Ls} {gap : Int} {sn : Option Sg} {hs : List Sg} {t : List Int} {H : Heap} {locs : List Loc} {ls : Array Slot} (I0 : lwI D s b c0 c1 x1 mm out outD j j (S, gap) sn hs t H locs ls) {cells slots : Nat} (hcl : cells + 50000 ≤ 1200144) (hsl9 : slots + 228000 ≤ 5496058) (kk : ∀ (σ : Sg) (sn : Option Sg) (hs : List Sg) (t : List Int) (H : Heap) (locs : List Loc) (ls : Array Slot), lwI D s b c0 c1 x1 mm out outD j (j + 1) σ sn hs t H locs ls → W p l e lwR s m #[Value.ref b] below meth c H locs (cells + 50000) (slots + 228000) Q (F0 m 2493 ls [])) : W p l e lwR s m #[Value.ref b] below meth c H locs cells slots Q (F0 m 1747 ls []) := by
  obtain ⟨hx, hb, hml, hown, hts, hlk, hK, hl9, hX, hbl, hbs, hL72, hc0, hco, hod, hdc⟩ := C0
  obtain ⟨hS, hl, hW, hM, ⟨go, hA_out⟩, ⟨gd, hA_outD⟩, hc1, htl⟩ := I0
  have hB : ∀ q, (kNW s.heap) q → kBase D ≤ q := fun q h => Nat.le_trans hK.size h
  have hbA : ¬ (kNW s.heap) b := fun h => by have h9 : s.heap.size ≤ b := h; omega
  have hd9 := hK.dis
  have hxE : ¬ kBase D ≤ D.2.2.2 2 := hK.tE.out
  obtain ⟨z1, hz1⟩ : ∃ z, z = (xs (3 * j + 1)).toInt := ⟨_, rfl⟩
  obtain ⟨z2, hz2⟩ : ∃ z, z = (xs (3 * j + 2)).toInt := ⟨_, rfl⟩
  have hr1 : -2147483648 ≤ z1 ∧ z1 ≤ 2147483647 := by rw [hz1]; exact i32r _
  have hr2 : -2147483648 ≤ z2 ∧ z2 ≤ 2147483647 := by rw [hz2]; exact i32r _
  obtain ⟨⟨st, la, ea, F⟩, sl, hl2, hi, es, bu, vb, hO_x1, hDq, hTx, hX5, hev, hAl, hDj, hPw, hsl, hsn, hhs⟩ := id hW
  subst hsn
  subst hhs
  obtain ⟨ra, sa, ka, ta, nh, ik, th, sp9, iw, le9, fi9, se9, g, gs, gk, gt, hO_mm, hA_ra, hA_sa, hA_ka, hA_ta, hMr, hMh, hMk, hMt, ht60, hMd, hMb, hMi⟩ := id hM
  have hMr : MRow g S gap := hMr
  have h0 := hAl _ List.mem_cons_self
  have hP_kState_st : kState D H st la ea gap S F := h0.1
  have hok : LsOK S gap := h0.2.1
  have hG : StG S := h0.2.2.1
  have hL8 : S.length ≤ 8 := hok.1
  have hgp := hok.2.1
  have hO_x1 : kO D H x1 0 [.ref st, va_rf ((sl.map (fun a => a.1.1)).head?), .ref hi, .ref bu] := hO_x1
  have hOw : ∀ q, kOwn D st la ea F S.length q → q ∉ [x1, hi, es, bu, vb] ∧ (q < c0 ∨ c1 ≤ q) := h0.2.2.2
  have hev : Hd (es ≠ vb) := hev
  have io_x1 : ∀ x, c0 ≤ x → x < c1 → x ≠ x1 := fun x => out_of (hX5 x1 (by simp)).2
  have io_hi : ∀ x, c0 ≤ x → x < c1 → x ≠ hi := fun x => out_of (hX5 hi (by simp)).2
  have io_es : ∀ x, c0 ≤ x → x < c1 → x ≠ es := fun x => out_of (hX5 es (by simp)).2
  have io_bu : ∀ x, c0 ≤ x → x < c1 → x ≠ bu := fun x => out_of (hX5 bu (by simp)).2
  have io_vb : ∀ x, c0 ≤ x → x < c1 → x ≠ vb := fun x => out_of (hX5 vb (by simp)).2
  have b_x1 := (hX5 x1 (by simp)).1
  have b_hi := (hX5 hi (by simp)).1
  have b_es := (hX5 es (by simp)).1
  have b_bu := (hX5 bu (by simp)).1
  have b_vb := (hX5 vb (by simp)).1
  obtain ⟨⟨⟨n1, n2, n3, n4⟩, n5, n6, n7⟩, n8, n9, n10⟩ := hMd
  have n_mm_ra : Hd (mm ≠ ra) := n1
  have n_mm_sa : Hd (mm ≠ sa) := n2
  have n_mm_ka : Hd (mm ≠ ka) := n3
  have n_mm_ta : Hd (mm ≠ ta) := n4
  have n_ra_sa : Hd (ra ≠ sa) := n5
  have n_ra_ka : Hd (ra ≠ ka) := n6
  have n_ra_ta : Hd (ra ≠ ta) := n7
  have n_sa_ka : Hd (sa ≠ ka) := n8
  have n_sa_ta : Hd (sa ≠ ta) := n9
  have n_ka_ta : Hd (ka ≠ ta) := n10
  have hMd : Hd (((mm ≠ ra ∧ mm ≠ sa ∧ mm ≠ ka ∧ mm ≠ ta) ∧ ra ≠ sa ∧ ra ≠ ka ∧ ra ≠ ta) ∧ sa ≠ ka ∧ sa ≠ ta ∧ ka ≠ ta) := ⟨⟨⟨n1, n2, n3, n4⟩, n5, n6, n7⟩, n8, n9, n10⟩
  clear n1 n2 n3 n4 n5 n6 n7 n8 n9 n10
  obtain ⟨b_mm, b_ra, b_sa, b_ka, b_ta⟩ := id hMb
  obtain ⟨i_mm, i_ra, i_sa, i_ka, i_ta⟩ := id hMi
  have b_out : kBase D ≤ out := by omega
  have hcc : c0 ≤ c1 := by omega
  have w_mm : mm < c1 := by omega
  have n_mm_out : Hd (mm ≠ out) := Nat.ne_of_lt i_mm.2
  have n_mm_outD : Hd (mm ≠ outD) := Nat.ne_of_lt (Nat.lt_trans i_mm.2 hod)
  have w_ra : ra < c1 := by omega
  have n_ra_out : Hd (ra ≠ out) := Nat.ne_of_lt i_ra.2
  have n_ra_outD : Hd (ra ≠ outD) := Nat.ne_of_lt (Nat.lt_trans i_ra.2 hod)
  have w_sa : sa < c1 := by omega
  have n_sa_out : Hd (sa ≠ out) := Nat.ne_of_lt i_sa.2
  have n_sa_outD : Hd (sa ≠ outD) := Nat.ne_of_lt (Nat.lt_trans i_sa.2 hod)
  have w_ka : ka < c1 := by omega
  have n_ka_out : Hd (ka ≠ out) := Nat.ne_of_lt i_ka.2
  have n_ka_outD : Hd (ka ≠ outD) := Nat.ne_of_lt (Nat.lt_trans i_ka.2 hod)
  have w_ta : ta < c1 := by omega
  have n_ta_out : Hd (ta ≠ out) := Nat.ne_of_lt i_ta.2
  have n_ta_outD : Hd (ta ≠ outD) := Nat.ne_of_lt (Nat.lt_trans i_ta.2 hod)
  have ge_mm : ∀ q, q = mm → kNW s.heap q := fun q h => by rw [h]; show s.heap.size ≤ mm; omega
  have ge_ra : ∀ q, q = ra → kNW s.heap q := fun q h => by rw [h]; show s.heap.size ≤ ra; omega
  have ge_sa : ∀ q, q = sa → kNW s.heap q := fun q h => by rw [h]; show s.heap.size ≤ sa; omega
  have ge_ka : ∀ q, q = ka → kNW s.heap q := fun q h => by rw [h]; show s.heap.size ≤ ka; omega
  have ge_ta : ∀ q, q = ta → kNW s.heap q := fun q h => by rw [h]; show s.heap.size ≤ ta; omega
  have ge_out : ∀ q, q = out → kNW s.heap q := fun q h => by rw [h]; show s.heap.size ≤ out; omega
  have n_out_outD : Hd (out ≠ outD) := Nat.ne_of_lt hod
  have w_out : out < c1 := by omega
  have w_outD : outD < c1 := hdc
  have i_outD : c0 ≤ outD := by omega
  have htyo : kTy D H out := Or.inr ⟨2, _, by decide, hA_out⟩
  have htyd : kTy D H outD := Or.inr ⟨3, _, by decide, hA_outD⟩
  have to_out : ∀ x, x = out → H.size ≤ x ∨ (kTy D H x ∧ c0 ≤ x ∧ x < c1) := fun x h => by rw [h]; exact Or.inr ⟨htyo, hco, w_out⟩
  have to_outD : ∀ x, x = outD → H.size ≤ x ∨ (kTy D H x ∧ c0 ≤ x ∧ x < c1) := fun x h => by rw [h]; exact Or.inr ⟨htyd, i_outD, w_outD⟩
  obtain ⟨⟨hO_st, mc9, hO_la⟩, hLs9, hLn9, hF9, hDs9, hb1, hb2, hb3⟩ := id hP_kState_st
  by_cases hA : 0 ≤ z1 ∧ z1 < (S.length : Int)
  · -- hA
    obtain ⟨ln9, hv1⟩ : ∃ k : Nat, z1 = (k : Int) := ⟨z1.toNat, by omega⟩
    have hln : ln9 < S.length := by omega
    have hLn := hok.ln hln
    have hr9 : 0 ≤ st_places S gap ln9 ∧ st_places S gap ln9 ≤ ((ln_n (st_ln S ln9) + 1 : Nat) : Int) := st_placesTo_rng S gap ln9 (ln_n (st_ln S ln9) + 1)
    have hn9 := hLn.n
    have hrv : -2147483648 ≤ st_places S gap ln9 ∧ st_places S gap ln9 ≤ 2147483647 := ⟨by omega, by omega⟩
    refine lv_aload_n hx hb dL_law_1747 rfl (lv_at hl 1 rfl) ?_
    refine lv_aload_n hx hb dL_law_1748 rfl (lv_at hl 0 rfl) ?_
    refine lv_iload hx hb dL_law_1749 (lv_at hl 5 rfl) ?_
    refine kx_iconst hx hb dL_law_1751 ?_
    refine kx_iadd hx hb dL_law_1752 ?_
    refine kx_sld (i := (((3 * j : Nat) : Int) + 1)) hx hb hX hbl hbA hS (3 * j + 1) (by omega) (by omega) (by omega) dL_law_1753 ?_
    refine kx_eqi (((ln9 : Nat) : Int)) (hz1.symm.trans hv1) ?_
    refine lv_aload_n hx hb dL_law_1754 rfl (lv_at hl 3 rfl) ?_
    refine kx_ci (vx_runSW (As := [.ref x1, .int (kI ((ln9 : Nat) : Int)), .ref out]) (rest := []) ⟨hx, hb, hml, hown, hts⟩ (wr_placesOf l hl9 D H x1 ((sl.map (fun a => a.1.1)).head?) hi bu st la mc9 ea F S gap ln9 out go hO_x1 hO_st hO_la hLs9 hLn9 hA_out (by first | assumption | omega) (by first | assumption | omega) (by first | assumption | omega) (by first | assumption | omega)) (vx_cwSW 3 hts (lw_SW q2053 q2054 q78 q2055) rfl rfl rfl (by decide +kernel) ⟨Nat.le_of_ble_eq_true rfl, Nat.le_of_ble_eq_true rfl⟩) (kx_ps hK hS hB) rfl rfl hl.1 rfl (lv_room (Nat.le_of_ble_eq_true rfl)) dL_law_1755 ⟨by first | exact Nat.le_of_ble_eq_true rfl | omega | (dsimp only [lwR]; omega) | (show _ ≤ _; omega), by first | exact Nat.le_of_ble_eq_true rfl | omega | (dsimp only [lwR]; omega) | (show _ ≤ _; omega)⟩) hS (fun q _ h => (fun h => Or.elim h (ge_out q) (fun h => Nat.le_trans hS.1 h)) h) (fun q h => (fun h => Or.elim h (ge_out q) (fun h => Nat.le_trans hS.1 h)) h) (fun z_6 H_4 locs_1 hz_3 hF_5 hS_2 => ?_)
    have hzf_7 := hF_5.1
    obtain ⟨hv_8, ho_9⟩ := hz_3
    subst z_6
    refine lv_istore (lv' := [(6, .int (kI (0))), (0, .ref b), (1, .ref x1), (2, .ref mm), (3, .ref out), (4, .ref outD), (5, .int (kI ((3 * j : Nat) : Int)))]) hx hb dL_law_1758 hl (by decide) rfl (fun ls hl => ?_)
    refine lv_aload_n hx hb dL_law_1760 rfl (lv_at hl 3 rfl) ?_
    refine lv_aload_n hx hb dL_law_1761 rfl (lv_at hl 1 rfl) ?_
    refine lv_iload hx hb dL_law_1762 (lv_at hl 6 rfl) ?_
    refine kx_iconst hx hb dL_law_1764 ?_
    refine kx_iadd hx hb dL_law_1765 ?_
    refine kx_sld (i := (((3 * j : Nat) : Int) + 1)) hx hb hX hbl hbA hS_2 (3 * j + 1) (by omega) (by omega) (by omega) dL_law_1766 ?_
    refine kx_eqi (((ln9 : Nat) : Int)) (hz1.symm.trans hv1) ?_
    have h_10 := hO_mm.fr hF_5 (fun h => Or.elim h (n_mm_out) (fun h => Nat.not_le_of_gt hO_mm.lt h))
    have h_11 := hA_ra.fr hF_5 (fun h => Or.elim h (n_ra_out) (fun h => Nat.not_le_of_gt hA_ra.lt h))
    have h_12 := hA_sa.fr hF_5 (fun h => Or.elim h (n_sa_out) (fun h => Nat.not_le_of_gt hA_sa.lt h))
    have h_13 := hA_ka.fr hF_5 (fun h => Or.elim h (n_ka_out) (fun h => Nat.not_le_of_gt hA_ka.lt h))
    have h_14 := hA_ta.fr hF_5 (fun h => Or.elim h (n_ta_out) (fun h => Nat.not_le_of_gt hA_ta.lt h))
    have ty_mm : ∀ x, x = mm → H_4.size ≤ x ∨ (kTy D H_4 x ∧ c0 ≤ x ∧ x < c1) := fun x h => by rw [h]; exact Or.inr ⟨Or.inl ⟨2, _, by decide, by decide, by decide, h_10⟩, i_mm.1, w_mm⟩
    refine kx_ci (va_runV (As := [.int (kI ((ln9 : Nat) : Int))]) (rest := []) ⟨hx, hb, hml, hown, hts⟩ (m_X3_placesOf l D H_4 mm ra sa ka ta nh ik t.length th sp9 iw le9 fi9 se9 g S gap ln9 h_10 h_11 (by first | assumption | omega) (by first | assumption | omega) n_mm_ra b_mm (by first | assumption | omega)) (cwV 1 hts (lw_V q2544 q2545 q2546 q89 q2547) rfl rfl rfl (by decide +kernel) ⟨Nat.le_of_ble_eq_true rfl, Nat.le_of_ble_eq_true rfl⟩) (kx_pv hK hS_2 hB (kx_rc hK h_10 (C := RX3) (T := TX3) (N := 13) rfl)) rfl rfl hl.1 rfl (lv_room (Nat.le_of_ble_eq_true rfl)) dL_law_1767 ⟨by first | exact Nat.le_of_ble_eq_true rfl | omega | (dsimp only [lwR]; omega) | (show _ ≤ _; omega), by first | exact Nat.le_of_ble_eq_true rfl | omega | (dsimp only [lwR]; omega) | (show _ ≤ _; omega)⟩) hS_2 (fun q _ h => (ge_mm q) h) (fun q h => (ge_mm q) h) (fun z_20 H_18 locs_15 hz_17 hF_19 hS_16 => ?_)
    have hzf_21 := hF_19.1
    obtain ⟨hv_22, ho_23⟩ := hz_17
    subst z_20
    refine lv_istore (lv' := [(7, .int (kI (st_places S gap ln9))), (6, .int (kI (0))), (0, .ref b), (1, .ref x1), (2, .ref mm), (3, .ref out), (4, .ref outD), (5, .int (kI ((3 * j : Nat) : Int)))]) hx hb dL_law_1770 hl (by decide) rfl (fun ls hl => ?_)
    refine lv_aload_n hx hb dL_law_1772 rfl (lv_at hl 4 rfl) ?_
    refine kx_ci0 (va_runV (As := []) (rest := []) ⟨hx, hb, hml, hown, hts⟩ (m_X3_thrown l D H_18 mm ra sa ka ta nh ik t.length 0 sp9 iw le9 fi9 se9 ho_23 ) (cwV 0 hts (lw_V q2278 q2279 q2280 q89 q2281) rfl rfl rfl (by decide +kernel) ⟨Nat.le_of_ble_eq_true rfl, Nat.le_of_ble_eq_true rfl⟩) (kx_pv hK hS_16 hB (kx_rc hK ho_23 (C := RX3) (T := TX3) (N := 13) rfl)) rfl rfl hl.1 rfl (lv_room (Nat.le_of_ble_eq_true rfl)) dL_law_1773 ⟨by first | exact Nat.le_of_ble_eq_true rfl | omega | (dsimp only [lwR]; omega) | (show _ ≤ _; omega), by first | exact Nat.le_of_ble_eq_true rfl | omega | (dsimp only [lwR]; omega) | (show _ ≤ _; omega)⟩) hS_16 (fun z_27 locs_24 hz_26 hS_25 => ?_)
    subst z_27
    refine lv_iload hx hb dL_law_1776 (lv_at hl 1 rfl) ?_
    refine kx_icmp_eq (x := 0) (y := 0) (tgt := 1783) hx hb dL_law_1778 (by decide) (by omega) (by omega) (by omega) (by omega) (fun c_1778_28 => ?_) (fun c_1778_28 => ?_)
    · -- taken at 1778
      refine lv_iload hx hb dL_law_1783 (lv_at hl 1 rfl) ?_
      refine kx_if_ne (x := 0) (tgt := 1800) hx hb dL_law_1785 (by decide) (by omega) (by omega) (fun c_1785_29 => ?_) (fun c_1785_29 => ?_)
      · -- taken at 1785
        exfalso; omega
      · -- not taken at 1785
        refine lv_aload_n hx hb dL_law_1788 rfl (lv_at hl 5 rfl) ?_
        refine kx_iconst hx hb dL_law_1789 ?_
        have h_30 := ho_9.fr hF_19 (n_mm_out.sm)
        refine kx_lald (i := 0) hx hb hK h_30 0 rfl (by decide) (by decide) dL_law_1790 ?_
        refine lv_iload hx hb dL_law_1791 (lv_at hl 0 rfl) ?_
        refine kx_i2l hx hb (z := st_places S gap ln9) (by omega) (by omega) dL_law_1793 ?_
        refine kx_lcmpE hx hb (x := ((kup go 0 (kL (st_places S gap ln9)))) 0) (y := kL (st_places S gap ln9)) (kup_self _ _ _) dL_law_1794 ?_
        refine kx_if_eq (x := 0) (tgt := 1800) hx hb dL_law_1795 (by decide) (by omega) (by omega) (fun c_1795_31 => ?_) (fun c_1795_31 => ?_)
        · -- taken at 1795
          refine lv_goto (tgt := 2493) hx hb dL_law_1800 (by decide) ?_
          have h_32 := h_11.fr hF_19 (n_mm_ra.sm)
          have h_33 := h_12.fr hF_19 (n_mm_sa.sm)
          have h_34 := h_13.fr hF_19 (n_mm_ka.sm)
          have h_35 := h_14.fr hF_19 (n_mm_ta.sm)
          have h_36 := hA_outD.fr hF_5 (fun h => Or.elim h (n_out_outD.sm) (fun h => Nat.not_le_of_gt hA_outD.lt h))
          have h_37 := h_36.fr hF_19 (n_mm_outD.sm)
          have h_38 := hW.fr hd9 hF_5 (fun x => (fun h => Or.elim h (to_out x) (fun h => Or.inl h)))
          have h_39 := h_38.fr hd9 hF_19 (fun x => (ty_mm x))
          refine W.widen (k := cells + 50000) (n := slots + 228000) (by omega) (by omega) ?_
          have hM9 : kM D H_18 c0 out mm (S, gap) ((sl.map Prod.snd).head?) (hl2.map Prod.snd) t := ⟨ra, sa, ka, ta, _, _, _, _, _, _, _, _, _, _, _, _, ho_23, h_32, h_33, h_34, h_35, hMr, hMh, hMk, hMt, ht60, hMd, hMb, hMi⟩
          exact kk (S, gap) ((sl.map Prod.snd).head?) (hl2.map Prod.snd) t _ _ _ ⟨hS_25, lv_sub hl [2, 3, 4, 5, 6, 7] rfl, h_39, hM9, ⟨_, h_30⟩, ⟨_, h_37⟩, by omega, by omega⟩
        · -- not taken at 1795
          exfalso; omega
    · -- not taken at 1778
      exfalso; omega
  · -- hA
    refine lv_aload_n hx hb dL_law_1747 rfl (lv_at hl 1 rfl) ?_
    refine lv_aload_n hx hb dL_law_1748 rfl (lv_at hl 0 rfl) ?_
    refine lv_iload hx hb dL_law_1749 (lv_at hl 5 rfl) ?_
    refine kx_iconst hx hb dL_law_1751 ?_
    refine kx_iadd hx hb dL_law_1752 ?_
    refine kx_sld (i := (((3 * j : Nat) : Int) + 1)) hx hb hX hbl hbA hS (3 * j + 1) (by omega) (by omega) (by omega) dL_law_1753 ?_
    refine kx_eqi (z1) (hz1.symm) ?_
    refine lv_aload_n hx hb dL_law_1754 rfl (lv_at hl 3 rfl) ?_
    refine kx_ci (vx_runSW (As := [.ref x1, .int (kI (z1)), .ref out]) (rest := []) ⟨hx, hb, hml, hown, hts⟩ (wx_placesOf l hl9 D H x1 ((sl.map (fun a => a.1.1)).head?) hi bu st la mc9 ea F S gap z1 out hO_x1 hO_st hO_la hLs9 hLn9 (by first | assumption | omega) (by first | assumption | omega) (by first | assumption | omega)) (vx_cwSW 3 hts (lw_SW q2053 q2054 q78 q2055) rfl rfl rfl (by decide +kernel) ⟨Nat.le_of_ble_eq_true rfl, Nat.le_of_ble_eq_true rfl⟩) (kx_ps hK hS hB) rfl rfl hl.1 rfl (lv_room (Nat.le_of_ble_eq_true rfl)) dL_law_1755 ⟨by first | exact Nat.le_of_ble_eq_true rfl | omega | (dsimp only [lwR]; omega) | (show _ ≤ _; omega), by first | exact Nat.le_of_ble_eq_true rfl | omega | (dsimp only [lwR]; omega) | (show _ ≤ _; omega)⟩) hS (fun q _ h => by have h9 := hS.1; (try dsimp only at h); (try dsimp only); (try simp only [kNW] at h); (try simp only [kNW]); omega) (fun q h => by have h9 := hS.1; (try dsimp only at h); (try dsimp only); (try simp only [kNW] at h); (try simp only [kNW]); omega) (fun z_45 H_43 locs_40 hz_42 hF_44 hS_41 => ?_)
    have hzf_46 := hF_44.1
    have hF_44 := hF_44.nw
    obtain ⟨hv_47, hnw_48⟩ := hz_42
    subst z_45
    refine lv_istore (lv' := [(6, .int (kI (1))), (0, .ref b), (1, .ref x1), (2, .ref mm), (3, .ref out), (4, .ref outD), (5, .int (kI ((3 * j : Nat) : Int)))]) hx hb dL_law_1758 hl (by decide) rfl (fun ls hl => ?_)
    refine lv_aload_n hx hb dL_law_1760 rfl (lv_at hl 3 rfl) ?_
    refine lv_aload_n hx hb dL_law_1761 rfl (lv_at hl 1 rfl) ?_
    refine lv_iload hx hb dL_law_1762 (lv_at hl 6 rfl) ?_
    refine kx_iconst hx hb dL_law_1764 ?_
    refine kx_iadd hx hb dL_law_1765 ?_
    refine kx_sld (i := (((3 * j : Nat) : Int) + 1)) hx hb hX hbl hbA hS_41 (3 * j + 1) (by omega) (by omega) (by omega) dL_law_1766 ?_
    refine kx_eqi (z1) (hz1.symm) ?_
    have h_49 := hO_mm.ex hF_44
    have h_50 := hA_ra.ex hF_44
    have h_51 := hA_sa.ex hF_44
    have h_52 := hA_ka.ex hF_44
    have h_53 := hA_ta.ex hF_44
    have ty_mm : ∀ x, x = mm → H_43.size ≤ x ∨ (kTy D H_43 x ∧ c0 ≤ x ∧ x < c1) := fun x h => by rw [h]; exact Or.inr ⟨Or.inl ⟨2, _, by decide, by decide, by decide, h_49⟩, i_mm.1, w_mm⟩
    refine kx_ci (va_runV (As := [.int (kI (z1))]) (rest := []) ⟨hx, hb, hml, hown, hts⟩ (m_X3_placesOf_no l D H_43 mm ra sa ka ta nh ik t.length th sp9 iw le9 fi9 se9 g S gap z1 h_49 h_50 (by first | assumption | omega) (by first | assumption | omega) n_mm_ra b_mm (by first | assumption | omega) (by first | assumption | omega)) (cwV 1 hts (lw_V q2544 q2545 q2546 q89 q2547) rfl rfl rfl (by decide +kernel) ⟨Nat.le_of_ble_eq_true rfl, Nat.le_of_ble_eq_true rfl⟩) (kx_pv hK hS_41 hB (kx_rc hK h_49 (C := RX3) (T := TX3) (N := 13) rfl)) rfl rfl hl.1 rfl (lv_room (Nat.le_of_ble_eq_true rfl)) dL_law_1767 ⟨by first | exact Nat.le_of_ble_eq_true rfl | omega | (dsimp only [lwR]; omega) | (show _ ≤ _; omega), by first | exact Nat.le_of_ble_eq_true rfl | omega | (dsimp only [lwR]; omega) | (show _ ≤ _; omega)⟩) hS_41 (fun q _ h => (ge_mm q) h) (fun q h => (ge_mm q) h) (fun z_59 H_57 locs_54 hz_56 hF_58 hS_55 => ?_)
    have hzf_60 := hF_58.1
    obtain ⟨hv_61, ho_62⟩ := hz_56
    subst z_59
    refine lv_istore (lv' := [(7, .int (kI (0))), (6, .int (kI (1))), (0, .ref b), (1, .ref x1), (2, .ref mm), (3, .ref out), (4, .ref outD), (5, .int (kI ((3 * j : Nat) : Int)))]) hx hb dL_law_1770 hl (by decide) rfl (fun ls hl => ?_)
    refine lv_aload_n hx hb dL_law_1772 rfl (lv_at hl 4 rfl) ?_
    refine kx_ci0 (va_runV (As := []) (rest := []) ⟨hx, hb, hml, hown, hts⟩ (m_X3_thrown l D H_57 mm ra sa ka ta nh ik t.length 1 sp9 iw le9 fi9 se9 ho_62 ) (cwV 0 hts (lw_V q2278 q2279 q2280 q89 q2281) rfl rfl rfl (by decide +kernel) ⟨Nat.le_of_ble_eq_true rfl, Nat.le_of_ble_eq_true rfl⟩) (kx_pv hK hS_55 hB (kx_rc hK ho_62 (C := RX3) (T := TX3) (N := 13) rfl)) rfl rfl hl.1 rfl (lv_room (Nat.le_of_ble_eq_true rfl)) dL_law_1773 ⟨by first | exact Nat.le_of_ble_eq_true rfl | omega | (dsimp only [lwR]; omega) | (show _ ≤ _; omega), by first | exact Nat.le_of_ble_eq_true rfl | omega | (dsimp only [lwR]; omega) | (show _ ≤ _; omega)⟩) hS_55 (fun z_66 locs_63 hz_65 hS_64 => ?_)
    subst z_66
    refine lv_iload hx hb dL_law_1776 (lv_at hl 1 rfl) ?_
    refine kx_icmp_eq (x := 1) (y := 1) (tgt := 1783) hx hb dL_law_1778 (by decide) (by omega) (by omega) (by omega) (by omega) (fun c_1778_67 => ?_) (fun c_1778_67 => ?_)
    · -- taken at 1778
      refine lv_iload hx hb dL_law_1783 (lv_at hl 1 rfl) ?_
      refine kx_if_ne (x := 1) (tgt := 1800) hx hb dL_law_1785 (by decide) (by omega) (by omega) (fun c_1785_68 => ?_) (fun c_1785_68 => ?_)
      · -- taken at 1785
        refine lv_goto (tgt := 2493) hx hb dL_law_1800 (by decide) ?_
        have h_69 := h_50.fr hF_58 (n_mm_ra.sm)
        have h_70 := h_51.fr hF_58 (n_mm_sa.sm)
        have h_71 := h_52.fr hF_58 (n_mm_ka.sm)
        have h_72 := h_53.fr hF_58 (n_mm_ta.sm)
        have h_73 := hA_out.ex hF_44
        have h_74 := h_73.fr hF_58 (n_mm_out.sm)
        have h_75 := hA_outD.ex hF_44
        have h_76 := h_75.fr hF_58 (n_mm_outD.sm)
        have h_77 := hW.ex hd9 hF_44
        have h_78 := h_77.fr hd9 hF_58 (fun x => (ty_mm x))
        refine W.widen (k := cells + 50000) (n := slots + 228000) (by omega) (by omega) ?_
        have hM9 : kM D H_57 c0 out mm (S, gap) ((sl.map Prod.snd).head?) (hl2.map Prod.snd) t := ⟨ra, sa, ka, ta, _, _, _, _, _, _, _, _, _, _, _, _, ho_62, h_69, h_70, h_71, h_72, hMr, hMh, hMk, hMt, ht60, hMd, hMb, hMi⟩
        exact kk (S, gap) ((sl.map Prod.snd).head?) (hl2.map Prod.snd) t _ _ _ ⟨hS_64, lv_sub hl [2, 3, 4, 5, 6, 7] rfl, h_78, hM9, ⟨_, h_74⟩, ⟨_, h_76⟩, by omega, by omega⟩
      · -- not taken at 1785
        exfalso; omega
    · -- not taken at 1778
      exfalso; omega

set_option maxHeartbeats 8000000 in
set_option maxRecDepth 100000 in
theorem lc_bestPlace {p : Program} {e : Env} {s : State} {m : MethodId} {below : List Frame} {meth : Method} {c : Code} {l : Launch} {D : kG} {b L c0 c1 x1 mm out outD : Nat} {xs : Nat → Int32} {Q : State → Prop} (C0 : lwC D p l s m meth c b L c0 c1 out outD xs) {j : Nat} (hj : 3 * j + 3 ≤ L) {S : Ls} {gap : Int} {sn : Option Sg} {hs : List Sg} {t : List Int} {H : Heap} {locs : List Loc} {ls : Array Slot} (I0 : lwI D s b c0 c1 x1 mm out outD j j (S, gap) sn hs t H locs ls) {cells slots : Nat} (hcl : cells + 50000 ≤ 1200144) (hsl9 : slots + 228000 ≤ 5496058) (kk : ∀ (σ : Sg) (sn : Option Sg) (hs : List Sg) (t : List Int) (H : Heap) (locs : List Loc) (ls : Array Slot), lwI D s b c0 c1 x1 mm out outD j (j + 1) σ sn hs t H locs ls → W p l e lwR s m #[Value.ref b] below meth c H locs (cells + 50000) (slots + 228000) Q (F0 m 2493 ls [])) : W p l e lwR s m #[Value.ref b] below meth c H locs cells slots Q (F0 m 1803 ls []) := by
  obtain ⟨hx, hb, hml, hown, hts, hlk, hK, hl9, hX, hbl, hbs, hL72, hc0, hco, hod, hdc⟩ := C0
  obtain ⟨hS, hl, hW, hM, ⟨go, hA_out⟩, ⟨gd, hA_outD⟩, hc1, htl⟩ := I0
  have hB : ∀ q, (kNW s.heap) q → kBase D ≤ q := fun q h => Nat.le_trans hK.size h
  have hbA : ¬ (kNW s.heap) b := fun h => by have h9 : s.heap.size ≤ b := h; omega
  have hd9 := hK.dis
  have hxE : ¬ kBase D ≤ D.2.2.2 2 := hK.tE.out
  obtain ⟨z1, hz1⟩ : ∃ z, z = (xs (3 * j + 1)).toInt := ⟨_, rfl⟩
  obtain ⟨z2, hz2⟩ : ∃ z, z = (xs (3 * j + 2)).toInt := ⟨_, rfl⟩
  have hr1 : -2147483648 ≤ z1 ∧ z1 ≤ 2147483647 := by rw [hz1]; exact i32r _
  have hr2 : -2147483648 ≤ z2 ∧ z2 ≤ 2147483647 := by rw [hz2]; exact i32r _
  obtain ⟨⟨st, la, ea, F⟩, sl, hl2, hi, es, bu, vb, hO_x1, hDq, hTx, hX5, hev, hAl, hDj, hPw, hsl, hsn, hhs⟩ := id hW
  subst hsn
  subst hhs
  obtain ⟨ra, sa, ka, ta, nh, ik, th, sp9, iw, le9, fi9, se9, g, gs, gk, gt, hO_mm, hA_ra, hA_sa, hA_ka, hA_ta, hMr, hMh, hMk, hMt, ht60, hMd, hMb, hMi⟩ := id hM
  have hMr : MRow g S gap := hMr
  have h0 := hAl _ List.mem_cons_self
  have hP_kState_st : kState D H st la ea gap S F := h0.1
  have hok : LsOK S gap := h0.2.1
  have hG : StG S := h0.2.2.1
  have hL8 : S.length ≤ 8 := hok.1
  have hgp := hok.2.1
  have hO_x1 : kO D H x1 0 [.ref st, va_rf ((sl.map (fun a => a.1.1)).head?), .ref hi, .ref bu] := hO_x1
  have hOw : ∀ q, kOwn D st la ea F S.length q → q ∉ [x1, hi, es, bu, vb] ∧ (q < c0 ∨ c1 ≤ q) := h0.2.2.2
  have hev : Hd (es ≠ vb) := hev
  have io_x1 : ∀ x, c0 ≤ x → x < c1 → x ≠ x1 := fun x => out_of (hX5 x1 (by simp)).2
  have io_hi : ∀ x, c0 ≤ x → x < c1 → x ≠ hi := fun x => out_of (hX5 hi (by simp)).2
  have io_es : ∀ x, c0 ≤ x → x < c1 → x ≠ es := fun x => out_of (hX5 es (by simp)).2
  have io_bu : ∀ x, c0 ≤ x → x < c1 → x ≠ bu := fun x => out_of (hX5 bu (by simp)).2
  have io_vb : ∀ x, c0 ≤ x → x < c1 → x ≠ vb := fun x => out_of (hX5 vb (by simp)).2
  have b_x1 := (hX5 x1 (by simp)).1
  have b_hi := (hX5 hi (by simp)).1
  have b_es := (hX5 es (by simp)).1
  have b_bu := (hX5 bu (by simp)).1
  have b_vb := (hX5 vb (by simp)).1
  obtain ⟨⟨⟨n1, n2, n3, n4⟩, n5, n6, n7⟩, n8, n9, n10⟩ := hMd
  have n_mm_ra : Hd (mm ≠ ra) := n1
  have n_mm_sa : Hd (mm ≠ sa) := n2
  have n_mm_ka : Hd (mm ≠ ka) := n3
  have n_mm_ta : Hd (mm ≠ ta) := n4
  have n_ra_sa : Hd (ra ≠ sa) := n5
  have n_ra_ka : Hd (ra ≠ ka) := n6
  have n_ra_ta : Hd (ra ≠ ta) := n7
  have n_sa_ka : Hd (sa ≠ ka) := n8
  have n_sa_ta : Hd (sa ≠ ta) := n9
  have n_ka_ta : Hd (ka ≠ ta) := n10
  have hMd : Hd (((mm ≠ ra ∧ mm ≠ sa ∧ mm ≠ ka ∧ mm ≠ ta) ∧ ra ≠ sa ∧ ra ≠ ka ∧ ra ≠ ta) ∧ sa ≠ ka ∧ sa ≠ ta ∧ ka ≠ ta) := ⟨⟨⟨n1, n2, n3, n4⟩, n5, n6, n7⟩, n8, n9, n10⟩
  clear n1 n2 n3 n4 n5 n6 n7 n8 n9 n10
  obtain ⟨b_mm, b_ra, b_sa, b_ka, b_ta⟩ := id hMb
  obtain ⟨i_mm, i_ra, i_sa, i_ka, i_ta⟩ := id hMi
  have b_out : kBase D ≤ out := by omega
  have hcc : c0 ≤ c1 := by omega
  have w_mm : mm < c1 := by omega
  have n_mm_out : Hd (mm ≠ out) := Nat.ne_of_lt i_mm.2
  have n_mm_outD : Hd (mm ≠ outD) := Nat.ne_of_lt (Nat.lt_trans i_mm.2 hod)
  have w_ra : ra < c1 := by omega
  have n_ra_out : Hd (ra ≠ out) := Nat.ne_of_lt i_ra.2
  have n_ra_outD : Hd (ra ≠ outD) := Nat.ne_of_lt (Nat.lt_trans i_ra.2 hod)
  have w_sa : sa < c1 := by omega
  have n_sa_out : Hd (sa ≠ out) := Nat.ne_of_lt i_sa.2
  have n_sa_outD : Hd (sa ≠ outD) := Nat.ne_of_lt (Nat.lt_trans i_sa.2 hod)
  have w_ka : ka < c1 := by omega
  have n_ka_out : Hd (ka ≠ out) := Nat.ne_of_lt i_ka.2
  have n_ka_outD : Hd (ka ≠ outD) := Nat.ne_of_lt (Nat.lt_trans i_ka.2 hod)
  have w_ta : ta < c1 := by omega
  have n_ta_out : Hd (ta ≠ out) := Nat.ne_of_lt i_ta.2
  have n_ta_outD : Hd (ta ≠ outD) := Nat.ne_of_lt (Nat.lt_trans i_ta.2 hod)
  have ge_mm : ∀ q, q = mm → kNW s.heap q := fun q h => by rw [h]; show s.heap.size ≤ mm; omega
  have ge_ra : ∀ q, q = ra → kNW s.heap q := fun q h => by rw [h]; show s.heap.size ≤ ra; omega
  have ge_sa : ∀ q, q = sa → kNW s.heap q := fun q h => by rw [h]; show s.heap.size ≤ sa; omega
  have ge_ka : ∀ q, q = ka → kNW s.heap q := fun q h => by rw [h]; show s.heap.size ≤ ka; omega
  have ge_ta : ∀ q, q = ta → kNW s.heap q := fun q h => by rw [h]; show s.heap.size ≤ ta; omega
  have ge_out : ∀ q, q = out → kNW s.heap q := fun q h => by rw [h]; show s.heap.size ≤ out; omega
  have n_out_outD : Hd (out ≠ outD) := Nat.ne_of_lt hod
  have w_out : out < c1 := by omega
  have w_outD : outD < c1 := hdc
  have i_outD : c0 ≤ outD := by omega
  have htyo : kTy D H out := Or.inr ⟨2, _, by decide, hA_out⟩
  have htyd : kTy D H outD := Or.inr ⟨3, _, by decide, hA_outD⟩
  have to_out : ∀ x, x = out → H.size ≤ x ∨ (kTy D H x ∧ c0 ≤ x ∧ x < c1) := fun x h => by rw [h]; exact Or.inr ⟨htyo, hco, w_out⟩
  have to_outD : ∀ x, x = outD → H.size ≤ x ∨ (kTy D H x ∧ c0 ≤ x ∧ x < c1) := fun x h => by rw [h]; exact Or.inr ⟨htyd, i_outD, w_outD⟩
  obtain ⟨⟨hO_st, mc9, hO_la⟩, hLs9, hLn9, hF9, hDs9, hb1, hb2, hb3⟩ := id hP_kState_st
  by_cases hA : 0 ≤ z1 ∧ z1 < (S.length : Int)
  · -- hA
    obtain ⟨ln9, hv1⟩ : ∃ k : Nat, z1 = (k : Int) := ⟨z1.toNat, by omega⟩
    have hln : ln9 < S.length := by omega
    have hLn := hok.ln hln
    have hr9 := best_rng hok hln
    have hn9 := hLn.n
    have hrv : -2147483648 ≤ st_best S gap ln9 ∧ st_best S gap ln9 ≤ 2147483647 := ⟨by omega, by omega⟩
    refine lv_aload_n hx hb dL_law_1803 rfl (lv_at hl 1 rfl) ?_
    refine lv_aload_n hx hb dL_law_1804 rfl (lv_at hl 0 rfl) ?_
    refine lv_iload hx hb dL_law_1805 (lv_at hl 5 rfl) ?_
    refine kx_iconst hx hb dL_law_1807 ?_
    refine kx_iadd hx hb dL_law_1808 ?_
    refine kx_sld (i := (((3 * j : Nat) : Int) + 1)) hx hb hX hbl hbA hS (3 * j + 1) (by omega) (by omega) (by omega) dL_law_1809 ?_
    refine kx_eqi (((ln9 : Nat) : Int)) (hz1.symm.trans hv1) ?_
    refine lv_aload_n hx hb dL_law_1810 rfl (lv_at hl 3 rfl) ?_
    refine kx_ci (vx_runSW (As := [.ref x1, .int (kI ((ln9 : Nat) : Int)), .ref out]) (rest := []) ⟨hx, hb, hml, hown, hts⟩ (wr_bestPlace l hl9 D H x1 ((sl.map (fun a => a.1.1)).head?) hi bu st la mc9 ea F S gap ln9 out go hO_x1 hO_st hO_la hLs9 hLn9 hA_out (by first | assumption | omega) (by first | assumption | omega) (by first | assumption | omega) (by first | assumption | omega)) (vx_cwSW 3 hts (lw_SW q2064 q2065 q78 q2066) rfl rfl rfl (by decide +kernel) ⟨Nat.le_of_ble_eq_true rfl, Nat.le_of_ble_eq_true rfl⟩) (kx_ps hK hS hB) rfl rfl hl.1 rfl (lv_room (Nat.le_of_ble_eq_true rfl)) dL_law_1811 ⟨by first | exact Nat.le_of_ble_eq_true rfl | omega | (dsimp only [lwR]; omega) | (show _ ≤ _; omega), by first | exact Nat.le_of_ble_eq_true rfl | omega | (dsimp only [lwR]; omega) | (show _ ≤ _; omega)⟩) hS (fun q _ h => (fun h => Or.elim h (ge_out q) (fun h => Nat.le_trans hS.1 h)) h) (fun q h => (fun h => Or.elim h (ge_out q) (fun h => Nat.le_trans hS.1 h)) h) (fun z_6 H_4 locs_1 hz_3 hF_5 hS_2 => ?_)
    have hzf_7 := hF_5.1
    obtain ⟨hv_8, ho_9⟩ := hz_3
    subst z_6
    refine lv_istore (lv' := [(6, .int (kI (0))), (0, .ref b), (1, .ref x1), (2, .ref mm), (3, .ref out), (4, .ref outD), (5, .int (kI ((3 * j : Nat) : Int)))]) hx hb dL_law_1814 hl (by decide) rfl (fun ls hl => ?_)
    refine lv_aload_n hx hb dL_law_1816 rfl (lv_at hl 3 rfl) ?_
    refine lv_aload_n hx hb dL_law_1817 rfl (lv_at hl 1 rfl) ?_
    refine lv_iload hx hb dL_law_1818 (lv_at hl 6 rfl) ?_
    refine kx_iconst hx hb dL_law_1820 ?_
    refine kx_iadd hx hb dL_law_1821 ?_
    refine kx_sld (i := (((3 * j : Nat) : Int) + 1)) hx hb hX hbl hbA hS_2 (3 * j + 1) (by omega) (by omega) (by omega) dL_law_1822 ?_
    refine kx_eqi (((ln9 : Nat) : Int)) (hz1.symm.trans hv1) ?_
    have h_10 := hO_mm.fr hF_5 (fun h => Or.elim h (n_mm_out) (fun h => Nat.not_le_of_gt hO_mm.lt h))
    have h_11 := hA_ra.fr hF_5 (fun h => Or.elim h (n_ra_out) (fun h => Nat.not_le_of_gt hA_ra.lt h))
    have h_12 := hA_sa.fr hF_5 (fun h => Or.elim h (n_sa_out) (fun h => Nat.not_le_of_gt hA_sa.lt h))
    have h_13 := hA_ka.fr hF_5 (fun h => Or.elim h (n_ka_out) (fun h => Nat.not_le_of_gt hA_ka.lt h))
    have h_14 := hA_ta.fr hF_5 (fun h => Or.elim h (n_ta_out) (fun h => Nat.not_le_of_gt hA_ta.lt h))
    have ty_mm : ∀ x, x = mm → H_4.size ≤ x ∨ (kTy D H_4 x ∧ c0 ≤ x ∧ x < c1) := fun x h => by rw [h]; exact Or.inr ⟨Or.inl ⟨2, _, by decide, by decide, by decide, h_10⟩, i_mm.1, w_mm⟩
    refine kx_ci (va_runV (As := [.int (kI ((ln9 : Nat) : Int))]) (rest := []) ⟨hx, hb, hml, hown, hts⟩ (m_X3_bestPlace l D H_4 mm ra sa ka ta nh ik t.length th sp9 iw le9 fi9 se9 g S gap ln9 h_10 h_11 (by first | assumption | omega) (by first | assumption | omega) n_mm_ra b_mm (by first | assumption | omega)) (cwV 1 hts (lw_V q2548 q2549 q2550 q89 q2551) rfl rfl rfl (by decide +kernel) ⟨Nat.le_of_ble_eq_true rfl, Nat.le_of_ble_eq_true rfl⟩) (kx_pv hK hS_2 hB (kx_rc hK h_10 (C := RX3) (T := TX3) (N := 13) rfl)) rfl rfl hl.1 rfl (lv_room (Nat.le_of_ble_eq_true rfl)) dL_law_1823 ⟨by first | exact Nat.le_of_ble_eq_true rfl | omega | (dsimp only [lwR]; omega) | (show _ ≤ _; omega), by first | exact Nat.le_of_ble_eq_true rfl | omega | (dsimp only [lwR]; omega) | (show _ ≤ _; omega)⟩) hS_2 (fun q _ h => (ge_mm q) h) (fun q h => (ge_mm q) h) (fun z_20 H_18 locs_15 hz_17 hF_19 hS_16 => ?_)
    have hzf_21 := hF_19.1
    obtain ⟨hv_22, ho_23⟩ := hz_17
    subst z_20
    refine lv_istore (lv' := [(7, .int (kI (st_best S gap ln9))), (6, .int (kI (0))), (0, .ref b), (1, .ref x1), (2, .ref mm), (3, .ref out), (4, .ref outD), (5, .int (kI ((3 * j : Nat) : Int)))]) hx hb dL_law_1826 hl (by decide) rfl (fun ls hl => ?_)
    refine lv_aload_n hx hb dL_law_1828 rfl (lv_at hl 4 rfl) ?_
    refine kx_ci0 (va_runV (As := []) (rest := []) ⟨hx, hb, hml, hown, hts⟩ (m_X3_thrown l D H_18 mm ra sa ka ta nh ik t.length 0 sp9 iw le9 fi9 se9 ho_23 ) (cwV 0 hts (lw_V q2278 q2279 q2280 q89 q2281) rfl rfl rfl (by decide +kernel) ⟨Nat.le_of_ble_eq_true rfl, Nat.le_of_ble_eq_true rfl⟩) (kx_pv hK hS_16 hB (kx_rc hK ho_23 (C := RX3) (T := TX3) (N := 13) rfl)) rfl rfl hl.1 rfl (lv_room (Nat.le_of_ble_eq_true rfl)) dL_law_1829 ⟨by first | exact Nat.le_of_ble_eq_true rfl | omega | (dsimp only [lwR]; omega) | (show _ ≤ _; omega), by first | exact Nat.le_of_ble_eq_true rfl | omega | (dsimp only [lwR]; omega) | (show _ ≤ _; omega)⟩) hS_16 (fun z_27 locs_24 hz_26 hS_25 => ?_)
    subst z_27
    refine lv_iload hx hb dL_law_1832 (lv_at hl 1 rfl) ?_
    refine kx_icmp_eq (x := 0) (y := 0) (tgt := 1839) hx hb dL_law_1834 (by decide) (by omega) (by omega) (by omega) (by omega) (fun c_1834_28 => ?_) (fun c_1834_28 => ?_)
    · -- taken at 1834
      refine lv_iload hx hb dL_law_1839 (lv_at hl 1 rfl) ?_
      refine kx_if_ne (x := 0) (tgt := 1856) hx hb dL_law_1841 (by decide) (by omega) (by omega) (fun c_1841_29 => ?_) (fun c_1841_29 => ?_)
      · -- taken at 1841
        exfalso; omega
      · -- not taken at 1841
        refine lv_aload_n hx hb dL_law_1844 rfl (lv_at hl 5 rfl) ?_
        refine kx_iconst hx hb dL_law_1845 ?_
        have h_30 := ho_9.fr hF_19 (n_mm_out.sm)
        refine kx_lald (i := 0) hx hb hK h_30 0 rfl (by decide) (by decide) dL_law_1846 ?_
        refine lv_iload hx hb dL_law_1847 (lv_at hl 0 rfl) ?_
        refine kx_i2l hx hb (z := st_best S gap ln9) (by omega) (by omega) dL_law_1849 ?_
        refine kx_lcmpE hx hb (x := ((kup go 0 (kL (st_best S gap ln9)))) 0) (y := kL (st_best S gap ln9)) (kup_self _ _ _) dL_law_1850 ?_
        refine kx_if_eq (x := 0) (tgt := 1856) hx hb dL_law_1851 (by decide) (by omega) (by omega) (fun c_1851_31 => ?_) (fun c_1851_31 => ?_)
        · -- taken at 1851
          refine lv_goto (tgt := 2493) hx hb dL_law_1856 (by decide) ?_
          have h_32 := h_11.fr hF_19 (n_mm_ra.sm)
          have h_33 := h_12.fr hF_19 (n_mm_sa.sm)
          have h_34 := h_13.fr hF_19 (n_mm_ka.sm)
          have h_35 := h_14.fr hF_19 (n_mm_ta.sm)
          have h_36 := hA_outD.fr hF_5 (fun h => Or.elim h (n_out_outD.sm) (fun h => Nat.not_le_of_gt hA_outD.lt h))
          have h_37 := h_36.fr hF_19 (n_mm_outD.sm)
          have h_38 := hW.fr hd9 hF_5 (fun x => (fun h => Or.elim h (to_out x) (fun h => Or.inl h)))
          have h_39 := h_38.fr hd9 hF_19 (fun x => (ty_mm x))
          refine W.widen (k := cells + 50000) (n := slots + 228000) (by omega) (by omega) ?_
          have hM9 : kM D H_18 c0 out mm (S, gap) ((sl.map Prod.snd).head?) (hl2.map Prod.snd) t := ⟨ra, sa, ka, ta, _, _, _, _, _, _, _, _, _, _, _, _, ho_23, h_32, h_33, h_34, h_35, hMr, hMh, hMk, hMt, ht60, hMd, hMb, hMi⟩
          exact kk (S, gap) ((sl.map Prod.snd).head?) (hl2.map Prod.snd) t _ _ _ ⟨hS_25, lv_sub hl [2, 3, 4, 5, 6, 7] rfl, h_39, hM9, ⟨_, h_30⟩, ⟨_, h_37⟩, by omega, by omega⟩
        · -- not taken at 1851
          exfalso; omega
    · -- not taken at 1834
      exfalso; omega
  · -- hA
    refine lv_aload_n hx hb dL_law_1803 rfl (lv_at hl 1 rfl) ?_
    refine lv_aload_n hx hb dL_law_1804 rfl (lv_at hl 0 rfl) ?_
    refine lv_iload hx hb dL_law_1805 (lv_at hl 5 rfl) ?_
    refine kx_iconst hx hb dL_law_1807 ?_
    refine kx_iadd hx hb dL_law_1808 ?_
    refine kx_sld (i := (((3 * j : Nat) : Int) + 1)) hx hb hX hbl hbA hS (3 * j + 1) (by omega) (by omega) (by omega) dL_law_1809 ?_
    refine kx_eqi (z1) (hz1.symm) ?_
    refine lv_aload_n hx hb dL_law_1810 rfl (lv_at hl 3 rfl) ?_
    refine kx_ci (vx_runSW (As := [.ref x1, .int (kI (z1)), .ref out]) (rest := []) ⟨hx, hb, hml, hown, hts⟩ (wx_bestPlace l hl9 D H x1 ((sl.map (fun a => a.1.1)).head?) hi bu st la mc9 ea F S gap z1 out hO_x1 hO_st hO_la hLs9 hLn9 (by first | assumption | omega) (by first | assumption | omega) (by first | assumption | omega)) (vx_cwSW 3 hts (lw_SW q2064 q2065 q78 q2066) rfl rfl rfl (by decide +kernel) ⟨Nat.le_of_ble_eq_true rfl, Nat.le_of_ble_eq_true rfl⟩) (kx_ps hK hS hB) rfl rfl hl.1 rfl (lv_room (Nat.le_of_ble_eq_true rfl)) dL_law_1811 ⟨by first | exact Nat.le_of_ble_eq_true rfl | omega | (dsimp only [lwR]; omega) | (show _ ≤ _; omega), by first | exact Nat.le_of_ble_eq_true rfl | omega | (dsimp only [lwR]; omega) | (show _ ≤ _; omega)⟩) hS (fun q _ h => by have h9 := hS.1; (try dsimp only at h); (try dsimp only); (try simp only [kNW] at h); (try simp only [kNW]); omega) (fun q h => by have h9 := hS.1; (try dsimp only at h); (try dsimp only); (try simp only [kNW] at h); (try simp only [kNW]); omega) (fun z_45 H_43 locs_40 hz_42 hF_44 hS_41 => ?_)
    have hzf_46 := hF_44.1
    have hF_44 := hF_44.nw
    obtain ⟨hv_47, hnw_48⟩ := hz_42
    subst z_45
    refine lv_istore (lv' := [(6, .int (kI (1))), (0, .ref b), (1, .ref x1), (2, .ref mm), (3, .ref out), (4, .ref outD), (5, .int (kI ((3 * j : Nat) : Int)))]) hx hb dL_law_1814 hl (by decide) rfl (fun ls hl => ?_)
    refine lv_aload_n hx hb dL_law_1816 rfl (lv_at hl 3 rfl) ?_
    refine lv_aload_n hx hb dL_law_1817 rfl (lv_at hl 1 rfl) ?_
    refine lv_iload hx hb dL_law_1818 (lv_at hl 6 rfl) ?_
    refine kx_iconst hx hb dL_law_1820 ?_
    refine kx_iadd hx hb dL_law_1821 ?_
    refine kx_sld (i := (((3 * j : Nat) : Int) + 1)) hx hb hX hbl hbA hS_41 (3 * j + 1) (by omega) (by omega) (by omega) dL_law_1822 ?_
    refine kx_eqi (z1) (hz1.symm) ?_
    have h_49 := hO_mm.ex hF_44
    have h_50 := hA_ra.ex hF_44
    have h_51 := hA_sa.ex hF_44
    have h_52 := hA_ka.ex hF_44
    have h_53 := hA_ta.ex hF_44
    have ty_mm : ∀ x, x = mm → H_43.size ≤ x ∨ (kTy D H_43 x ∧ c0 ≤ x ∧ x < c1) := fun x h => by rw [h]; exact Or.inr ⟨Or.inl ⟨2, _, by decide, by decide, by decide, h_49⟩, i_mm.1, w_mm⟩
    refine kx_ci (va_runV (As := [.int (kI (z1))]) (rest := []) ⟨hx, hb, hml, hown, hts⟩ (m_X3_bestPlace_no l D H_43 mm ra sa ka ta nh ik t.length th sp9 iw le9 fi9 se9 g S gap z1 h_49 h_50 (by first | assumption | omega) (by first | assumption | omega) n_mm_ra b_mm (by first | assumption | omega) (by first | assumption | omega)) (cwV 1 hts (lw_V q2548 q2549 q2550 q89 q2551) rfl rfl rfl (by decide +kernel) ⟨Nat.le_of_ble_eq_true rfl, Nat.le_of_ble_eq_true rfl⟩) (kx_pv hK hS_41 hB (kx_rc hK h_49 (C := RX3) (T := TX3) (N := 13) rfl)) rfl rfl hl.1 rfl (lv_room (Nat.le_of_ble_eq_true rfl)) dL_law_1823 ⟨by first | exact Nat.le_of_ble_eq_true rfl | omega | (dsimp only [lwR]; omega) | (show _ ≤ _; omega), by first | exact Nat.le_of_ble_eq_true rfl | omega | (dsimp only [lwR]; omega) | (show _ ≤ _; omega)⟩) hS_41 (fun q _ h => (ge_mm q) h) (fun q h => (ge_mm q) h) (fun z_59 H_57 locs_54 hz_56 hF_58 hS_55 => ?_)
    have hzf_60 := hF_58.1
    obtain ⟨hv_61, ho_62⟩ := hz_56
    subst z_59
    refine lv_istore (lv' := [(7, .int (kI (0))), (6, .int (kI (1))), (0, .ref b), (1, .ref x1), (2, .ref mm), (3, .ref out), (4, .ref outD), (5, .int (kI ((3 * j : Nat) : Int)))]) hx hb dL_law_1826 hl (by decide) rfl (fun ls hl => ?_)
    refine lv_aload_n hx hb dL_law_1828 rfl (lv_at hl 4 rfl) ?_
    refine kx_ci0 (va_runV (As := []) (rest := []) ⟨hx, hb, hml, hown, hts⟩ (m_X3_thrown l D H_57 mm ra sa ka ta nh ik t.length 1 sp9 iw le9 fi9 se9 ho_62 ) (cwV 0 hts (lw_V q2278 q2279 q2280 q89 q2281) rfl rfl rfl (by decide +kernel) ⟨Nat.le_of_ble_eq_true rfl, Nat.le_of_ble_eq_true rfl⟩) (kx_pv hK hS_55 hB (kx_rc hK ho_62 (C := RX3) (T := TX3) (N := 13) rfl)) rfl rfl hl.1 rfl (lv_room (Nat.le_of_ble_eq_true rfl)) dL_law_1829 ⟨by first | exact Nat.le_of_ble_eq_true rfl | omega | (dsimp only [lwR]; omega) | (show _ ≤ _; omega), by first | exact Nat.le_of_ble_eq_true rfl | omega | (dsimp only [lwR]; omega) | (show _ ≤ _; omega)⟩) hS_55 (fun z_66 locs_63 hz_65 hS_64 => ?_)
    subst z_66
    refine lv_iload hx hb dL_law_1832 (lv_at hl 1 rfl) ?_
    refine kx_icmp_eq (x := 1) (y := 1) (tgt := 1839) hx hb dL_law_1834 (by decide) (by omega) (by omega) (by omega) (by omega) (fun c_1834_67 => ?_) (fun c_1834_67 => ?_)
    · -- taken at 1834
      refine lv_iload hx hb dL_law_1839 (lv_at hl 1 rfl) ?_
      refine kx_if_ne (x := 1) (tgt := 1856) hx hb dL_law_1841 (by decide) (by omega) (by omega) (fun c_1841_68 => ?_) (fun c_1841_68 => ?_)
      · -- taken at 1841
        refine lv_goto (tgt := 2493) hx hb dL_law_1856 (by decide) ?_
        have h_69 := h_50.fr hF_58 (n_mm_ra.sm)
        have h_70 := h_51.fr hF_58 (n_mm_sa.sm)
        have h_71 := h_52.fr hF_58 (n_mm_ka.sm)
        have h_72 := h_53.fr hF_58 (n_mm_ta.sm)
        have h_73 := hA_out.ex hF_44
        have h_74 := h_73.fr hF_58 (n_mm_out.sm)
        have h_75 := hA_outD.ex hF_44
        have h_76 := h_75.fr hF_58 (n_mm_outD.sm)
        have h_77 := hW.ex hd9 hF_44
        have h_78 := h_77.fr hd9 hF_58 (fun x => (ty_mm x))
        refine W.widen (k := cells + 50000) (n := slots + 228000) (by omega) (by omega) ?_
        have hM9 : kM D H_57 c0 out mm (S, gap) ((sl.map Prod.snd).head?) (hl2.map Prod.snd) t := ⟨ra, sa, ka, ta, _, _, _, _, _, _, _, _, _, _, _, _, ho_62, h_69, h_70, h_71, h_72, hMr, hMh, hMk, hMt, ht60, hMd, hMb, hMi⟩
        exact kk (S, gap) ((sl.map Prod.snd).head?) (hl2.map Prod.snd) t _ _ _ ⟨hS_64, lv_sub hl [2, 3, 4, 5, 6, 7] rfl, h_78, hM9, ⟨_, h_74⟩, ⟨_, h_76⟩, by omega, by omega⟩
      · -- not taken at 1841
        exfalso; omega
    · -- not taken at 1834
      exfalso; omega

set_option maxHeartbeats 8000000 in
set_option maxRecDepth 100000 in
theorem lc_pointsWithin {p : Program} {e : Env} {s : State} {m : MethodId} {below : List Frame} {meth : Method} {c : Code} {l : Launch} {D : kG} {b L c0 c1 x1 mm out outD : Nat} {xs : Nat → Int32} {Q : State → Prop} (C0 : lwC D p l s m meth c b L c0 c1 out outD xs) {j : Nat} (hj : 3 * j + 3 ≤ L) {S : Ls} {gap : Int} {sn : Option Sg} {hs : List Sg} {t : List Int} {H : Heap} {locs : List Loc} {ls : Array Slot} (I0 : lwI D s b c0 c1 x1 mm out outD j j (S, gap) sn hs t H locs ls) {cells slots : Nat} (hcl : cells + 50000 ≤ 1200144) (hsl9 : slots + 228000 ≤ 5496058) (kk : ∀ (σ : Sg) (sn : Option Sg) (hs : List Sg) (t : List Int) (H : Heap) (locs : List Loc) (ls : Array Slot), lwI D s b c0 c1 x1 mm out outD j (j + 1) σ sn hs t H locs ls → W p l e lwR s m #[Value.ref b] below meth c H locs (cells + 50000) (slots + 228000) Q (F0 m 2493 ls [])) : W p l e lwR s m #[Value.ref b] below meth c H locs cells slots Q (F0 m 2022 ls []) := by
  obtain ⟨hx, hb, hml, hown, hts, hlk, hK, hl9, hX, hbl, hbs, hL72, hc0, hco, hod, hdc⟩ := C0
  obtain ⟨hS, hl, hW, hM, ⟨go, hA_out⟩, ⟨gd, hA_outD⟩, hc1, htl⟩ := I0
  have hB : ∀ q, (kNW s.heap) q → kBase D ≤ q := fun q h => Nat.le_trans hK.size h
  have hbA : ¬ (kNW s.heap) b := fun h => by have h9 : s.heap.size ≤ b := h; omega
  have hd9 := hK.dis
  have hxE : ¬ kBase D ≤ D.2.2.2 2 := hK.tE.out
  obtain ⟨z1, hz1⟩ : ∃ z, z = (xs (3 * j + 1)).toInt := ⟨_, rfl⟩
  obtain ⟨z2, hz2⟩ : ∃ z, z = (xs (3 * j + 2)).toInt := ⟨_, rfl⟩
  have hr1 : -2147483648 ≤ z1 ∧ z1 ≤ 2147483647 := by rw [hz1]; exact i32r _
  have hr2 : -2147483648 ≤ z2 ∧ z2 ≤ 2147483647 := by rw [hz2]; exact i32r _
  obtain ⟨⟨st, la, ea, F⟩, sl, hl2, hi, es, bu, vb, hO_x1, hDq, hTx, hX5, hev, hAl, hDj, hPw, hsl, hsn, hhs⟩ := id hW
  subst hsn
  subst hhs
  obtain ⟨ra, sa, ka, ta, nh, ik, th, sp9, iw, le9, fi9, se9, g, gs, gk, gt, hO_mm, hA_ra, hA_sa, hA_ka, hA_ta, hMr, hMh, hMk, hMt, ht60, hMd, hMb, hMi⟩ := id hM
  have hMr : MRow g S gap := hMr
  have h0 := hAl _ List.mem_cons_self
  have hP_kState_st : kState D H st la ea gap S F := h0.1
  have hok : LsOK S gap := h0.2.1
  have hG : StG S := h0.2.2.1
  have hL8 : S.length ≤ 8 := hok.1
  have hgp := hok.2.1
  have hO_x1 : kO D H x1 0 [.ref st, va_rf ((sl.map (fun a => a.1.1)).head?), .ref hi, .ref bu] := hO_x1
  have hOw : ∀ q, kOwn D st la ea F S.length q → q ∉ [x1, hi, es, bu, vb] ∧ (q < c0 ∨ c1 ≤ q) := h0.2.2.2
  have hev : Hd (es ≠ vb) := hev
  have io_x1 : ∀ x, c0 ≤ x → x < c1 → x ≠ x1 := fun x => out_of (hX5 x1 (by simp)).2
  have io_hi : ∀ x, c0 ≤ x → x < c1 → x ≠ hi := fun x => out_of (hX5 hi (by simp)).2
  have io_es : ∀ x, c0 ≤ x → x < c1 → x ≠ es := fun x => out_of (hX5 es (by simp)).2
  have io_bu : ∀ x, c0 ≤ x → x < c1 → x ≠ bu := fun x => out_of (hX5 bu (by simp)).2
  have io_vb : ∀ x, c0 ≤ x → x < c1 → x ≠ vb := fun x => out_of (hX5 vb (by simp)).2
  have b_x1 := (hX5 x1 (by simp)).1
  have b_hi := (hX5 hi (by simp)).1
  have b_es := (hX5 es (by simp)).1
  have b_bu := (hX5 bu (by simp)).1
  have b_vb := (hX5 vb (by simp)).1
  obtain ⟨⟨⟨n1, n2, n3, n4⟩, n5, n6, n7⟩, n8, n9, n10⟩ := hMd
  have n_mm_ra : Hd (mm ≠ ra) := n1
  have n_mm_sa : Hd (mm ≠ sa) := n2
  have n_mm_ka : Hd (mm ≠ ka) := n3
  have n_mm_ta : Hd (mm ≠ ta) := n4
  have n_ra_sa : Hd (ra ≠ sa) := n5
  have n_ra_ka : Hd (ra ≠ ka) := n6
  have n_ra_ta : Hd (ra ≠ ta) := n7
  have n_sa_ka : Hd (sa ≠ ka) := n8
  have n_sa_ta : Hd (sa ≠ ta) := n9
  have n_ka_ta : Hd (ka ≠ ta) := n10
  have hMd : Hd (((mm ≠ ra ∧ mm ≠ sa ∧ mm ≠ ka ∧ mm ≠ ta) ∧ ra ≠ sa ∧ ra ≠ ka ∧ ra ≠ ta) ∧ sa ≠ ka ∧ sa ≠ ta ∧ ka ≠ ta) := ⟨⟨⟨n1, n2, n3, n4⟩, n5, n6, n7⟩, n8, n9, n10⟩
  clear n1 n2 n3 n4 n5 n6 n7 n8 n9 n10
  obtain ⟨b_mm, b_ra, b_sa, b_ka, b_ta⟩ := id hMb
  obtain ⟨i_mm, i_ra, i_sa, i_ka, i_ta⟩ := id hMi
  have b_out : kBase D ≤ out := by omega
  have hcc : c0 ≤ c1 := by omega
  have w_mm : mm < c1 := by omega
  have n_mm_out : Hd (mm ≠ out) := Nat.ne_of_lt i_mm.2
  have n_mm_outD : Hd (mm ≠ outD) := Nat.ne_of_lt (Nat.lt_trans i_mm.2 hod)
  have w_ra : ra < c1 := by omega
  have n_ra_out : Hd (ra ≠ out) := Nat.ne_of_lt i_ra.2
  have n_ra_outD : Hd (ra ≠ outD) := Nat.ne_of_lt (Nat.lt_trans i_ra.2 hod)
  have w_sa : sa < c1 := by omega
  have n_sa_out : Hd (sa ≠ out) := Nat.ne_of_lt i_sa.2
  have n_sa_outD : Hd (sa ≠ outD) := Nat.ne_of_lt (Nat.lt_trans i_sa.2 hod)
  have w_ka : ka < c1 := by omega
  have n_ka_out : Hd (ka ≠ out) := Nat.ne_of_lt i_ka.2
  have n_ka_outD : Hd (ka ≠ outD) := Nat.ne_of_lt (Nat.lt_trans i_ka.2 hod)
  have w_ta : ta < c1 := by omega
  have n_ta_out : Hd (ta ≠ out) := Nat.ne_of_lt i_ta.2
  have n_ta_outD : Hd (ta ≠ outD) := Nat.ne_of_lt (Nat.lt_trans i_ta.2 hod)
  have ge_mm : ∀ q, q = mm → kNW s.heap q := fun q h => by rw [h]; show s.heap.size ≤ mm; omega
  have ge_ra : ∀ q, q = ra → kNW s.heap q := fun q h => by rw [h]; show s.heap.size ≤ ra; omega
  have ge_sa : ∀ q, q = sa → kNW s.heap q := fun q h => by rw [h]; show s.heap.size ≤ sa; omega
  have ge_ka : ∀ q, q = ka → kNW s.heap q := fun q h => by rw [h]; show s.heap.size ≤ ka; omega
  have ge_ta : ∀ q, q = ta → kNW s.heap q := fun q h => by rw [h]; show s.heap.size ≤ ta; omega
  have ge_out : ∀ q, q = out → kNW s.heap q := fun q h => by rw [h]; show s.heap.size ≤ out; omega
  have n_out_outD : Hd (out ≠ outD) := Nat.ne_of_lt hod
  have w_out : out < c1 := by omega
  have w_outD : outD < c1 := hdc
  have i_outD : c0 ≤ outD := by omega
  have htyo : kTy D H out := Or.inr ⟨2, _, by decide, hA_out⟩
  have htyd : kTy D H outD := Or.inr ⟨3, _, by decide, hA_outD⟩
  have to_out : ∀ x, x = out → H.size ≤ x ∨ (kTy D H x ∧ c0 ≤ x ∧ x < c1) := fun x h => by rw [h]; exact Or.inr ⟨htyo, hco, w_out⟩
  have to_outD : ∀ x, x = outD → H.size ≤ x ∨ (kTy D H x ∧ c0 ≤ x ∧ x < c1) := fun x h => by rw [h]; exact Or.inr ⟨htyd, i_outD, w_outD⟩
  obtain ⟨⟨hO_st, mc9, hO_la⟩, hLs9, hLn9, hF9, hDs9, hb1, hb2, hb3⟩ := id hP_kState_st
  by_cases hA : 0 ≤ z1 ∧ z1 < (S.length : Int)
  · -- hA
    obtain ⟨ln9, hv1⟩ : ∃ k : Nat, z1 = (k : Int) := ⟨z1.toNat, by omega⟩
    have hln : ln9 < S.length := by omega
    have hLn := hok.ln hln
    have hr9 := st_ptsTo_rng S ln9 384
    have hn9 := hLn.n
    have hrv : -2147483648 ≤ st_ptsTo S ln9 384 ∧ st_ptsTo S ln9 384 ≤ 2147483647 := ⟨by omega, by omega⟩
    refine lv_aload_n hx hb dL_law_2022 rfl (lv_at hl 1 rfl) ?_
    refine lv_aload_n hx hb dL_law_2023 rfl (lv_at hl 0 rfl) ?_
    refine lv_iload hx hb dL_law_2024 (lv_at hl 5 rfl) ?_
    refine kx_iconst hx hb dL_law_2026 ?_
    refine kx_iadd hx hb dL_law_2027 ?_
    refine kx_sld (i := (((3 * j : Nat) : Int) + 1)) hx hb hX hbl hbA hS (3 * j + 1) (by omega) (by omega) (by omega) dL_law_2028 ?_
    refine kx_eqi (((ln9 : Nat) : Int)) (hz1.symm.trans hv1) ?_
    refine lv_aload_n hx hb dL_law_2029 rfl (lv_at hl 3 rfl) ?_
    refine kx_ci (vx_runSW (As := [.ref x1, .int (kI ((ln9 : Nat) : Int)), .ref out]) (rest := []) ⟨hx, hb, hml, hown, hts⟩ (wr_pointsWithin l hl9 D H x1 ((sl.map (fun a => a.1.1)).head?) hi bu st la mc9 ea F S gap ln9 out go hO_x1 hO_st hO_la hLs9 hLn9 hA_out (by first | assumption | omega) (by first | assumption | omega) hG.1 (by first | assumption | omega) (by first | assumption | omega)) (vx_cwSW 3 hts (lw_SW q2117 q2118 q78 q2119) rfl rfl rfl (by decide +kernel) ⟨Nat.le_of_ble_eq_true rfl, Nat.le_of_ble_eq_true rfl⟩) (kx_ps hK hS hB) rfl rfl hl.1 rfl (lv_room (Nat.le_of_ble_eq_true rfl)) dL_law_2030 ⟨by first | exact Nat.le_of_ble_eq_true rfl | omega | (dsimp only [lwR]; omega) | (show _ ≤ _; omega), by first | exact Nat.le_of_ble_eq_true rfl | omega | (dsimp only [lwR]; omega) | (show _ ≤ _; omega)⟩) hS (fun q _ h => (ge_out q) h) (fun q h => (ge_out q) h) (fun z_6 H_4 locs_1 hz_3 hF_5 hS_2 => ?_)
    have hzf_7 := hF_5.1
    obtain ⟨hv_8, ho_9⟩ := hz_3
    subst z_6
    refine lv_istore (lv' := [(6, .int (kI (0))), (0, .ref b), (1, .ref x1), (2, .ref mm), (3, .ref out), (4, .ref outD), (5, .int (kI ((3 * j : Nat) : Int)))]) hx hb dL_law_2033 hl (by decide) rfl (fun ls hl => ?_)
    refine lv_aload_n hx hb dL_law_2035 rfl (lv_at hl 3 rfl) ?_
    refine lv_aload_n hx hb dL_law_2036 rfl (lv_at hl 1 rfl) ?_
    refine lv_iload hx hb dL_law_2037 (lv_at hl 6 rfl) ?_
    refine kx_iconst hx hb dL_law_2039 ?_
    refine kx_iadd hx hb dL_law_2040 ?_
    refine kx_sld (i := (((3 * j : Nat) : Int) + 1)) hx hb hX hbl hbA hS_2 (3 * j + 1) (by omega) (by omega) (by omega) dL_law_2041 ?_
    refine kx_eqi (((ln9 : Nat) : Int)) (hz1.symm.trans hv1) ?_
    have h_10 := hO_mm.fr hF_5 (n_mm_out)
    have h_11 := hA_ra.fr hF_5 (n_ra_out)
    have h_12 := hA_sa.fr hF_5 (n_sa_out)
    have h_13 := hA_ka.fr hF_5 (n_ka_out)
    have h_14 := hA_ta.fr hF_5 (n_ta_out)
    have ty_mm : ∀ x, x = mm → H_4.size ≤ x ∨ (kTy D H_4 x ∧ c0 ≤ x ∧ x < c1) := fun x h => by rw [h]; exact Or.inr ⟨Or.inl ⟨2, _, by decide, by decide, by decide, h_10⟩, i_mm.1, w_mm⟩
    refine kx_ci (va_runV (As := [.int (kI ((ln9 : Nat) : Int))]) (rest := []) ⟨hx, hb, hml, hown, hts⟩ (m_X3_pointsWithin l D H_4 mm ra sa ka ta nh ik t.length th sp9 iw le9 fi9 se9 g S gap ln9 h_10 h_11 (by first | assumption | omega) (by first | assumption | omega) n_mm_ra b_mm (by first | assumption | omega)) (cwV 1 hts (lw_V q2569 q2570 q2571 q89 q2572) rfl rfl rfl (by decide +kernel) ⟨Nat.le_of_ble_eq_true rfl, Nat.le_of_ble_eq_true rfl⟩) (kx_pv hK hS_2 hB (kx_rc hK h_10 (C := RX3) (T := TX3) (N := 13) rfl)) rfl rfl hl.1 rfl (lv_room (Nat.le_of_ble_eq_true rfl)) dL_law_2042 ⟨by first | exact Nat.le_of_ble_eq_true rfl | omega | (dsimp only [lwR]; omega) | (show _ ≤ _; omega), by first | exact Nat.le_of_ble_eq_true rfl | omega | (dsimp only [lwR]; omega) | (show _ ≤ _; omega)⟩) hS_2 (fun q _ h => (ge_mm q) h) (fun q h => (ge_mm q) h) (fun z_20 H_18 locs_15 hz_17 hF_19 hS_16 => ?_)
    have hzf_21 := hF_19.1
    obtain ⟨hv_22, ho_23⟩ := hz_17
    subst z_20
    refine lv_istore (lv' := [(7, .int (kI (st_ptsTo S ln9 384))), (6, .int (kI (0))), (0, .ref b), (1, .ref x1), (2, .ref mm), (3, .ref out), (4, .ref outD), (5, .int (kI ((3 * j : Nat) : Int)))]) hx hb dL_law_2045 hl (by decide) rfl (fun ls hl => ?_)
    refine lv_aload_n hx hb dL_law_2047 rfl (lv_at hl 4 rfl) ?_
    refine kx_ci0 (va_runV (As := []) (rest := []) ⟨hx, hb, hml, hown, hts⟩ (m_X3_thrown l D H_18 mm ra sa ka ta nh ik t.length 0 sp9 iw le9 fi9 se9 ho_23 ) (cwV 0 hts (lw_V q2278 q2279 q2280 q89 q2281) rfl rfl rfl (by decide +kernel) ⟨Nat.le_of_ble_eq_true rfl, Nat.le_of_ble_eq_true rfl⟩) (kx_pv hK hS_16 hB (kx_rc hK ho_23 (C := RX3) (T := TX3) (N := 13) rfl)) rfl rfl hl.1 rfl (lv_room (Nat.le_of_ble_eq_true rfl)) dL_law_2048 ⟨by first | exact Nat.le_of_ble_eq_true rfl | omega | (dsimp only [lwR]; omega) | (show _ ≤ _; omega), by first | exact Nat.le_of_ble_eq_true rfl | omega | (dsimp only [lwR]; omega) | (show _ ≤ _; omega)⟩) hS_16 (fun z_27 locs_24 hz_26 hS_25 => ?_)
    subst z_27
    refine lv_iload hx hb dL_law_2051 (lv_at hl 1 rfl) ?_
    refine kx_icmp_eq (x := 0) (y := 0) (tgt := 2058) hx hb dL_law_2053 (by decide) (by omega) (by omega) (by omega) (by omega) (fun c_2053_28 => ?_) (fun c_2053_28 => ?_)
    · -- taken at 2053
      refine lv_iload hx hb dL_law_2058 (lv_at hl 1 rfl) ?_
      refine kx_if_ne (x := 0) (tgt := 2075) hx hb dL_law_2060 (by decide) (by omega) (by omega) (fun c_2060_29 => ?_) (fun c_2060_29 => ?_)
      · -- taken at 2060
        exfalso; omega
      · -- not taken at 2060
        refine lv_aload_n hx hb dL_law_2063 rfl (lv_at hl 5 rfl) ?_
        refine kx_iconst hx hb dL_law_2064 ?_
        have h_30 := ho_9.fr hF_19 (n_mm_out.sm)
        refine kx_lald (i := 0) hx hb hK h_30 0 rfl (by decide) (by decide) dL_law_2065 ?_
        refine lv_iload hx hb dL_law_2066 (lv_at hl 0 rfl) ?_
        refine kx_i2l hx hb (z := st_ptsTo S ln9 384) (by omega) (by omega) dL_law_2068 ?_
        refine kx_lcmpE hx hb (x := ((kup go 0 (kL (st_ptsTo S ln9 384)))) 0) (y := kL (st_ptsTo S ln9 384)) (kup_self _ _ _) dL_law_2069 ?_
        refine kx_if_eq (x := 0) (tgt := 2075) hx hb dL_law_2070 (by decide) (by omega) (by omega) (fun c_2070_31 => ?_) (fun c_2070_31 => ?_)
        · -- taken at 2070
          refine lv_goto (tgt := 2493) hx hb dL_law_2075 (by decide) ?_
          have h_32 := h_11.fr hF_19 (n_mm_ra.sm)
          have h_33 := h_12.fr hF_19 (n_mm_sa.sm)
          have h_34 := h_13.fr hF_19 (n_mm_ka.sm)
          have h_35 := h_14.fr hF_19 (n_mm_ta.sm)
          have h_36 := hA_outD.fr hF_5 (n_out_outD.sm)
          have h_37 := h_36.fr hF_19 (n_mm_outD.sm)
          have h_38 := hW.fr hd9 hF_5 (fun x => (to_out x))
          have h_39 := h_38.fr hd9 hF_19 (fun x => (ty_mm x))
          refine W.widen (k := cells + 50000) (n := slots + 228000) (by omega) (by omega) ?_
          have hM9 : kM D H_18 c0 out mm (S, gap) ((sl.map Prod.snd).head?) (hl2.map Prod.snd) t := ⟨ra, sa, ka, ta, _, _, _, _, _, _, _, _, _, _, _, _, ho_23, h_32, h_33, h_34, h_35, hMr, hMh, hMk, hMt, ht60, hMd, hMb, hMi⟩
          exact kk (S, gap) ((sl.map Prod.snd).head?) (hl2.map Prod.snd) t _ _ _ ⟨hS_25, lv_sub hl [2, 3, 4, 5, 6, 7] rfl, h_39, hM9, ⟨_, h_30⟩, ⟨_, h_37⟩, by omega, by omega⟩
        · -- not taken at 2070
          exfalso; omega
    · -- not taken at 2053
      exfalso; omega
  · -- hA
    refine lv_aload_n hx hb dL_law_2022 rfl (lv_at hl 1 rfl) ?_
    refine lv_aload_n hx hb dL_law_2023 rfl (lv_at hl 0 rfl) ?_
    refine lv_iload hx hb dL_law_2024 (lv_at hl 5 rfl) ?_
    refine kx_iconst hx hb dL_law_2026 ?_
    refine kx_iadd hx hb dL_law_2027 ?_
    refine kx_sld (i := (((3 * j : Nat) : Int) + 1)) hx hb hX hbl hbA hS (3 * j + 1) (by omega) (by omega) (by omega) dL_law_2028 ?_
    refine kx_eqi (z1) (hz1.symm) ?_
    refine lv_aload_n hx hb dL_law_2029 rfl (lv_at hl 3 rfl) ?_
    refine kx_ci (vx_runSW (As := [.ref x1, .int (kI (z1)), .ref out]) (rest := []) ⟨hx, hb, hml, hown, hts⟩ (wx_pointsWithin l hl9 D H x1 ((sl.map (fun a => a.1.1)).head?) hi bu st la mc9 ea F S gap z1 out hO_x1 hO_st hO_la hLs9 hLn9 (by first | assumption | omega) (by first | assumption | omega) (by first | assumption | omega)) (vx_cwSW 3 hts (lw_SW q2117 q2118 q78 q2119) rfl rfl rfl (by decide +kernel) ⟨Nat.le_of_ble_eq_true rfl, Nat.le_of_ble_eq_true rfl⟩) (kx_ps hK hS hB) rfl rfl hl.1 rfl (lv_room (Nat.le_of_ble_eq_true rfl)) dL_law_2030 ⟨by first | exact Nat.le_of_ble_eq_true rfl | omega | (dsimp only [lwR]; omega) | (show _ ≤ _; omega), by first | exact Nat.le_of_ble_eq_true rfl | omega | (dsimp only [lwR]; omega) | (show _ ≤ _; omega)⟩) hS (fun q _ h => by have h9 := hS.1; (try dsimp only at h); (try dsimp only); (try simp only [kNW] at h); (try simp only [kNW]); omega) (fun q h => by have h9 := hS.1; (try dsimp only at h); (try dsimp only); (try simp only [kNW] at h); (try simp only [kNW]); omega) (fun z_45 H_43 locs_40 hz_42 hF_44 hS_41 => ?_)
    have hzf_46 := hF_44.1
    have hF_44 := hF_44.nw
    obtain ⟨hv_47, hnw_48⟩ := hz_42
    subst z_45
    refine lv_istore (lv' := [(6, .int (kI (1))), (0, .ref b), (1, .ref x1), (2, .ref mm), (3, .ref out), (4, .ref outD), (5, .int (kI ((3 * j : Nat) : Int)))]) hx hb dL_law_2033 hl (by decide) rfl (fun ls hl => ?_)
    refine lv_aload_n hx hb dL_law_2035 rfl (lv_at hl 3 rfl) ?_
    refine lv_aload_n hx hb dL_law_2036 rfl (lv_at hl 1 rfl) ?_
    refine lv_iload hx hb dL_law_2037 (lv_at hl 6 rfl) ?_
    refine kx_iconst hx hb dL_law_2039 ?_
    refine kx_iadd hx hb dL_law_2040 ?_
    refine kx_sld (i := (((3 * j : Nat) : Int) + 1)) hx hb hX hbl hbA hS_41 (3 * j + 1) (by omega) (by omega) (by omega) dL_law_2041 ?_
    refine kx_eqi (z1) (hz1.symm) ?_
    have h_49 := hO_mm.ex hF_44
    have h_50 := hA_ra.ex hF_44
    have h_51 := hA_sa.ex hF_44
    have h_52 := hA_ka.ex hF_44
    have h_53 := hA_ta.ex hF_44
    have ty_mm : ∀ x, x = mm → H_43.size ≤ x ∨ (kTy D H_43 x ∧ c0 ≤ x ∧ x < c1) := fun x h => by rw [h]; exact Or.inr ⟨Or.inl ⟨2, _, by decide, by decide, by decide, h_49⟩, i_mm.1, w_mm⟩
    refine kx_ci (va_runV (As := [.int (kI (z1))]) (rest := []) ⟨hx, hb, hml, hown, hts⟩ (m_X3_pointsWithin_no l D H_43 mm ra sa ka ta nh ik t.length th sp9 iw le9 fi9 se9 g S gap z1 h_49 h_50 (by first | assumption | omega) (by first | assumption | omega) n_mm_ra b_mm (by first | assumption | omega) (by first | assumption | omega)) (cwV 1 hts (lw_V q2569 q2570 q2571 q89 q2572) rfl rfl rfl (by decide +kernel) ⟨Nat.le_of_ble_eq_true rfl, Nat.le_of_ble_eq_true rfl⟩) (kx_pv hK hS_41 hB (kx_rc hK h_49 (C := RX3) (T := TX3) (N := 13) rfl)) rfl rfl hl.1 rfl (lv_room (Nat.le_of_ble_eq_true rfl)) dL_law_2042 ⟨by first | exact Nat.le_of_ble_eq_true rfl | omega | (dsimp only [lwR]; omega) | (show _ ≤ _; omega), by first | exact Nat.le_of_ble_eq_true rfl | omega | (dsimp only [lwR]; omega) | (show _ ≤ _; omega)⟩) hS_41 (fun q _ h => (ge_mm q) h) (fun q h => (ge_mm q) h) (fun z_59 H_57 locs_54 hz_56 hF_58 hS_55 => ?_)
    have hzf_60 := hF_58.1
    obtain ⟨hv_61, ho_62⟩ := hz_56
    subst z_59
    refine lv_istore (lv' := [(7, .int (kI (0))), (6, .int (kI (1))), (0, .ref b), (1, .ref x1), (2, .ref mm), (3, .ref out), (4, .ref outD), (5, .int (kI ((3 * j : Nat) : Int)))]) hx hb dL_law_2045 hl (by decide) rfl (fun ls hl => ?_)
    refine lv_aload_n hx hb dL_law_2047 rfl (lv_at hl 4 rfl) ?_
    refine kx_ci0 (va_runV (As := []) (rest := []) ⟨hx, hb, hml, hown, hts⟩ (m_X3_thrown l D H_57 mm ra sa ka ta nh ik t.length 1 sp9 iw le9 fi9 se9 ho_62 ) (cwV 0 hts (lw_V q2278 q2279 q2280 q89 q2281) rfl rfl rfl (by decide +kernel) ⟨Nat.le_of_ble_eq_true rfl, Nat.le_of_ble_eq_true rfl⟩) (kx_pv hK hS_55 hB (kx_rc hK ho_62 (C := RX3) (T := TX3) (N := 13) rfl)) rfl rfl hl.1 rfl (lv_room (Nat.le_of_ble_eq_true rfl)) dL_law_2048 ⟨by first | exact Nat.le_of_ble_eq_true rfl | omega | (dsimp only [lwR]; omega) | (show _ ≤ _; omega), by first | exact Nat.le_of_ble_eq_true rfl | omega | (dsimp only [lwR]; omega) | (show _ ≤ _; omega)⟩) hS_55 (fun z_66 locs_63 hz_65 hS_64 => ?_)
    subst z_66
    refine lv_iload hx hb dL_law_2051 (lv_at hl 1 rfl) ?_
    refine kx_icmp_eq (x := 1) (y := 1) (tgt := 2058) hx hb dL_law_2053 (by decide) (by omega) (by omega) (by omega) (by omega) (fun c_2053_67 => ?_) (fun c_2053_67 => ?_)
    · -- taken at 2053
      refine lv_iload hx hb dL_law_2058 (lv_at hl 1 rfl) ?_
      refine kx_if_ne (x := 1) (tgt := 2075) hx hb dL_law_2060 (by decide) (by omega) (by omega) (fun c_2060_68 => ?_) (fun c_2060_68 => ?_)
      · -- taken at 2060
        refine lv_goto (tgt := 2493) hx hb dL_law_2075 (by decide) ?_
        have h_69 := h_50.fr hF_58 (n_mm_ra.sm)
        have h_70 := h_51.fr hF_58 (n_mm_sa.sm)
        have h_71 := h_52.fr hF_58 (n_mm_ka.sm)
        have h_72 := h_53.fr hF_58 (n_mm_ta.sm)
        have h_73 := hA_out.ex hF_44
        have h_74 := h_73.fr hF_58 (n_mm_out.sm)
        have h_75 := hA_outD.ex hF_44
        have h_76 := h_75.fr hF_58 (n_mm_outD.sm)
        have h_77 := hW.ex hd9 hF_44
        have h_78 := h_77.fr hd9 hF_58 (fun x => (ty_mm x))
        refine W.widen (k := cells + 50000) (n := slots + 228000) (by omega) (by omega) ?_
        have hM9 : kM D H_57 c0 out mm (S, gap) ((sl.map Prod.snd).head?) (hl2.map Prod.snd) t := ⟨ra, sa, ka, ta, _, _, _, _, _, _, _, _, _, _, _, _, ho_62, h_69, h_70, h_71, h_72, hMr, hMh, hMk, hMt, ht60, hMd, hMb, hMi⟩
        exact kk (S, gap) ((sl.map Prod.snd).head?) (hl2.map Prod.snd) t _ _ _ ⟨hS_64, lv_sub hl [2, 3, 4, 5, 6, 7] rfl, h_78, hM9, ⟨_, h_74⟩, ⟨_, h_76⟩, by omega, by omega⟩
      · -- not taken at 2060
        exfalso; omega
    · -- not taken at 2053
      exfalso; omega

set_option maxHeartbeats 8000000 in
set_option maxRecDepth 100000 in
theorem lc_lineRound {p : Program} {e : Env} {s : State} {m : MethodId} {below : List Frame} {meth : Method} {c : Code} {l : Launch} {D : kG} {b L c0 c1 x1 mm out outD : Nat} {xs : Nat → Int32} {Q : State → Prop} (C0 : lwC D p l s m meth c b L c0 c1 out outD xs) {j : Nat} (hj : 3 * j + 3 ≤ L) {S : Ls} {gap : Int} {sn : Option Sg} {hs : List Sg} {t : List Int} {H : Heap} {locs : List Loc} {ls : Array Slot} (I0 : lwI D s b c0 c1 x1 mm out outD j j (S, gap) sn hs t H locs ls) {cells slots : Nat} (hcl : cells + 50000 ≤ 1200144) (hsl9 : slots + 228000 ≤ 5496058) (kk : ∀ (σ : Sg) (sn : Option Sg) (hs : List Sg) (t : List Int) (H : Heap) (locs : List Loc) (ls : Array Slot), lwI D s b c0 c1 x1 mm out outD j (j + 1) σ sn hs t H locs ls → W p l e lwR s m #[Value.ref b] below meth c H locs (cells + 50000) (slots + 228000) Q (F0 m 2493 ls [])) : W p l e lwR s m #[Value.ref b] below meth c H locs cells slots Q (F0 m 2078 ls []) := by
  obtain ⟨hx, hb, hml, hown, hts, hlk, hK, hl9, hX, hbl, hbs, hL72, hc0, hco, hod, hdc⟩ := C0
  obtain ⟨hS, hl, hW, hM, ⟨go, hA_out⟩, ⟨gd, hA_outD⟩, hc1, htl⟩ := I0
  have hB : ∀ q, (kNW s.heap) q → kBase D ≤ q := fun q h => Nat.le_trans hK.size h
  have hbA : ¬ (kNW s.heap) b := fun h => by have h9 : s.heap.size ≤ b := h; omega
  have hd9 := hK.dis
  have hxE : ¬ kBase D ≤ D.2.2.2 2 := hK.tE.out
  obtain ⟨z1, hz1⟩ : ∃ z, z = (xs (3 * j + 1)).toInt := ⟨_, rfl⟩
  obtain ⟨z2, hz2⟩ : ∃ z, z = (xs (3 * j + 2)).toInt := ⟨_, rfl⟩
  have hr1 : -2147483648 ≤ z1 ∧ z1 ≤ 2147483647 := by rw [hz1]; exact i32r _
  have hr2 : -2147483648 ≤ z2 ∧ z2 ≤ 2147483647 := by rw [hz2]; exact i32r _
  obtain ⟨⟨st, la, ea, F⟩, sl, hl2, hi, es, bu, vb, hO_x1, hDq, hTx, hX5, hev, hAl, hDj, hPw, hsl, hsn, hhs⟩ := id hW
  subst hsn
  subst hhs
  obtain ⟨ra, sa, ka, ta, nh, ik, th, sp9, iw, le9, fi9, se9, g, gs, gk, gt, hO_mm, hA_ra, hA_sa, hA_ka, hA_ta, hMr, hMh, hMk, hMt, ht60, hMd, hMb, hMi⟩ := id hM
  have hMr : MRow g S gap := hMr
  have h0 := hAl _ List.mem_cons_self
  have hP_kState_st : kState D H st la ea gap S F := h0.1
  have hok : LsOK S gap := h0.2.1
  have hG : StG S := h0.2.2.1
  have hL8 : S.length ≤ 8 := hok.1
  have hgp := hok.2.1
  have hO_x1 : kO D H x1 0 [.ref st, va_rf ((sl.map (fun a => a.1.1)).head?), .ref hi, .ref bu] := hO_x1
  have hOw : ∀ q, kOwn D st la ea F S.length q → q ∉ [x1, hi, es, bu, vb] ∧ (q < c0 ∨ c1 ≤ q) := h0.2.2.2
  have hev : Hd (es ≠ vb) := hev
  have io_x1 : ∀ x, c0 ≤ x → x < c1 → x ≠ x1 := fun x => out_of (hX5 x1 (by simp)).2
  have io_hi : ∀ x, c0 ≤ x → x < c1 → x ≠ hi := fun x => out_of (hX5 hi (by simp)).2
  have io_es : ∀ x, c0 ≤ x → x < c1 → x ≠ es := fun x => out_of (hX5 es (by simp)).2
  have io_bu : ∀ x, c0 ≤ x → x < c1 → x ≠ bu := fun x => out_of (hX5 bu (by simp)).2
  have io_vb : ∀ x, c0 ≤ x → x < c1 → x ≠ vb := fun x => out_of (hX5 vb (by simp)).2
  have b_x1 := (hX5 x1 (by simp)).1
  have b_hi := (hX5 hi (by simp)).1
  have b_es := (hX5 es (by simp)).1
  have b_bu := (hX5 bu (by simp)).1
  have b_vb := (hX5 vb (by simp)).1
  obtain ⟨⟨⟨n1, n2, n3, n4⟩, n5, n6, n7⟩, n8, n9, n10⟩ := hMd
  have n_mm_ra : Hd (mm ≠ ra) := n1
  have n_mm_sa : Hd (mm ≠ sa) := n2
  have n_mm_ka : Hd (mm ≠ ka) := n3
  have n_mm_ta : Hd (mm ≠ ta) := n4
  have n_ra_sa : Hd (ra ≠ sa) := n5
  have n_ra_ka : Hd (ra ≠ ka) := n6
  have n_ra_ta : Hd (ra ≠ ta) := n7
  have n_sa_ka : Hd (sa ≠ ka) := n8
  have n_sa_ta : Hd (sa ≠ ta) := n9
  have n_ka_ta : Hd (ka ≠ ta) := n10
  have hMd : Hd (((mm ≠ ra ∧ mm ≠ sa ∧ mm ≠ ka ∧ mm ≠ ta) ∧ ra ≠ sa ∧ ra ≠ ka ∧ ra ≠ ta) ∧ sa ≠ ka ∧ sa ≠ ta ∧ ka ≠ ta) := ⟨⟨⟨n1, n2, n3, n4⟩, n5, n6, n7⟩, n8, n9, n10⟩
  clear n1 n2 n3 n4 n5 n6 n7 n8 n9 n10
  obtain ⟨b_mm, b_ra, b_sa, b_ka, b_ta⟩ := id hMb
  obtain ⟨i_mm, i_ra, i_sa, i_ka, i_ta⟩ := id hMi
  have b_out : kBase D ≤ out := by omega
  have hcc : c0 ≤ c1 := by omega
  have w_mm : mm < c1 := by omega
  have n_mm_out : Hd (mm ≠ out) := Nat.ne_of_lt i_mm.2
  have n_mm_outD : Hd (mm ≠ outD) := Nat.ne_of_lt (Nat.lt_trans i_mm.2 hod)
  have w_ra : ra < c1 := by omega
  have n_ra_out : Hd (ra ≠ out) := Nat.ne_of_lt i_ra.2
  have n_ra_outD : Hd (ra ≠ outD) := Nat.ne_of_lt (Nat.lt_trans i_ra.2 hod)
  have w_sa : sa < c1 := by omega
  have n_sa_out : Hd (sa ≠ out) := Nat.ne_of_lt i_sa.2
  have n_sa_outD : Hd (sa ≠ outD) := Nat.ne_of_lt (Nat.lt_trans i_sa.2 hod)
  have w_ka : ka < c1 := by omega
  have n_ka_out : Hd (ka ≠ out) := Nat.ne_of_lt i_ka.2
  have n_ka_outD : Hd (ka ≠ outD) := Nat.ne_of_lt (Nat.lt_trans i_ka.2 hod)
  have w_ta : ta < c1 := by omega
  have n_ta_out : Hd (ta ≠ out) := Nat.ne_of_lt i_ta.2
  have n_ta_outD : Hd (ta ≠ outD) := Nat.ne_of_lt (Nat.lt_trans i_ta.2 hod)
  have ge_mm : ∀ q, q = mm → kNW s.heap q := fun q h => by rw [h]; show s.heap.size ≤ mm; omega
  have ge_ra : ∀ q, q = ra → kNW s.heap q := fun q h => by rw [h]; show s.heap.size ≤ ra; omega
  have ge_sa : ∀ q, q = sa → kNW s.heap q := fun q h => by rw [h]; show s.heap.size ≤ sa; omega
  have ge_ka : ∀ q, q = ka → kNW s.heap q := fun q h => by rw [h]; show s.heap.size ≤ ka; omega
  have ge_ta : ∀ q, q = ta → kNW s.heap q := fun q h => by rw [h]; show s.heap.size ≤ ta; omega
  have ge_out : ∀ q, q = out → kNW s.heap q := fun q h => by rw [h]; show s.heap.size ≤ out; omega
  have n_out_outD : Hd (out ≠ outD) := Nat.ne_of_lt hod
  have w_out : out < c1 := by omega
  have w_outD : outD < c1 := hdc
  have i_outD : c0 ≤ outD := by omega
  have htyo : kTy D H out := Or.inr ⟨2, _, by decide, hA_out⟩
  have htyd : kTy D H outD := Or.inr ⟨3, _, by decide, hA_outD⟩
  have to_out : ∀ x, x = out → H.size ≤ x ∨ (kTy D H x ∧ c0 ≤ x ∧ x < c1) := fun x h => by rw [h]; exact Or.inr ⟨htyo, hco, w_out⟩
  have to_outD : ∀ x, x = outD → H.size ≤ x ∨ (kTy D H x ∧ c0 ≤ x ∧ x < c1) := fun x h => by rw [h]; exact Or.inr ⟨htyd, i_outD, w_outD⟩
  obtain ⟨⟨hO_st, mc9, hO_la⟩, hLs9, hLn9, hF9, hDs9, hb1, hb2, hb3⟩ := id hP_kState_st
  by_cases hA : 0 ≤ z1 ∧ z1 < (S.length : Int)
  · -- hA
    obtain ⟨ln9, hv1⟩ : ∃ k : Nat, z1 = (k : Int) := ⟨z1.toNat, by omega⟩
    have hln : ln9 < S.length := by omega
    have hLn := hok.ln hln
    have hr9 : -1 ≤ st_round S ln9 ∧ st_round S ln9 < S.length := st_roundTo_rng S ln9 S.length
    have hn9 := hLn.n
    have hrv : -2147483648 ≤ st_round S ln9 ∧ st_round S ln9 ≤ 2147483647 := ⟨by omega, by omega⟩
    refine lv_aload_n hx hb dL_law_2078 rfl (lv_at hl 1 rfl) ?_
    refine lv_aload_n hx hb dL_law_2079 rfl (lv_at hl 0 rfl) ?_
    refine lv_iload hx hb dL_law_2080 (lv_at hl 5 rfl) ?_
    refine kx_iconst hx hb dL_law_2082 ?_
    refine kx_iadd hx hb dL_law_2083 ?_
    refine kx_sld (i := (((3 * j : Nat) : Int) + 1)) hx hb hX hbl hbA hS (3 * j + 1) (by omega) (by omega) (by omega) dL_law_2084 ?_
    refine kx_eqi (((ln9 : Nat) : Int)) (hz1.symm.trans hv1) ?_
    refine lv_aload_n hx hb dL_law_2085 rfl (lv_at hl 3 rfl) ?_
    refine kx_ci (vx_runSW (As := [.ref x1, .int (kI ((ln9 : Nat) : Int)), .ref out]) (rest := []) ⟨hx, hb, hml, hown, hts⟩ (wr_lineRound l hl9 D H x1 ((sl.map (fun a => a.1.1)).head?) hi bu st la mc9 ea F S gap ln9 out go hO_x1 hO_st hO_la hLs9 hLn9 hA_out (by first | assumption | omega) (by first | assumption | omega) hG.1 (by first | assumption | omega) (by first | assumption | omega)) (vx_cwSW 3 hts (lw_SW q2129 q2130 q78 q2131) rfl rfl rfl (by decide +kernel) ⟨Nat.le_of_ble_eq_true rfl, Nat.le_of_ble_eq_true rfl⟩) (kx_ps hK hS hB) rfl rfl hl.1 rfl (lv_room (Nat.le_of_ble_eq_true rfl)) dL_law_2086 ⟨by first | exact Nat.le_of_ble_eq_true rfl | omega | (dsimp only [lwR]; omega) | (show _ ≤ _; omega), by first | exact Nat.le_of_ble_eq_true rfl | omega | (dsimp only [lwR]; omega) | (show _ ≤ _; omega)⟩) hS (fun q _ h => (ge_out q) h) (fun q h => (ge_out q) h) (fun z_6 H_4 locs_1 hz_3 hF_5 hS_2 => ?_)
    have hzf_7 := hF_5.1
    obtain ⟨hv_8, ho_9⟩ := hz_3
    subst z_6
    refine lv_istore (lv' := [(6, .int (kI (0))), (0, .ref b), (1, .ref x1), (2, .ref mm), (3, .ref out), (4, .ref outD), (5, .int (kI ((3 * j : Nat) : Int)))]) hx hb dL_law_2089 hl (by decide) rfl (fun ls hl => ?_)
    refine lv_aload_n hx hb dL_law_2091 rfl (lv_at hl 3 rfl) ?_
    refine lv_aload_n hx hb dL_law_2092 rfl (lv_at hl 1 rfl) ?_
    refine lv_iload hx hb dL_law_2093 (lv_at hl 6 rfl) ?_
    refine kx_iconst hx hb dL_law_2095 ?_
    refine kx_iadd hx hb dL_law_2096 ?_
    refine kx_sld (i := (((3 * j : Nat) : Int) + 1)) hx hb hX hbl hbA hS_2 (3 * j + 1) (by omega) (by omega) (by omega) dL_law_2097 ?_
    refine kx_eqi (((ln9 : Nat) : Int)) (hz1.symm.trans hv1) ?_
    have h_10 := hO_mm.fr hF_5 (n_mm_out)
    have h_11 := hA_ra.fr hF_5 (n_ra_out)
    have h_12 := hA_sa.fr hF_5 (n_sa_out)
    have h_13 := hA_ka.fr hF_5 (n_ka_out)
    have h_14 := hA_ta.fr hF_5 (n_ta_out)
    have ty_mm : ∀ x, x = mm → H_4.size ≤ x ∨ (kTy D H_4 x ∧ c0 ≤ x ∧ x < c1) := fun x h => by rw [h]; exact Or.inr ⟨Or.inl ⟨2, _, by decide, by decide, by decide, h_10⟩, i_mm.1, w_mm⟩
    refine kx_ci (va_runV (As := [.int (kI ((ln9 : Nat) : Int))]) (rest := []) ⟨hx, hb, hml, hown, hts⟩ (m_X3_lineRound l D H_4 mm ra sa ka ta nh ik t.length th sp9 iw le9 fi9 se9 g S gap ln9 h_10 h_11 (by first | assumption | omega) (by first | assumption | omega) n_mm_ra b_mm (by first | assumption | omega)) (cwV 1 hts (lw_V q2573 q2574 q2575 q89 q2576) rfl rfl rfl (by decide +kernel) ⟨Nat.le_of_ble_eq_true rfl, Nat.le_of_ble_eq_true rfl⟩) (kx_pv hK hS_2 hB (kx_rc hK h_10 (C := RX3) (T := TX3) (N := 13) rfl)) rfl rfl hl.1 rfl (lv_room (Nat.le_of_ble_eq_true rfl)) dL_law_2098 ⟨by first | exact Nat.le_of_ble_eq_true rfl | omega | (dsimp only [lwR]; omega) | (show _ ≤ _; omega), by first | exact Nat.le_of_ble_eq_true rfl | omega | (dsimp only [lwR]; omega) | (show _ ≤ _; omega)⟩) hS_2 (fun q _ h => (ge_mm q) h) (fun q h => (ge_mm q) h) (fun z_20 H_18 locs_15 hz_17 hF_19 hS_16 => ?_)
    have hzf_21 := hF_19.1
    obtain ⟨hv_22, ho_23⟩ := hz_17
    subst z_20
    refine lv_istore (lv' := [(7, .int (kI (st_round S ln9))), (6, .int (kI (0))), (0, .ref b), (1, .ref x1), (2, .ref mm), (3, .ref out), (4, .ref outD), (5, .int (kI ((3 * j : Nat) : Int)))]) hx hb dL_law_2101 hl (by decide) rfl (fun ls hl => ?_)
    refine lv_aload_n hx hb dL_law_2103 rfl (lv_at hl 4 rfl) ?_
    refine kx_ci0 (va_runV (As := []) (rest := []) ⟨hx, hb, hml, hown, hts⟩ (m_X3_thrown l D H_18 mm ra sa ka ta nh ik t.length 0 sp9 iw le9 fi9 se9 ho_23 ) (cwV 0 hts (lw_V q2278 q2279 q2280 q89 q2281) rfl rfl rfl (by decide +kernel) ⟨Nat.le_of_ble_eq_true rfl, Nat.le_of_ble_eq_true rfl⟩) (kx_pv hK hS_16 hB (kx_rc hK ho_23 (C := RX3) (T := TX3) (N := 13) rfl)) rfl rfl hl.1 rfl (lv_room (Nat.le_of_ble_eq_true rfl)) dL_law_2104 ⟨by first | exact Nat.le_of_ble_eq_true rfl | omega | (dsimp only [lwR]; omega) | (show _ ≤ _; omega), by first | exact Nat.le_of_ble_eq_true rfl | omega | (dsimp only [lwR]; omega) | (show _ ≤ _; omega)⟩) hS_16 (fun z_27 locs_24 hz_26 hS_25 => ?_)
    subst z_27
    refine lv_iload hx hb dL_law_2107 (lv_at hl 1 rfl) ?_
    refine kx_icmp_eq (x := 0) (y := 0) (tgt := 2114) hx hb dL_law_2109 (by decide) (by omega) (by omega) (by omega) (by omega) (fun c_2109_28 => ?_) (fun c_2109_28 => ?_)
    · -- taken at 2109
      refine lv_iload hx hb dL_law_2114 (lv_at hl 1 rfl) ?_
      refine kx_if_ne (x := 0) (tgt := 2131) hx hb dL_law_2116 (by decide) (by omega) (by omega) (fun c_2116_29 => ?_) (fun c_2116_29 => ?_)
      · -- taken at 2116
        exfalso; omega
      · -- not taken at 2116
        refine lv_aload_n hx hb dL_law_2119 rfl (lv_at hl 5 rfl) ?_
        refine kx_iconst hx hb dL_law_2120 ?_
        have h_30 := ho_9.fr hF_19 (n_mm_out.sm)
        refine kx_lald (i := 0) hx hb hK h_30 0 rfl (by decide) (by decide) dL_law_2121 ?_
        refine lv_iload hx hb dL_law_2122 (lv_at hl 0 rfl) ?_
        refine kx_i2l hx hb (z := st_round S ln9) (by omega) (by omega) dL_law_2124 ?_
        refine kx_lcmpE hx hb (x := ((kup go 0 (kL (st_round S ln9)))) 0) (y := kL (st_round S ln9)) (kup_self _ _ _) dL_law_2125 ?_
        refine kx_if_eq (x := 0) (tgt := 2131) hx hb dL_law_2126 (by decide) (by omega) (by omega) (fun c_2126_31 => ?_) (fun c_2126_31 => ?_)
        · -- taken at 2126
          refine lv_goto (tgt := 2493) hx hb dL_law_2131 (by decide) ?_
          have h_32 := h_11.fr hF_19 (n_mm_ra.sm)
          have h_33 := h_12.fr hF_19 (n_mm_sa.sm)
          have h_34 := h_13.fr hF_19 (n_mm_ka.sm)
          have h_35 := h_14.fr hF_19 (n_mm_ta.sm)
          have h_36 := hA_outD.fr hF_5 (n_out_outD.sm)
          have h_37 := h_36.fr hF_19 (n_mm_outD.sm)
          have h_38 := hW.fr hd9 hF_5 (fun x => (to_out x))
          have h_39 := h_38.fr hd9 hF_19 (fun x => (ty_mm x))
          refine W.widen (k := cells + 50000) (n := slots + 228000) (by omega) (by omega) ?_
          have hM9 : kM D H_18 c0 out mm (S, gap) ((sl.map Prod.snd).head?) (hl2.map Prod.snd) t := ⟨ra, sa, ka, ta, _, _, _, _, _, _, _, _, _, _, _, _, ho_23, h_32, h_33, h_34, h_35, hMr, hMh, hMk, hMt, ht60, hMd, hMb, hMi⟩
          exact kk (S, gap) ((sl.map Prod.snd).head?) (hl2.map Prod.snd) t _ _ _ ⟨hS_25, lv_sub hl [2, 3, 4, 5, 6, 7] rfl, h_39, hM9, ⟨_, h_30⟩, ⟨_, h_37⟩, by omega, by omega⟩
        · -- not taken at 2126
          exfalso; omega
    · -- not taken at 2109
      exfalso; omega
  · -- hA
    refine lv_aload_n hx hb dL_law_2078 rfl (lv_at hl 1 rfl) ?_
    refine lv_aload_n hx hb dL_law_2079 rfl (lv_at hl 0 rfl) ?_
    refine lv_iload hx hb dL_law_2080 (lv_at hl 5 rfl) ?_
    refine kx_iconst hx hb dL_law_2082 ?_
    refine kx_iadd hx hb dL_law_2083 ?_
    refine kx_sld (i := (((3 * j : Nat) : Int) + 1)) hx hb hX hbl hbA hS (3 * j + 1) (by omega) (by omega) (by omega) dL_law_2084 ?_
    refine kx_eqi (z1) (hz1.symm) ?_
    refine lv_aload_n hx hb dL_law_2085 rfl (lv_at hl 3 rfl) ?_
    refine kx_ci (vx_runSW (As := [.ref x1, .int (kI (z1)), .ref out]) (rest := []) ⟨hx, hb, hml, hown, hts⟩ (wx_lineRound l hl9 D H x1 ((sl.map (fun a => a.1.1)).head?) hi bu st la mc9 ea F S gap z1 out hO_x1 hO_st hO_la hLs9 hLn9 (by first | assumption | omega) (by first | assumption | omega) (by first | assumption | omega)) (vx_cwSW 3 hts (lw_SW q2129 q2130 q78 q2131) rfl rfl rfl (by decide +kernel) ⟨Nat.le_of_ble_eq_true rfl, Nat.le_of_ble_eq_true rfl⟩) (kx_ps hK hS hB) rfl rfl hl.1 rfl (lv_room (Nat.le_of_ble_eq_true rfl)) dL_law_2086 ⟨by first | exact Nat.le_of_ble_eq_true rfl | omega | (dsimp only [lwR]; omega) | (show _ ≤ _; omega), by first | exact Nat.le_of_ble_eq_true rfl | omega | (dsimp only [lwR]; omega) | (show _ ≤ _; omega)⟩) hS (fun q _ h => by have h9 := hS.1; (try dsimp only at h); (try dsimp only); (try simp only [kNW] at h); (try simp only [kNW]); omega) (fun q h => by have h9 := hS.1; (try dsimp only at h); (try dsimp only); (try simp only [kNW] at h); (try simp only [kNW]); omega) (fun z_45 H_43 locs_40 hz_42 hF_44 hS_41 => ?_)
    have hzf_46 := hF_44.1
    have hF_44 := hF_44.nw
    obtain ⟨hv_47, hnw_48⟩ := hz_42
    subst z_45
    refine lv_istore (lv' := [(6, .int (kI (1))), (0, .ref b), (1, .ref x1), (2, .ref mm), (3, .ref out), (4, .ref outD), (5, .int (kI ((3 * j : Nat) : Int)))]) hx hb dL_law_2089 hl (by decide) rfl (fun ls hl => ?_)
    refine lv_aload_n hx hb dL_law_2091 rfl (lv_at hl 3 rfl) ?_
    refine lv_aload_n hx hb dL_law_2092 rfl (lv_at hl 1 rfl) ?_
    refine lv_iload hx hb dL_law_2093 (lv_at hl 6 rfl) ?_
    refine kx_iconst hx hb dL_law_2095 ?_
    refine kx_iadd hx hb dL_law_2096 ?_
    refine kx_sld (i := (((3 * j : Nat) : Int) + 1)) hx hb hX hbl hbA hS_41 (3 * j + 1) (by omega) (by omega) (by omega) dL_law_2097 ?_
    refine kx_eqi (z1) (hz1.symm) ?_
    have h_49 := hO_mm.ex hF_44
    have h_50 := hA_ra.ex hF_44
    have h_51 := hA_sa.ex hF_44
    have h_52 := hA_ka.ex hF_44
    have h_53 := hA_ta.ex hF_44
    have ty_mm : ∀ x, x = mm → H_43.size ≤ x ∨ (kTy D H_43 x ∧ c0 ≤ x ∧ x < c1) := fun x h => by rw [h]; exact Or.inr ⟨Or.inl ⟨2, _, by decide, by decide, by decide, h_49⟩, i_mm.1, w_mm⟩
    refine kx_ci (va_runV (As := [.int (kI (z1))]) (rest := []) ⟨hx, hb, hml, hown, hts⟩ (m_X3_lineRound_no l D H_43 mm ra sa ka ta nh ik t.length th sp9 iw le9 fi9 se9 g S gap z1 h_49 h_50 (by first | assumption | omega) (by first | assumption | omega) n_mm_ra b_mm (by first | assumption | omega) (by first | assumption | omega)) (cwV 1 hts (lw_V q2573 q2574 q2575 q89 q2576) rfl rfl rfl (by decide +kernel) ⟨Nat.le_of_ble_eq_true rfl, Nat.le_of_ble_eq_true rfl⟩) (kx_pv hK hS_41 hB (kx_rc hK h_49 (C := RX3) (T := TX3) (N := 13) rfl)) rfl rfl hl.1 rfl (lv_room (Nat.le_of_ble_eq_true rfl)) dL_law_2098 ⟨by first | exact Nat.le_of_ble_eq_true rfl | omega | (dsimp only [lwR]; omega) | (show _ ≤ _; omega), by first | exact Nat.le_of_ble_eq_true rfl | omega | (dsimp only [lwR]; omega) | (show _ ≤ _; omega)⟩) hS_41 (fun q _ h => (ge_mm q) h) (fun q h => (ge_mm q) h) (fun z_59 H_57 locs_54 hz_56 hF_58 hS_55 => ?_)
    have hzf_60 := hF_58.1
    obtain ⟨hv_61, ho_62⟩ := hz_56
    subst z_59
    refine lv_istore (lv' := [(7, .int (kI (0))), (6, .int (kI (1))), (0, .ref b), (1, .ref x1), (2, .ref mm), (3, .ref out), (4, .ref outD), (5, .int (kI ((3 * j : Nat) : Int)))]) hx hb dL_law_2101 hl (by decide) rfl (fun ls hl => ?_)
    refine lv_aload_n hx hb dL_law_2103 rfl (lv_at hl 4 rfl) ?_
    refine kx_ci0 (va_runV (As := []) (rest := []) ⟨hx, hb, hml, hown, hts⟩ (m_X3_thrown l D H_57 mm ra sa ka ta nh ik t.length 1 sp9 iw le9 fi9 se9 ho_62 ) (cwV 0 hts (lw_V q2278 q2279 q2280 q89 q2281) rfl rfl rfl (by decide +kernel) ⟨Nat.le_of_ble_eq_true rfl, Nat.le_of_ble_eq_true rfl⟩) (kx_pv hK hS_55 hB (kx_rc hK ho_62 (C := RX3) (T := TX3) (N := 13) rfl)) rfl rfl hl.1 rfl (lv_room (Nat.le_of_ble_eq_true rfl)) dL_law_2104 ⟨by first | exact Nat.le_of_ble_eq_true rfl | omega | (dsimp only [lwR]; omega) | (show _ ≤ _; omega), by first | exact Nat.le_of_ble_eq_true rfl | omega | (dsimp only [lwR]; omega) | (show _ ≤ _; omega)⟩) hS_55 (fun z_66 locs_63 hz_65 hS_64 => ?_)
    subst z_66
    refine lv_iload hx hb dL_law_2107 (lv_at hl 1 rfl) ?_
    refine kx_icmp_eq (x := 1) (y := 1) (tgt := 2114) hx hb dL_law_2109 (by decide) (by omega) (by omega) (by omega) (by omega) (fun c_2109_67 => ?_) (fun c_2109_67 => ?_)
    · -- taken at 2109
      refine lv_iload hx hb dL_law_2114 (lv_at hl 1 rfl) ?_
      refine kx_if_ne (x := 1) (tgt := 2131) hx hb dL_law_2116 (by decide) (by omega) (by omega) (fun c_2116_68 => ?_) (fun c_2116_68 => ?_)
      · -- taken at 2116
        refine lv_goto (tgt := 2493) hx hb dL_law_2131 (by decide) ?_
        have h_69 := h_50.fr hF_58 (n_mm_ra.sm)
        have h_70 := h_51.fr hF_58 (n_mm_sa.sm)
        have h_71 := h_52.fr hF_58 (n_mm_ka.sm)
        have h_72 := h_53.fr hF_58 (n_mm_ta.sm)
        have h_73 := hA_out.ex hF_44
        have h_74 := h_73.fr hF_58 (n_mm_out.sm)
        have h_75 := hA_outD.ex hF_44
        have h_76 := h_75.fr hF_58 (n_mm_outD.sm)
        have h_77 := hW.ex hd9 hF_44
        have h_78 := h_77.fr hd9 hF_58 (fun x => (ty_mm x))
        refine W.widen (k := cells + 50000) (n := slots + 228000) (by omega) (by omega) ?_
        have hM9 : kM D H_57 c0 out mm (S, gap) ((sl.map Prod.snd).head?) (hl2.map Prod.snd) t := ⟨ra, sa, ka, ta, _, _, _, _, _, _, _, _, _, _, _, _, ho_62, h_69, h_70, h_71, h_72, hMr, hMh, hMk, hMt, ht60, hMd, hMb, hMi⟩
        exact kk (S, gap) ((sl.map Prod.snd).head?) (hl2.map Prod.snd) t _ _ _ ⟨hS_64, lv_sub hl [2, 3, 4, 5, 6, 7] rfl, h_78, hM9, ⟨_, h_74⟩, ⟨_, h_76⟩, by omega, by omega⟩
      · -- not taken at 2116
        exfalso; omega
    · -- not taken at 2109
      exfalso; omega

set_option maxHeartbeats 8000000 in
set_option maxRecDepth 100000 in
theorem lc_isSteady {p : Program} {e : Env} {s : State} {m : MethodId} {below : List Frame} {meth : Method} {c : Code} {l : Launch} {D : kG} {b L c0 c1 x1 mm out outD : Nat} {xs : Nat → Int32} {Q : State → Prop} (C0 : lwC D p l s m meth c b L c0 c1 out outD xs) {j : Nat} (hj : 3 * j + 3 ≤ L) {S : Ls} {gap : Int} {sn : Option Sg} {hs : List Sg} {t : List Int} {H : Heap} {locs : List Loc} {ls : Array Slot} (I0 : lwI D s b c0 c1 x1 mm out outD j j (S, gap) sn hs t H locs ls) {cells slots : Nat} (hcl : cells + 50000 ≤ 1200144) (hsl9 : slots + 228000 ≤ 5496058) (kk : ∀ (σ : Sg) (sn : Option Sg) (hs : List Sg) (t : List Int) (H : Heap) (locs : List Loc) (ls : Array Slot), lwI D s b c0 c1 x1 mm out outD j (j + 1) σ sn hs t H locs ls → W p l e lwR s m #[Value.ref b] below meth c H locs (cells + 50000) (slots + 228000) Q (F0 m 2493 ls [])) : W p l e lwR s m #[Value.ref b] below meth c H locs cells slots Q (F0 m 2134 ls []) := by
  obtain ⟨hx, hb, hml, hown, hts, hlk, hK, hl9, hX, hbl, hbs, hL72, hc0, hco, hod, hdc⟩ := C0
  obtain ⟨hS, hl, hW, hM, ⟨go, hA_out⟩, ⟨gd, hA_outD⟩, hc1, htl⟩ := I0
  have hB : ∀ q, (kNW s.heap) q → kBase D ≤ q := fun q h => Nat.le_trans hK.size h
  have hbA : ¬ (kNW s.heap) b := fun h => by have h9 : s.heap.size ≤ b := h; omega
  have hd9 := hK.dis
  have hxE : ¬ kBase D ≤ D.2.2.2 2 := hK.tE.out
  obtain ⟨z1, hz1⟩ : ∃ z, z = (xs (3 * j + 1)).toInt := ⟨_, rfl⟩
  obtain ⟨z2, hz2⟩ : ∃ z, z = (xs (3 * j + 2)).toInt := ⟨_, rfl⟩
  have hr1 : -2147483648 ≤ z1 ∧ z1 ≤ 2147483647 := by rw [hz1]; exact i32r _
  have hr2 : -2147483648 ≤ z2 ∧ z2 ≤ 2147483647 := by rw [hz2]; exact i32r _
  obtain ⟨⟨st, la, ea, F⟩, sl, hl2, hi, es, bu, vb, hO_x1, hDq, hTx, hX5, hev, hAl, hDj, hPw, hsl, hsn, hhs⟩ := id hW
  subst hsn
  subst hhs
  obtain ⟨ra, sa, ka, ta, nh, ik, th, sp9, iw, le9, fi9, se9, g, gs, gk, gt, hO_mm, hA_ra, hA_sa, hA_ka, hA_ta, hMr, hMh, hMk, hMt, ht60, hMd, hMb, hMi⟩ := id hM
  have hMr : MRow g S gap := hMr
  have h0 := hAl _ List.mem_cons_self
  have hP_kState_st : kState D H st la ea gap S F := h0.1
  have hok : LsOK S gap := h0.2.1
  have hG : StG S := h0.2.2.1
  have hL8 : S.length ≤ 8 := hok.1
  have hgp := hok.2.1
  have hO_x1 : kO D H x1 0 [.ref st, va_rf ((sl.map (fun a => a.1.1)).head?), .ref hi, .ref bu] := hO_x1
  have hOw : ∀ q, kOwn D st la ea F S.length q → q ∉ [x1, hi, es, bu, vb] ∧ (q < c0 ∨ c1 ≤ q) := h0.2.2.2
  have hev : Hd (es ≠ vb) := hev
  have io_x1 : ∀ x, c0 ≤ x → x < c1 → x ≠ x1 := fun x => out_of (hX5 x1 (by simp)).2
  have io_hi : ∀ x, c0 ≤ x → x < c1 → x ≠ hi := fun x => out_of (hX5 hi (by simp)).2
  have io_es : ∀ x, c0 ≤ x → x < c1 → x ≠ es := fun x => out_of (hX5 es (by simp)).2
  have io_bu : ∀ x, c0 ≤ x → x < c1 → x ≠ bu := fun x => out_of (hX5 bu (by simp)).2
  have io_vb : ∀ x, c0 ≤ x → x < c1 → x ≠ vb := fun x => out_of (hX5 vb (by simp)).2
  have b_x1 := (hX5 x1 (by simp)).1
  have b_hi := (hX5 hi (by simp)).1
  have b_es := (hX5 es (by simp)).1
  have b_bu := (hX5 bu (by simp)).1
  have b_vb := (hX5 vb (by simp)).1
  obtain ⟨⟨⟨n1, n2, n3, n4⟩, n5, n6, n7⟩, n8, n9, n10⟩ := hMd
  have n_mm_ra : Hd (mm ≠ ra) := n1
  have n_mm_sa : Hd (mm ≠ sa) := n2
  have n_mm_ka : Hd (mm ≠ ka) := n3
  have n_mm_ta : Hd (mm ≠ ta) := n4
  have n_ra_sa : Hd (ra ≠ sa) := n5
  have n_ra_ka : Hd (ra ≠ ka) := n6
  have n_ra_ta : Hd (ra ≠ ta) := n7
  have n_sa_ka : Hd (sa ≠ ka) := n8
  have n_sa_ta : Hd (sa ≠ ta) := n9
  have n_ka_ta : Hd (ka ≠ ta) := n10
  have hMd : Hd (((mm ≠ ra ∧ mm ≠ sa ∧ mm ≠ ka ∧ mm ≠ ta) ∧ ra ≠ sa ∧ ra ≠ ka ∧ ra ≠ ta) ∧ sa ≠ ka ∧ sa ≠ ta ∧ ka ≠ ta) := ⟨⟨⟨n1, n2, n3, n4⟩, n5, n6, n7⟩, n8, n9, n10⟩
  clear n1 n2 n3 n4 n5 n6 n7 n8 n9 n10
  obtain ⟨b_mm, b_ra, b_sa, b_ka, b_ta⟩ := id hMb
  obtain ⟨i_mm, i_ra, i_sa, i_ka, i_ta⟩ := id hMi
  have b_out : kBase D ≤ out := by omega
  have hcc : c0 ≤ c1 := by omega
  have w_mm : mm < c1 := by omega
  have n_mm_out : Hd (mm ≠ out) := Nat.ne_of_lt i_mm.2
  have n_mm_outD : Hd (mm ≠ outD) := Nat.ne_of_lt (Nat.lt_trans i_mm.2 hod)
  have w_ra : ra < c1 := by omega
  have n_ra_out : Hd (ra ≠ out) := Nat.ne_of_lt i_ra.2
  have n_ra_outD : Hd (ra ≠ outD) := Nat.ne_of_lt (Nat.lt_trans i_ra.2 hod)
  have w_sa : sa < c1 := by omega
  have n_sa_out : Hd (sa ≠ out) := Nat.ne_of_lt i_sa.2
  have n_sa_outD : Hd (sa ≠ outD) := Nat.ne_of_lt (Nat.lt_trans i_sa.2 hod)
  have w_ka : ka < c1 := by omega
  have n_ka_out : Hd (ka ≠ out) := Nat.ne_of_lt i_ka.2
  have n_ka_outD : Hd (ka ≠ outD) := Nat.ne_of_lt (Nat.lt_trans i_ka.2 hod)
  have w_ta : ta < c1 := by omega
  have n_ta_out : Hd (ta ≠ out) := Nat.ne_of_lt i_ta.2
  have n_ta_outD : Hd (ta ≠ outD) := Nat.ne_of_lt (Nat.lt_trans i_ta.2 hod)
  have ge_mm : ∀ q, q = mm → kNW s.heap q := fun q h => by rw [h]; show s.heap.size ≤ mm; omega
  have ge_ra : ∀ q, q = ra → kNW s.heap q := fun q h => by rw [h]; show s.heap.size ≤ ra; omega
  have ge_sa : ∀ q, q = sa → kNW s.heap q := fun q h => by rw [h]; show s.heap.size ≤ sa; omega
  have ge_ka : ∀ q, q = ka → kNW s.heap q := fun q h => by rw [h]; show s.heap.size ≤ ka; omega
  have ge_ta : ∀ q, q = ta → kNW s.heap q := fun q h => by rw [h]; show s.heap.size ≤ ta; omega
  have ge_out : ∀ q, q = out → kNW s.heap q := fun q h => by rw [h]; show s.heap.size ≤ out; omega
  have n_out_outD : Hd (out ≠ outD) := Nat.ne_of_lt hod
  have w_out : out < c1 := by omega
  have w_outD : outD < c1 := hdc
  have i_outD : c0 ≤ outD := by omega
  have htyo : kTy D H out := Or.inr ⟨2, _, by decide, hA_out⟩
  have htyd : kTy D H outD := Or.inr ⟨3, _, by decide, hA_outD⟩
  have to_out : ∀ x, x = out → H.size ≤ x ∨ (kTy D H x ∧ c0 ≤ x ∧ x < c1) := fun x h => by rw [h]; exact Or.inr ⟨htyo, hco, w_out⟩
  have to_outD : ∀ x, x = outD → H.size ≤ x ∨ (kTy D H x ∧ c0 ≤ x ∧ x < c1) := fun x h => by rw [h]; exact Or.inr ⟨htyd, i_outD, w_outD⟩
  obtain ⟨⟨hO_st, mc9, hO_la⟩, hLs9, hLn9, hF9, hDs9, hb1, hb2, hb3⟩ := id hP_kState_st
  by_cases hA : 0 ≤ z1 ∧ z1 < (S.length : Int)
  · -- hA
    obtain ⟨ln9, hv1⟩ : ∃ k : Nat, z1 = (k : Int) := ⟨z1.toNat, by omega⟩
    have hln : ln9 < S.length := by omega
    have hLn := hok.ln hln
    refine lv_aload_n hx hb dL_law_2134 rfl (lv_at hl 1 rfl) ?_
    refine lv_aload_n hx hb dL_law_2135 rfl (lv_at hl 0 rfl) ?_
    refine lv_iload hx hb dL_law_2136 (lv_at hl 5 rfl) ?_
    refine kx_iconst hx hb dL_law_2138 ?_
    refine kx_iadd hx hb dL_law_2139 ?_
    refine kx_sld (i := (((3 * j : Nat) : Int) + 1)) hx hb hX hbl hbA hS (3 * j + 1) (by omega) (by omega) (by omega) dL_law_2140 ?_
    refine kx_eqi (((ln9 : Nat) : Int)) (hz1.symm.trans hv1) ?_
    refine lv_aload_n hx hb dL_law_2141 rfl (lv_at hl 3 rfl) ?_
    refine kx_ci (vx_runSW (As := [.ref x1, .int (kI ((ln9 : Nat) : Int)), .ref out]) (rest := []) ⟨hx, hb, hml, hown, hts⟩ (wr_isSteady l hl9 D H x1 ((sl.map (fun a => a.1.1)).head?) hi bu st la mc9 ea F S gap ln9 out go hO_x1 hO_st hO_la hLs9 hLn9 hA_out (by first | assumption | omega) (by first | assumption | omega) hG.1 (by first | assumption | omega)) (vx_cwSW 3 hts (lw_SW q2140 q2141 q78 q2142) rfl rfl rfl (by decide +kernel) ⟨Nat.le_of_ble_eq_true rfl, Nat.le_of_ble_eq_true rfl⟩) (kx_ps hK hS hB) rfl rfl hl.1 rfl (lv_room (Nat.le_of_ble_eq_true rfl)) dL_law_2142 ⟨by first | exact Nat.le_of_ble_eq_true rfl | omega | (dsimp only [lwR]; omega) | (show _ ≤ _; omega), by first | exact Nat.le_of_ble_eq_true rfl | omega | (dsimp only [lwR]; omega) | (show _ ≤ _; omega)⟩) hS (fun q _ h => (ge_out q) h) (fun q h => (ge_out q) h) (fun z_6 H_4 locs_1 hz_3 hF_5 hS_2 => ?_)
    have hzf_7 := hF_5.1
    obtain ⟨hv_8, ho_9⟩ := hz_3
    subst z_6
    refine lv_istore (lv' := [(6, .int (kI (0))), (0, .ref b), (1, .ref x1), (2, .ref mm), (3, .ref out), (4, .ref outD), (5, .int (kI ((3 * j : Nat) : Int)))]) hx hb dL_law_2145 hl (by decide) rfl (fun ls hl => ?_)
    refine lv_aload_n hx hb dL_law_2147 rfl (lv_at hl 3 rfl) ?_
    refine lv_aload_n hx hb dL_law_2148 rfl (lv_at hl 1 rfl) ?_
    refine lv_iload hx hb dL_law_2149 (lv_at hl 6 rfl) ?_
    refine kx_iconst hx hb dL_law_2151 ?_
    refine kx_iadd hx hb dL_law_2152 ?_
    refine kx_sld (i := (((3 * j : Nat) : Int) + 1)) hx hb hX hbl hbA hS_2 (3 * j + 1) (by omega) (by omega) (by omega) dL_law_2153 ?_
    refine kx_eqi (((ln9 : Nat) : Int)) (hz1.symm.trans hv1) ?_
    have h_10 := hO_mm.fr hF_5 (n_mm_out)
    have h_11 := hA_ra.fr hF_5 (n_ra_out)
    have h_12 := hA_sa.fr hF_5 (n_sa_out)
    have h_13 := hA_ka.fr hF_5 (n_ka_out)
    have h_14 := hA_ta.fr hF_5 (n_ta_out)
    have ty_mm : ∀ x, x = mm → H_4.size ≤ x ∨ (kTy D H_4 x ∧ c0 ≤ x ∧ x < c1) := fun x h => by rw [h]; exact Or.inr ⟨Or.inl ⟨2, _, by decide, by decide, by decide, h_10⟩, i_mm.1, w_mm⟩
    refine kx_cb (va_runV (As := [.int (kI ((ln9 : Nat) : Int))]) (rest := []) ⟨hx, hb, hml, hown, hts⟩ (m_X3_isSteady l D H_4 mm ra sa ka ta nh ik t.length th sp9 iw le9 fi9 se9 g S gap ln9 h_10 h_11 (by first | assumption | omega) (by first | assumption | omega) n_mm_ra b_mm (by first | assumption | omega)) (cwV 1 hts (lw_V q2581 q2582 q2583 q89 q2584) rfl rfl rfl (by decide +kernel) ⟨Nat.le_of_ble_eq_true rfl, Nat.le_of_ble_eq_true rfl⟩) (kx_pv hK hS_2 hB (kx_rc hK h_10 (C := RX3) (T := TX3) (N := 13) rfl)) rfl rfl hl.1 rfl (lv_room (Nat.le_of_ble_eq_true rfl)) dL_law_2154 ⟨by first | exact Nat.le_of_ble_eq_true rfl | omega | (dsimp only [lwR]; omega) | (show _ ≤ _; omega), by first | exact Nat.le_of_ble_eq_true rfl | omega | (dsimp only [lwR]; omega) | (show _ ≤ _; omega)⟩) hS_2 (fun q _ h => (ge_mm q) h) (fun q h => (ge_mm q) h) (fun z_20 H_18 locs_15 hz_17 hF_19 hS_16 => ?_)
    have hzf_21 := hF_19.1
    obtain ⟨hv_22, ho_23⟩ := hz_17
    subst z_20
    refine lv_istore (lv' := [(7, .int (kI (kb (st_steady S ln9)))), (6, .int (kI (0))), (0, .ref b), (1, .ref x1), (2, .ref mm), (3, .ref out), (4, .ref outD), (5, .int (kI ((3 * j : Nat) : Int)))]) hx hb dL_law_2157 hl (by decide) rfl (fun ls hl => ?_)
    refine lv_aload_n hx hb dL_law_2159 rfl (lv_at hl 4 rfl) ?_
    refine kx_ci0 (va_runV (As := []) (rest := []) ⟨hx, hb, hml, hown, hts⟩ (m_X3_thrown l D H_18 mm ra sa ka ta nh ik t.length 0 sp9 iw le9 fi9 se9 ho_23 ) (cwV 0 hts (lw_V q2278 q2279 q2280 q89 q2281) rfl rfl rfl (by decide +kernel) ⟨Nat.le_of_ble_eq_true rfl, Nat.le_of_ble_eq_true rfl⟩) (kx_pv hK hS_16 hB (kx_rc hK ho_23 (C := RX3) (T := TX3) (N := 13) rfl)) rfl rfl hl.1 rfl (lv_room (Nat.le_of_ble_eq_true rfl)) dL_law_2160 ⟨by first | exact Nat.le_of_ble_eq_true rfl | omega | (dsimp only [lwR]; omega) | (show _ ≤ _; omega), by first | exact Nat.le_of_ble_eq_true rfl | omega | (dsimp only [lwR]; omega) | (show _ ≤ _; omega)⟩) hS_16 (fun z_27 locs_24 hz_26 hS_25 => ?_)
    subst z_27
    refine lv_iload hx hb dL_law_2163 (lv_at hl 1 rfl) ?_
    refine kx_icmp_eq (x := 0) (y := 0) (tgt := 2170) hx hb dL_law_2165 (by decide) (by omega) (by omega) (by omega) (by omega) (fun c_2165_28 => ?_) (fun c_2165_28 => ?_)
    · -- taken at 2165
      refine lv_iload hx hb dL_law_2170 (lv_at hl 1 rfl) ?_
      refine kx_if_ne (x := 0) (tgt := 2194) hx hb dL_law_2172 (by decide) (by omega) (by omega) (fun c_2172_29 => ?_) (fun c_2172_29 => ?_)
      · -- taken at 2172
        exfalso; omega
      · -- not taken at 2172
        refine lv_aload_n hx hb dL_law_2175 rfl (lv_at hl 5 rfl) ?_
        refine kx_iconst hx hb dL_law_2176 ?_
        have h_30 := ho_9.fr hF_19 (n_mm_out.sm)
        refine kx_lald (i := 0) hx hb hK h_30 0 rfl (by decide) (by decide) dL_law_2177 ?_
        refine lv_iload hx hb dL_law_2178 (lv_at hl 0 rfl) ?_
        refine kx_ifz (tgt := 2187) hx hb dL_law_2180 (by decide) (fun cb9 => ?_) (fun cb9 => ?_)
        · -- taken at 2180
          refine kx_lconst0 hx hb dL_law_2187 ?_
          refine kx_lcmpE hx hb (x := ((kup go 0 (kL (kb (st_steady S ln9))))) 0) (y := kL (0)) ((kup_self _ _ _).trans (by first | rfl | (rw [cb9]; rfl))) dL_law_2188 ?_
          refine kx_if_eq (x := 0) (tgt := 2194) hx hb dL_law_2189 (by decide) (by omega) (by omega) (fun c_2189_31 => ?_) (fun c_2189_31 => ?_)
          · -- taken at 2189
            refine lv_goto (tgt := 2493) hx hb dL_law_2194 (by decide) ?_
            have h_32 := h_11.fr hF_19 (n_mm_ra.sm)
            have h_33 := h_12.fr hF_19 (n_mm_sa.sm)
            have h_34 := h_13.fr hF_19 (n_mm_ka.sm)
            have h_35 := h_14.fr hF_19 (n_mm_ta.sm)
            have h_36 := hA_outD.fr hF_5 (n_out_outD.sm)
            have h_37 := h_36.fr hF_19 (n_mm_outD.sm)
            have h_38 := hW.fr hd9 hF_5 (fun x => (to_out x))
            have h_39 := h_38.fr hd9 hF_19 (fun x => (ty_mm x))
            refine W.widen (k := cells + 50000) (n := slots + 228000) (by omega) (by omega) ?_
            have hM9 : kM D H_18 c0 out mm (S, gap) ((sl.map Prod.snd).head?) (hl2.map Prod.snd) t := ⟨ra, sa, ka, ta, _, _, _, _, _, _, _, _, _, _, _, _, ho_23, h_32, h_33, h_34, h_35, hMr, hMh, hMk, hMt, ht60, hMd, hMb, hMi⟩
            exact kk (S, gap) ((sl.map Prod.snd).head?) (hl2.map Prod.snd) t _ _ _ ⟨hS_25, lv_sub hl [2, 3, 4, 5, 6, 7] rfl, h_39, hM9, ⟨_, h_30⟩, ⟨_, h_37⟩, by omega, by omega⟩
          · -- not taken at 2189
            exfalso; omega
        · -- not taken at 2180
          refine kx_lconst1 hx hb dL_law_2183 ?_
          refine lv_goto (tgt := 2188) hx hb dL_law_2184 (by decide) ?_
          refine kx_lcmpE hx hb (x := ((kup go 0 (kL (kb (st_steady S ln9))))) 0) (y := kL (1)) ((kup_self _ _ _).trans (by first | rfl | (rw [cb9]; rfl))) dL_law_2188 ?_
          refine kx_if_eq (x := 0) (tgt := 2194) hx hb dL_law_2189 (by decide) (by omega) (by omega) (fun c_2189_40 => ?_) (fun c_2189_40 => ?_)
          · -- taken at 2189
            refine lv_goto (tgt := 2493) hx hb dL_law_2194 (by decide) ?_
            have h_41 := h_11.fr hF_19 (n_mm_ra.sm)
            have h_42 := h_12.fr hF_19 (n_mm_sa.sm)
            have h_43 := h_13.fr hF_19 (n_mm_ka.sm)
            have h_44 := h_14.fr hF_19 (n_mm_ta.sm)
            have h_45 := hA_outD.fr hF_5 (n_out_outD.sm)
            have h_46 := h_45.fr hF_19 (n_mm_outD.sm)
            have h_47 := hW.fr hd9 hF_5 (fun x => (to_out x))
            have h_48 := h_47.fr hd9 hF_19 (fun x => (ty_mm x))
            refine W.widen (k := cells + 50000) (n := slots + 228000) (by omega) (by omega) ?_
            have hM9 : kM D H_18 c0 out mm (S, gap) ((sl.map Prod.snd).head?) (hl2.map Prod.snd) t := ⟨ra, sa, ka, ta, _, _, _, _, _, _, _, _, _, _, _, _, ho_23, h_41, h_42, h_43, h_44, hMr, hMh, hMk, hMt, ht60, hMd, hMb, hMi⟩
            exact kk (S, gap) ((sl.map Prod.snd).head?) (hl2.map Prod.snd) t _ _ _ ⟨hS_25, lv_sub hl [2, 3, 4, 5, 6, 7] rfl, h_48, hM9, ⟨_, h_30⟩, ⟨_, h_46⟩, by omega, by omega⟩
          · -- not taken at 2189
            exfalso; omega
    · -- not taken at 2165
      exfalso; omega
  · -- hA
    refine lv_aload_n hx hb dL_law_2134 rfl (lv_at hl 1 rfl) ?_
    refine lv_aload_n hx hb dL_law_2135 rfl (lv_at hl 0 rfl) ?_
    refine lv_iload hx hb dL_law_2136 (lv_at hl 5 rfl) ?_
    refine kx_iconst hx hb dL_law_2138 ?_
    refine kx_iadd hx hb dL_law_2139 ?_
    refine kx_sld (i := (((3 * j : Nat) : Int) + 1)) hx hb hX hbl hbA hS (3 * j + 1) (by omega) (by omega) (by omega) dL_law_2140 ?_
    refine kx_eqi (z1) (hz1.symm) ?_
    refine lv_aload_n hx hb dL_law_2141 rfl (lv_at hl 3 rfl) ?_
    refine kx_ci (vx_runSW (As := [.ref x1, .int (kI (z1)), .ref out]) (rest := []) ⟨hx, hb, hml, hown, hts⟩ (wx_isSteady l hl9 D H x1 ((sl.map (fun a => a.1.1)).head?) hi bu st la mc9 ea F S gap z1 out hO_x1 hO_st hO_la hLs9 hLn9 (by first | assumption | omega) (by first | assumption | omega) (by first | assumption | omega)) (vx_cwSW 3 hts (lw_SW q2140 q2141 q78 q2142) rfl rfl rfl (by decide +kernel) ⟨Nat.le_of_ble_eq_true rfl, Nat.le_of_ble_eq_true rfl⟩) (kx_ps hK hS hB) rfl rfl hl.1 rfl (lv_room (Nat.le_of_ble_eq_true rfl)) dL_law_2142 ⟨by first | exact Nat.le_of_ble_eq_true rfl | omega | (dsimp only [lwR]; omega) | (show _ ≤ _; omega), by first | exact Nat.le_of_ble_eq_true rfl | omega | (dsimp only [lwR]; omega) | (show _ ≤ _; omega)⟩) hS (fun q _ h => by have h9 := hS.1; (try dsimp only at h); (try dsimp only); (try simp only [kNW] at h); (try simp only [kNW]); omega) (fun q h => by have h9 := hS.1; (try dsimp only at h); (try dsimp only); (try simp only [kNW] at h); (try simp only [kNW]); omega) (fun z_54 H_52 locs_49 hz_51 hF_53 hS_50 => ?_)
    have hzf_55 := hF_53.1
    have hF_53 := hF_53.nw
    obtain ⟨hv_56, hnw_57⟩ := hz_51
    subst z_54
    refine lv_istore (lv' := [(6, .int (kI (1))), (0, .ref b), (1, .ref x1), (2, .ref mm), (3, .ref out), (4, .ref outD), (5, .int (kI ((3 * j : Nat) : Int)))]) hx hb dL_law_2145 hl (by decide) rfl (fun ls hl => ?_)
    refine lv_aload_n hx hb dL_law_2147 rfl (lv_at hl 3 rfl) ?_
    refine lv_aload_n hx hb dL_law_2148 rfl (lv_at hl 1 rfl) ?_
    refine lv_iload hx hb dL_law_2149 (lv_at hl 6 rfl) ?_
    refine kx_iconst hx hb dL_law_2151 ?_
    refine kx_iadd hx hb dL_law_2152 ?_
    refine kx_sld (i := (((3 * j : Nat) : Int) + 1)) hx hb hX hbl hbA hS_50 (3 * j + 1) (by omega) (by omega) (by omega) dL_law_2153 ?_
    refine kx_eqi (z1) (hz1.symm) ?_
    have h_58 := hO_mm.ex hF_53
    have h_59 := hA_ra.ex hF_53
    have h_60 := hA_sa.ex hF_53
    have h_61 := hA_ka.ex hF_53
    have h_62 := hA_ta.ex hF_53
    have ty_mm : ∀ x, x = mm → H_52.size ≤ x ∨ (kTy D H_52 x ∧ c0 ≤ x ∧ x < c1) := fun x h => by rw [h]; exact Or.inr ⟨Or.inl ⟨2, _, by decide, by decide, by decide, h_58⟩, i_mm.1, w_mm⟩
    refine kx_cb (va_runV (As := [.int (kI (z1))]) (rest := []) ⟨hx, hb, hml, hown, hts⟩ (m_X3_isSteady_no l D H_52 mm ra sa ka ta nh ik t.length th sp9 iw le9 fi9 se9 g S gap z1 h_58 h_59 (by first | assumption | omega) (by first | assumption | omega) n_mm_ra b_mm (by first | assumption | omega) (by first | assumption | omega)) (cwV 1 hts (lw_V q2581 q2582 q2583 q89 q2584) rfl rfl rfl (by decide +kernel) ⟨Nat.le_of_ble_eq_true rfl, Nat.le_of_ble_eq_true rfl⟩) (kx_pv hK hS_50 hB (kx_rc hK h_58 (C := RX3) (T := TX3) (N := 13) rfl)) rfl rfl hl.1 rfl (lv_room (Nat.le_of_ble_eq_true rfl)) dL_law_2154 ⟨by first | exact Nat.le_of_ble_eq_true rfl | omega | (dsimp only [lwR]; omega) | (show _ ≤ _; omega), by first | exact Nat.le_of_ble_eq_true rfl | omega | (dsimp only [lwR]; omega) | (show _ ≤ _; omega)⟩) hS_50 (fun q _ h => (ge_mm q) h) (fun q h => (ge_mm q) h) (fun z_68 H_66 locs_63 hz_65 hF_67 hS_64 => ?_)
    have hzf_69 := hF_67.1
    obtain ⟨hv_70, ho_71⟩ := hz_65
    subst z_68
    refine lv_istore (lv' := [(7, .int (kI (kb (false)))), (6, .int (kI (1))), (0, .ref b), (1, .ref x1), (2, .ref mm), (3, .ref out), (4, .ref outD), (5, .int (kI ((3 * j : Nat) : Int)))]) hx hb dL_law_2157 hl (by decide) rfl (fun ls hl => ?_)
    refine lv_aload_n hx hb dL_law_2159 rfl (lv_at hl 4 rfl) ?_
    refine kx_ci0 (va_runV (As := []) (rest := []) ⟨hx, hb, hml, hown, hts⟩ (m_X3_thrown l D H_66 mm ra sa ka ta nh ik t.length 1 sp9 iw le9 fi9 se9 ho_71 ) (cwV 0 hts (lw_V q2278 q2279 q2280 q89 q2281) rfl rfl rfl (by decide +kernel) ⟨Nat.le_of_ble_eq_true rfl, Nat.le_of_ble_eq_true rfl⟩) (kx_pv hK hS_64 hB (kx_rc hK ho_71 (C := RX3) (T := TX3) (N := 13) rfl)) rfl rfl hl.1 rfl (lv_room (Nat.le_of_ble_eq_true rfl)) dL_law_2160 ⟨by first | exact Nat.le_of_ble_eq_true rfl | omega | (dsimp only [lwR]; omega) | (show _ ≤ _; omega), by first | exact Nat.le_of_ble_eq_true rfl | omega | (dsimp only [lwR]; omega) | (show _ ≤ _; omega)⟩) hS_64 (fun z_75 locs_72 hz_74 hS_73 => ?_)
    subst z_75
    refine lv_iload hx hb dL_law_2163 (lv_at hl 1 rfl) ?_
    refine kx_icmp_eq (x := 1) (y := 1) (tgt := 2170) hx hb dL_law_2165 (by decide) (by omega) (by omega) (by omega) (by omega) (fun c_2165_76 => ?_) (fun c_2165_76 => ?_)
    · -- taken at 2165
      refine lv_iload hx hb dL_law_2170 (lv_at hl 1 rfl) ?_
      refine kx_if_ne (x := 1) (tgt := 2194) hx hb dL_law_2172 (by decide) (by omega) (by omega) (fun c_2172_77 => ?_) (fun c_2172_77 => ?_)
      · -- taken at 2172
        refine lv_goto (tgt := 2493) hx hb dL_law_2194 (by decide) ?_
        have h_78 := h_59.fr hF_67 (n_mm_ra.sm)
        have h_79 := h_60.fr hF_67 (n_mm_sa.sm)
        have h_80 := h_61.fr hF_67 (n_mm_ka.sm)
        have h_81 := h_62.fr hF_67 (n_mm_ta.sm)
        have h_82 := hA_out.ex hF_53
        have h_83 := h_82.fr hF_67 (n_mm_out.sm)
        have h_84 := hA_outD.ex hF_53
        have h_85 := h_84.fr hF_67 (n_mm_outD.sm)
        have h_86 := hW.ex hd9 hF_53
        have h_87 := h_86.fr hd9 hF_67 (fun x => (ty_mm x))
        refine W.widen (k := cells + 50000) (n := slots + 228000) (by omega) (by omega) ?_
        have hM9 : kM D H_66 c0 out mm (S, gap) ((sl.map Prod.snd).head?) (hl2.map Prod.snd) t := ⟨ra, sa, ka, ta, _, _, _, _, _, _, _, _, _, _, _, _, ho_71, h_78, h_79, h_80, h_81, hMr, hMh, hMk, hMt, ht60, hMd, hMb, hMi⟩
        exact kk (S, gap) ((sl.map Prod.snd).head?) (hl2.map Prod.snd) t _ _ _ ⟨hS_73, lv_sub hl [2, 3, 4, 5, 6, 7] rfl, h_87, hM9, ⟨_, h_83⟩, ⟨_, h_85⟩, by omega, by omega⟩
      · -- not taken at 2172
        exfalso; omega
    · -- not taken at 2165
      exfalso; omega

set_option maxHeartbeats 8000000 in
set_option maxRecDepth 100000 in
theorem lc_lineByLevel {p : Program} {e : Env} {s : State} {m : MethodId} {below : List Frame} {meth : Method} {c : Code} {l : Launch} {D : kG} {b L c0 c1 x1 mm out outD : Nat} {xs : Nat → Int32} {Q : State → Prop} (C0 : lwC D p l s m meth c b L c0 c1 out outD xs) {j : Nat} (hj : 3 * j + 3 ≤ L) {S : Ls} {gap : Int} {sn : Option Sg} {hs : List Sg} {t : List Int} {H : Heap} {locs : List Loc} {ls : Array Slot} (I0 : lwI D s b c0 c1 x1 mm out outD j j (S, gap) sn hs t H locs ls) {cells slots : Nat} (hcl : cells + 50000 ≤ 1200144) (hsl9 : slots + 228000 ≤ 5496058) (kk : ∀ (σ : Sg) (sn : Option Sg) (hs : List Sg) (t : List Int) (H : Heap) (locs : List Loc) (ls : Array Slot), lwI D s b c0 c1 x1 mm out outD j (j + 1) σ sn hs t H locs ls → W p l e lwR s m #[Value.ref b] below meth c H locs (cells + 50000) (slots + 228000) Q (F0 m 2493 ls [])) : W p l e lwR s m #[Value.ref b] below meth c H locs cells slots Q (F0 m 2197 ls []) := by
  obtain ⟨hx, hb, hml, hown, hts, hlk, hK, hl9, hX, hbl, hbs, hL72, hc0, hco, hod, hdc⟩ := C0
  obtain ⟨hS, hl, hW, hM, ⟨go, hA_out⟩, ⟨gd, hA_outD⟩, hc1, htl⟩ := I0
  have hB : ∀ q, (kNW s.heap) q → kBase D ≤ q := fun q h => Nat.le_trans hK.size h
  have hbA : ¬ (kNW s.heap) b := fun h => by have h9 : s.heap.size ≤ b := h; omega
  have hd9 := hK.dis
  have hxE : ¬ kBase D ≤ D.2.2.2 2 := hK.tE.out
  obtain ⟨z1, hz1⟩ : ∃ z, z = (xs (3 * j + 1)).toInt := ⟨_, rfl⟩
  obtain ⟨z2, hz2⟩ : ∃ z, z = (xs (3 * j + 2)).toInt := ⟨_, rfl⟩
  have hr1 : -2147483648 ≤ z1 ∧ z1 ≤ 2147483647 := by rw [hz1]; exact i32r _
  have hr2 : -2147483648 ≤ z2 ∧ z2 ≤ 2147483647 := by rw [hz2]; exact i32r _
  obtain ⟨⟨st, la, ea, F⟩, sl, hl2, hi, es, bu, vb, hO_x1, hDq, hTx, hX5, hev, hAl, hDj, hPw, hsl, hsn, hhs⟩ := id hW
  subst hsn
  subst hhs
  obtain ⟨ra, sa, ka, ta, nh, ik, th, sp9, iw, le9, fi9, se9, g, gs, gk, gt, hO_mm, hA_ra, hA_sa, hA_ka, hA_ta, hMr, hMh, hMk, hMt, ht60, hMd, hMb, hMi⟩ := id hM
  have hMr : MRow g S gap := hMr
  have h0 := hAl _ List.mem_cons_self
  have hP_kState_st : kState D H st la ea gap S F := h0.1
  have hok : LsOK S gap := h0.2.1
  have hG : StG S := h0.2.2.1
  have hL8 : S.length ≤ 8 := hok.1
  have hgp := hok.2.1
  have hO_x1 : kO D H x1 0 [.ref st, va_rf ((sl.map (fun a => a.1.1)).head?), .ref hi, .ref bu] := hO_x1
  have hOw : ∀ q, kOwn D st la ea F S.length q → q ∉ [x1, hi, es, bu, vb] ∧ (q < c0 ∨ c1 ≤ q) := h0.2.2.2
  have hev : Hd (es ≠ vb) := hev
  have io_x1 : ∀ x, c0 ≤ x → x < c1 → x ≠ x1 := fun x => out_of (hX5 x1 (by simp)).2
  have io_hi : ∀ x, c0 ≤ x → x < c1 → x ≠ hi := fun x => out_of (hX5 hi (by simp)).2
  have io_es : ∀ x, c0 ≤ x → x < c1 → x ≠ es := fun x => out_of (hX5 es (by simp)).2
  have io_bu : ∀ x, c0 ≤ x → x < c1 → x ≠ bu := fun x => out_of (hX5 bu (by simp)).2
  have io_vb : ∀ x, c0 ≤ x → x < c1 → x ≠ vb := fun x => out_of (hX5 vb (by simp)).2
  have b_x1 := (hX5 x1 (by simp)).1
  have b_hi := (hX5 hi (by simp)).1
  have b_es := (hX5 es (by simp)).1
  have b_bu := (hX5 bu (by simp)).1
  have b_vb := (hX5 vb (by simp)).1
  obtain ⟨⟨⟨n1, n2, n3, n4⟩, n5, n6, n7⟩, n8, n9, n10⟩ := hMd
  have n_mm_ra : Hd (mm ≠ ra) := n1
  have n_mm_sa : Hd (mm ≠ sa) := n2
  have n_mm_ka : Hd (mm ≠ ka) := n3
  have n_mm_ta : Hd (mm ≠ ta) := n4
  have n_ra_sa : Hd (ra ≠ sa) := n5
  have n_ra_ka : Hd (ra ≠ ka) := n6
  have n_ra_ta : Hd (ra ≠ ta) := n7
  have n_sa_ka : Hd (sa ≠ ka) := n8
  have n_sa_ta : Hd (sa ≠ ta) := n9
  have n_ka_ta : Hd (ka ≠ ta) := n10
  have hMd : Hd (((mm ≠ ra ∧ mm ≠ sa ∧ mm ≠ ka ∧ mm ≠ ta) ∧ ra ≠ sa ∧ ra ≠ ka ∧ ra ≠ ta) ∧ sa ≠ ka ∧ sa ≠ ta ∧ ka ≠ ta) := ⟨⟨⟨n1, n2, n3, n4⟩, n5, n6, n7⟩, n8, n9, n10⟩
  clear n1 n2 n3 n4 n5 n6 n7 n8 n9 n10
  obtain ⟨b_mm, b_ra, b_sa, b_ka, b_ta⟩ := id hMb
  obtain ⟨i_mm, i_ra, i_sa, i_ka, i_ta⟩ := id hMi
  have b_out : kBase D ≤ out := by omega
  have hcc : c0 ≤ c1 := by omega
  have w_mm : mm < c1 := by omega
  have n_mm_out : Hd (mm ≠ out) := Nat.ne_of_lt i_mm.2
  have n_mm_outD : Hd (mm ≠ outD) := Nat.ne_of_lt (Nat.lt_trans i_mm.2 hod)
  have w_ra : ra < c1 := by omega
  have n_ra_out : Hd (ra ≠ out) := Nat.ne_of_lt i_ra.2
  have n_ra_outD : Hd (ra ≠ outD) := Nat.ne_of_lt (Nat.lt_trans i_ra.2 hod)
  have w_sa : sa < c1 := by omega
  have n_sa_out : Hd (sa ≠ out) := Nat.ne_of_lt i_sa.2
  have n_sa_outD : Hd (sa ≠ outD) := Nat.ne_of_lt (Nat.lt_trans i_sa.2 hod)
  have w_ka : ka < c1 := by omega
  have n_ka_out : Hd (ka ≠ out) := Nat.ne_of_lt i_ka.2
  have n_ka_outD : Hd (ka ≠ outD) := Nat.ne_of_lt (Nat.lt_trans i_ka.2 hod)
  have w_ta : ta < c1 := by omega
  have n_ta_out : Hd (ta ≠ out) := Nat.ne_of_lt i_ta.2
  have n_ta_outD : Hd (ta ≠ outD) := Nat.ne_of_lt (Nat.lt_trans i_ta.2 hod)
  have ge_mm : ∀ q, q = mm → kNW s.heap q := fun q h => by rw [h]; show s.heap.size ≤ mm; omega
  have ge_ra : ∀ q, q = ra → kNW s.heap q := fun q h => by rw [h]; show s.heap.size ≤ ra; omega
  have ge_sa : ∀ q, q = sa → kNW s.heap q := fun q h => by rw [h]; show s.heap.size ≤ sa; omega
  have ge_ka : ∀ q, q = ka → kNW s.heap q := fun q h => by rw [h]; show s.heap.size ≤ ka; omega
  have ge_ta : ∀ q, q = ta → kNW s.heap q := fun q h => by rw [h]; show s.heap.size ≤ ta; omega
  have ge_out : ∀ q, q = out → kNW s.heap q := fun q h => by rw [h]; show s.heap.size ≤ out; omega
  have n_out_outD : Hd (out ≠ outD) := Nat.ne_of_lt hod
  have w_out : out < c1 := by omega
  have w_outD : outD < c1 := hdc
  have i_outD : c0 ≤ outD := by omega
  have htyo : kTy D H out := Or.inr ⟨2, _, by decide, hA_out⟩
  have htyd : kTy D H outD := Or.inr ⟨3, _, by decide, hA_outD⟩
  have to_out : ∀ x, x = out → H.size ≤ x ∨ (kTy D H x ∧ c0 ≤ x ∧ x < c1) := fun x h => by rw [h]; exact Or.inr ⟨htyo, hco, w_out⟩
  have to_outD : ∀ x, x = outD → H.size ≤ x ∨ (kTy D H x ∧ c0 ≤ x ∧ x < c1) := fun x h => by rw [h]; exact Or.inr ⟨htyd, i_outD, w_outD⟩
  obtain ⟨⟨hO_st, mc9, hO_la⟩, hLs9, hLn9, hF9, hDs9, hb1, hb2, hb3⟩ := id hP_kState_st
  by_cases hA : 0 ≤ z1 ∧ z1 < (S.length : Int)
  · -- hA
    obtain ⟨ln9, hv1⟩ : ∃ k : Nat, z1 = (k : Int) := ⟨z1.toNat, by omega⟩
    have hln : ln9 < S.length := by omega
    have hLn := hok.ln hln
    have hr9 : -1 ≤ st_byLv S ln9 ∧ st_byLv S ln9 < S.length := st_byLvTo_rng S ln9 S.length
    have hn9 := hLn.n
    have hrv : -2147483648 ≤ st_byLv S ((ln9 : Nat) : Int) ∧ st_byLv S ((ln9 : Nat) : Int) ≤ 2147483647 := ⟨by omega, by omega⟩
    refine lv_aload_n hx hb dL_law_2197 rfl (lv_at hl 1 rfl) ?_
    refine lv_aload_n hx hb dL_law_2198 rfl (lv_at hl 0 rfl) ?_
    refine lv_iload hx hb dL_law_2199 (lv_at hl 5 rfl) ?_
    refine kx_iconst hx hb dL_law_2201 ?_
    refine kx_iadd hx hb dL_law_2202 ?_
    refine kx_sld (i := (((3 * j : Nat) : Int) + 1)) hx hb hX hbl hbA hS (3 * j + 1) (by omega) (by omega) (by omega) dL_law_2203 ?_
    refine kx_eqi (((ln9 : Nat) : Int)) (hz1.symm.trans hv1) ?_
    refine lv_aload_n hx hb dL_law_2204 rfl (lv_at hl 3 rfl) ?_
    refine kx_ci (vx_runSW (As := [.ref x1, .int (kI ((ln9 : Nat) : Int)), .ref out]) (rest := []) ⟨hx, hb, hml, hown, hts⟩ (wr_lineByLevel l hl9 D H x1 ((sl.map (fun a => a.1.1)).head?) hi bu st la mc9 ea F S gap ln9 out go hO_x1 hO_st hO_la hLs9 hLn9 hA_out (by first | assumption | omega) (by first | assumption | omega) (by first | assumption | omega) (by first | assumption | omega)) (vx_cwSW 3 hts (lw_SW q2153 q2154 q78 q2155) rfl rfl rfl (by decide +kernel) ⟨Nat.le_of_ble_eq_true rfl, Nat.le_of_ble_eq_true rfl⟩) (kx_ps hK hS hB) rfl rfl hl.1 rfl (lv_room (Nat.le_of_ble_eq_true rfl)) dL_law_2205 ⟨by first | exact Nat.le_of_ble_eq_true rfl | omega | (dsimp only [lwR]; omega) | (show _ ≤ _; omega), by first | exact Nat.le_of_ble_eq_true rfl | omega | (dsimp only [lwR]; omega) | (show _ ≤ _; omega)⟩) hS (fun q _ h => (fun h => Or.elim h (ge_out q) (fun h => Nat.le_trans hS.1 h)) h) (fun q h => (fun h => Or.elim h (ge_out q) (fun h => Nat.le_trans hS.1 h)) h) (fun z_6 H_4 locs_1 hz_3 hF_5 hS_2 => ?_)
    have hzf_7 := hF_5.1
    obtain ⟨hv_8, ho_9⟩ := hz_3
    subst z_6
    refine lv_istore (lv' := [(6, .int (kI (0))), (0, .ref b), (1, .ref x1), (2, .ref mm), (3, .ref out), (4, .ref outD), (5, .int (kI ((3 * j : Nat) : Int)))]) hx hb dL_law_2208 hl (by decide) rfl (fun ls hl => ?_)
    refine lv_aload_n hx hb dL_law_2210 rfl (lv_at hl 3 rfl) ?_
    refine lv_aload_n hx hb dL_law_2211 rfl (lv_at hl 1 rfl) ?_
    refine lv_iload hx hb dL_law_2212 (lv_at hl 6 rfl) ?_
    refine kx_iconst hx hb dL_law_2214 ?_
    refine kx_iadd hx hb dL_law_2215 ?_
    refine kx_sld (i := (((3 * j : Nat) : Int) + 1)) hx hb hX hbl hbA hS_2 (3 * j + 1) (by omega) (by omega) (by omega) dL_law_2216 ?_
    refine kx_eqi (((ln9 : Nat) : Int)) (hz1.symm.trans hv1) ?_
    have h_10 := hO_mm.fr hF_5 (fun h => Or.elim h (n_mm_out) (fun h => Nat.not_le_of_gt hO_mm.lt h))
    have h_11 := hA_ra.fr hF_5 (fun h => Or.elim h (n_ra_out) (fun h => Nat.not_le_of_gt hA_ra.lt h))
    have h_12 := hA_sa.fr hF_5 (fun h => Or.elim h (n_sa_out) (fun h => Nat.not_le_of_gt hA_sa.lt h))
    have h_13 := hA_ka.fr hF_5 (fun h => Or.elim h (n_ka_out) (fun h => Nat.not_le_of_gt hA_ka.lt h))
    have h_14 := hA_ta.fr hF_5 (fun h => Or.elim h (n_ta_out) (fun h => Nat.not_le_of_gt hA_ta.lt h))
    have ty_mm : ∀ x, x = mm → H_4.size ≤ x ∨ (kTy D H_4 x ∧ c0 ≤ x ∧ x < c1) := fun x h => by rw [h]; exact Or.inr ⟨Or.inl ⟨2, _, by decide, by decide, by decide, h_10⟩, i_mm.1, w_mm⟩
    refine kx_ci (va_runV (As := [.int (kI ((ln9 : Nat) : Int))]) (rest := []) ⟨hx, hb, hml, hown, hts⟩ (m_X3_lineByLevel l D H_4 mm ra sa ka ta nh ik t.length th sp9 iw le9 fi9 se9 g S gap ln9 h_10 h_11 (by first | assumption | omega) (by first | assumption | omega) n_mm_ra b_mm (by first | assumption | omega)) (cwV 1 hts (lw_V q2585 q2586 q2587 q89 q2588) rfl rfl rfl (by decide +kernel) ⟨Nat.le_of_ble_eq_true rfl, Nat.le_of_ble_eq_true rfl⟩) (kx_pv hK hS_2 hB (kx_rc hK h_10 (C := RX3) (T := TX3) (N := 13) rfl)) rfl rfl hl.1 rfl (lv_room (Nat.le_of_ble_eq_true rfl)) dL_law_2217 ⟨by first | exact Nat.le_of_ble_eq_true rfl | omega | (dsimp only [lwR]; omega) | (show _ ≤ _; omega), by first | exact Nat.le_of_ble_eq_true rfl | omega | (dsimp only [lwR]; omega) | (show _ ≤ _; omega)⟩) hS_2 (fun q _ h => (ge_mm q) h) (fun q h => (ge_mm q) h) (fun z_20 H_18 locs_15 hz_17 hF_19 hS_16 => ?_)
    have hzf_21 := hF_19.1
    obtain ⟨hv_22, ho_23⟩ := hz_17
    subst z_20
    refine lv_istore (lv' := [(7, .int (kI (st_byLv S ln9))), (6, .int (kI (0))), (0, .ref b), (1, .ref x1), (2, .ref mm), (3, .ref out), (4, .ref outD), (5, .int (kI ((3 * j : Nat) : Int)))]) hx hb dL_law_2220 hl (by decide) rfl (fun ls hl => ?_)
    refine lv_aload_n hx hb dL_law_2222 rfl (lv_at hl 4 rfl) ?_
    refine kx_ci0 (va_runV (As := []) (rest := []) ⟨hx, hb, hml, hown, hts⟩ (m_X3_thrown l D H_18 mm ra sa ka ta nh ik t.length 0 sp9 iw le9 fi9 se9 ho_23 ) (cwV 0 hts (lw_V q2278 q2279 q2280 q89 q2281) rfl rfl rfl (by decide +kernel) ⟨Nat.le_of_ble_eq_true rfl, Nat.le_of_ble_eq_true rfl⟩) (kx_pv hK hS_16 hB (kx_rc hK ho_23 (C := RX3) (T := TX3) (N := 13) rfl)) rfl rfl hl.1 rfl (lv_room (Nat.le_of_ble_eq_true rfl)) dL_law_2223 ⟨by first | exact Nat.le_of_ble_eq_true rfl | omega | (dsimp only [lwR]; omega) | (show _ ≤ _; omega), by first | exact Nat.le_of_ble_eq_true rfl | omega | (dsimp only [lwR]; omega) | (show _ ≤ _; omega)⟩) hS_16 (fun z_27 locs_24 hz_26 hS_25 => ?_)
    subst z_27
    refine lv_iload hx hb dL_law_2226 (lv_at hl 1 rfl) ?_
    refine kx_icmp_eq (x := 0) (y := 0) (tgt := 2233) hx hb dL_law_2228 (by decide) (by omega) (by omega) (by omega) (by omega) (fun c_2228_28 => ?_) (fun c_2228_28 => ?_)
    · -- taken at 2228
      refine lv_iload hx hb dL_law_2233 (lv_at hl 1 rfl) ?_
      refine kx_if_ne (x := 0) (tgt := 2250) hx hb dL_law_2235 (by decide) (by omega) (by omega) (fun c_2235_29 => ?_) (fun c_2235_29 => ?_)
      · -- taken at 2235
        exfalso; omega
      · -- not taken at 2235
        refine lv_aload_n hx hb dL_law_2238 rfl (lv_at hl 5 rfl) ?_
        refine kx_iconst hx hb dL_law_2239 ?_
        have h_30 := ho_9.fr hF_19 (n_mm_out.sm)
        refine kx_lald (i := 0) hx hb hK h_30 0 rfl (by decide) (by decide) dL_law_2240 ?_
        refine lv_iload hx hb dL_law_2241 (lv_at hl 0 rfl) ?_
        refine kx_i2l hx hb (z := st_byLv S ln9) (by omega) (by omega) dL_law_2243 ?_
        refine kx_lcmpE hx hb (x := ((kup go 0 (kL (st_byLv S ((ln9 : Nat) : Int))))) 0) (y := kL (st_byLv S ln9)) (kup_self _ _ _) dL_law_2244 ?_
        refine kx_if_eq (x := 0) (tgt := 2250) hx hb dL_law_2245 (by decide) (by omega) (by omega) (fun c_2245_31 => ?_) (fun c_2245_31 => ?_)
        · -- taken at 2245
          refine lv_goto (tgt := 2493) hx hb dL_law_2250 (by decide) ?_
          have h_32 := h_11.fr hF_19 (n_mm_ra.sm)
          have h_33 := h_12.fr hF_19 (n_mm_sa.sm)
          have h_34 := h_13.fr hF_19 (n_mm_ka.sm)
          have h_35 := h_14.fr hF_19 (n_mm_ta.sm)
          have h_36 := hA_outD.fr hF_5 (fun h => Or.elim h (n_out_outD.sm) (fun h => Nat.not_le_of_gt hA_outD.lt h))
          have h_37 := h_36.fr hF_19 (n_mm_outD.sm)
          have h_38 := hW.fr hd9 hF_5 (fun x => (fun h => Or.elim h (to_out x) (fun h => Or.inl h)))
          have h_39 := h_38.fr hd9 hF_19 (fun x => (ty_mm x))
          refine W.widen (k := cells + 50000) (n := slots + 228000) (by omega) (by omega) ?_
          have hM9 : kM D H_18 c0 out mm (S, gap) ((sl.map Prod.snd).head?) (hl2.map Prod.snd) t := ⟨ra, sa, ka, ta, _, _, _, _, _, _, _, _, _, _, _, _, ho_23, h_32, h_33, h_34, h_35, hMr, hMh, hMk, hMt, ht60, hMd, hMb, hMi⟩
          exact kk (S, gap) ((sl.map Prod.snd).head?) (hl2.map Prod.snd) t _ _ _ ⟨hS_25, lv_sub hl [2, 3, 4, 5, 6, 7] rfl, h_39, hM9, ⟨_, h_30⟩, ⟨_, h_37⟩, by omega, by omega⟩
        · -- not taken at 2245
          exfalso; omega
    · -- not taken at 2228
      exfalso; omega
  · -- hA
    refine lv_aload_n hx hb dL_law_2197 rfl (lv_at hl 1 rfl) ?_
    refine lv_aload_n hx hb dL_law_2198 rfl (lv_at hl 0 rfl) ?_
    refine lv_iload hx hb dL_law_2199 (lv_at hl 5 rfl) ?_
    refine kx_iconst hx hb dL_law_2201 ?_
    refine kx_iadd hx hb dL_law_2202 ?_
    refine kx_sld (i := (((3 * j : Nat) : Int) + 1)) hx hb hX hbl hbA hS (3 * j + 1) (by omega) (by omega) (by omega) dL_law_2203 ?_
    refine kx_eqi (z1) (hz1.symm) ?_
    refine lv_aload_n hx hb dL_law_2204 rfl (lv_at hl 3 rfl) ?_
    refine kx_ci (vx_runSW (As := [.ref x1, .int (kI (z1)), .ref out]) (rest := []) ⟨hx, hb, hml, hown, hts⟩ (wx_lineByLevel l hl9 D H x1 ((sl.map (fun a => a.1.1)).head?) hi bu st la mc9 ea F S gap z1 out hO_x1 hO_st hO_la hLs9 hLn9 (by first | assumption | omega) (by first | assumption | omega) (by first | assumption | omega)) (vx_cwSW 3 hts (lw_SW q2153 q2154 q78 q2155) rfl rfl rfl (by decide +kernel) ⟨Nat.le_of_ble_eq_true rfl, Nat.le_of_ble_eq_true rfl⟩) (kx_ps hK hS hB) rfl rfl hl.1 rfl (lv_room (Nat.le_of_ble_eq_true rfl)) dL_law_2205 ⟨by first | exact Nat.le_of_ble_eq_true rfl | omega | (dsimp only [lwR]; omega) | (show _ ≤ _; omega), by first | exact Nat.le_of_ble_eq_true rfl | omega | (dsimp only [lwR]; omega) | (show _ ≤ _; omega)⟩) hS (fun q _ h => by have h9 := hS.1; (try dsimp only at h); (try dsimp only); (try simp only [kNW] at h); (try simp only [kNW]); omega) (fun q h => by have h9 := hS.1; (try dsimp only at h); (try dsimp only); (try simp only [kNW] at h); (try simp only [kNW]); omega) (fun z_45 H_43 locs_40 hz_42 hF_44 hS_41 => ?_)
    have hzf_46 := hF_44.1
    have hF_44 := hF_44.nw
    obtain ⟨hv_47, hnw_48⟩ := hz_42
    subst z_45
    refine lv_istore (lv' := [(6, .int (kI (1))), (0, .ref b), (1, .ref x1), (2, .ref mm), (3, .ref out), (4, .ref outD), (5, .int (kI ((3 * j : Nat) : Int)))]) hx hb dL_law_2208 hl (by decide) rfl (fun ls hl => ?_)
    refine lv_aload_n hx hb dL_law_2210 rfl (lv_at hl 3 rfl) ?_
    refine lv_aload_n hx hb dL_law_2211 rfl (lv_at hl 1 rfl) ?_
    refine lv_iload hx hb dL_law_2212 (lv_at hl 6 rfl) ?_
    refine kx_iconst hx hb dL_law_2214 ?_
    refine kx_iadd hx hb dL_law_2215 ?_
    refine kx_sld (i := (((3 * j : Nat) : Int) + 1)) hx hb hX hbl hbA hS_41 (3 * j + 1) (by omega) (by omega) (by omega) dL_law_2216 ?_
    refine kx_eqi (z1) (hz1.symm) ?_
    have h_49 := hO_mm.ex hF_44
    have h_50 := hA_ra.ex hF_44
    have h_51 := hA_sa.ex hF_44
    have h_52 := hA_ka.ex hF_44
    have h_53 := hA_ta.ex hF_44
    have ty_mm : ∀ x, x = mm → H_43.size ≤ x ∨ (kTy D H_43 x ∧ c0 ≤ x ∧ x < c1) := fun x h => by rw [h]; exact Or.inr ⟨Or.inl ⟨2, _, by decide, by decide, by decide, h_49⟩, i_mm.1, w_mm⟩
    refine kx_ci (va_runV (As := [.int (kI (z1))]) (rest := []) ⟨hx, hb, hml, hown, hts⟩ (m_X3_lineByLevel_no l D H_43 mm ra sa ka ta nh ik t.length th sp9 iw le9 fi9 se9 g S gap z1 h_49 h_50 (by first | assumption | omega) (by first | assumption | omega) n_mm_ra b_mm (by first | assumption | omega) (by first | assumption | omega)) (cwV 1 hts (lw_V q2585 q2586 q2587 q89 q2588) rfl rfl rfl (by decide +kernel) ⟨Nat.le_of_ble_eq_true rfl, Nat.le_of_ble_eq_true rfl⟩) (kx_pv hK hS_41 hB (kx_rc hK h_49 (C := RX3) (T := TX3) (N := 13) rfl)) rfl rfl hl.1 rfl (lv_room (Nat.le_of_ble_eq_true rfl)) dL_law_2217 ⟨by first | exact Nat.le_of_ble_eq_true rfl | omega | (dsimp only [lwR]; omega) | (show _ ≤ _; omega), by first | exact Nat.le_of_ble_eq_true rfl | omega | (dsimp only [lwR]; omega) | (show _ ≤ _; omega)⟩) hS_41 (fun q _ h => (ge_mm q) h) (fun q h => (ge_mm q) h) (fun z_59 H_57 locs_54 hz_56 hF_58 hS_55 => ?_)
    have hzf_60 := hF_58.1
    obtain ⟨hv_61, ho_62⟩ := hz_56
    subst z_59
    refine lv_istore (lv' := [(7, .int (kI (0))), (6, .int (kI (1))), (0, .ref b), (1, .ref x1), (2, .ref mm), (3, .ref out), (4, .ref outD), (5, .int (kI ((3 * j : Nat) : Int)))]) hx hb dL_law_2220 hl (by decide) rfl (fun ls hl => ?_)
    refine lv_aload_n hx hb dL_law_2222 rfl (lv_at hl 4 rfl) ?_
    refine kx_ci0 (va_runV (As := []) (rest := []) ⟨hx, hb, hml, hown, hts⟩ (m_X3_thrown l D H_57 mm ra sa ka ta nh ik t.length 1 sp9 iw le9 fi9 se9 ho_62 ) (cwV 0 hts (lw_V q2278 q2279 q2280 q89 q2281) rfl rfl rfl (by decide +kernel) ⟨Nat.le_of_ble_eq_true rfl, Nat.le_of_ble_eq_true rfl⟩) (kx_pv hK hS_55 hB (kx_rc hK ho_62 (C := RX3) (T := TX3) (N := 13) rfl)) rfl rfl hl.1 rfl (lv_room (Nat.le_of_ble_eq_true rfl)) dL_law_2223 ⟨by first | exact Nat.le_of_ble_eq_true rfl | omega | (dsimp only [lwR]; omega) | (show _ ≤ _; omega), by first | exact Nat.le_of_ble_eq_true rfl | omega | (dsimp only [lwR]; omega) | (show _ ≤ _; omega)⟩) hS_55 (fun z_66 locs_63 hz_65 hS_64 => ?_)
    subst z_66
    refine lv_iload hx hb dL_law_2226 (lv_at hl 1 rfl) ?_
    refine kx_icmp_eq (x := 1) (y := 1) (tgt := 2233) hx hb dL_law_2228 (by decide) (by omega) (by omega) (by omega) (by omega) (fun c_2228_67 => ?_) (fun c_2228_67 => ?_)
    · -- taken at 2228
      refine lv_iload hx hb dL_law_2233 (lv_at hl 1 rfl) ?_
      refine kx_if_ne (x := 1) (tgt := 2250) hx hb dL_law_2235 (by decide) (by omega) (by omega) (fun c_2235_68 => ?_) (fun c_2235_68 => ?_)
      · -- taken at 2235
        refine lv_goto (tgt := 2493) hx hb dL_law_2250 (by decide) ?_
        have h_69 := h_50.fr hF_58 (n_mm_ra.sm)
        have h_70 := h_51.fr hF_58 (n_mm_sa.sm)
        have h_71 := h_52.fr hF_58 (n_mm_ka.sm)
        have h_72 := h_53.fr hF_58 (n_mm_ta.sm)
        have h_73 := hA_out.ex hF_44
        have h_74 := h_73.fr hF_58 (n_mm_out.sm)
        have h_75 := hA_outD.ex hF_44
        have h_76 := h_75.fr hF_58 (n_mm_outD.sm)
        have h_77 := hW.ex hd9 hF_44
        have h_78 := h_77.fr hd9 hF_58 (fun x => (ty_mm x))
        refine W.widen (k := cells + 50000) (n := slots + 228000) (by omega) (by omega) ?_
        have hM9 : kM D H_57 c0 out mm (S, gap) ((sl.map Prod.snd).head?) (hl2.map Prod.snd) t := ⟨ra, sa, ka, ta, _, _, _, _, _, _, _, _, _, _, _, _, ho_62, h_69, h_70, h_71, h_72, hMr, hMh, hMk, hMt, ht60, hMd, hMb, hMi⟩
        exact kk (S, gap) ((sl.map Prod.snd).head?) (hl2.map Prod.snd) t _ _ _ ⟨hS_64, lv_sub hl [2, 3, 4, 5, 6, 7] rfl, h_78, hM9, ⟨_, h_74⟩, ⟨_, h_76⟩, by omega, by omega⟩
      · -- not taken at 2235
        exfalso; omega
    · -- not taken at 2228
      exfalso; omega

set_option maxHeartbeats 8000000 in
set_option maxRecDepth 100000 in
theorem lc_lengthByKinds {p : Program} {e : Env} {s : State} {m : MethodId} {below : List Frame} {meth : Method} {c : Code} {l : Launch} {D : kG} {b L c0 c1 x1 mm out outD : Nat} {xs : Nat → Int32} {Q : State → Prop} (C0 : lwC D p l s m meth c b L c0 c1 out outD xs) {j : Nat} (hj : 3 * j + 3 ≤ L) {S : Ls} {gap : Int} {sn : Option Sg} {hs : List Sg} {t : List Int} {H : Heap} {locs : List Loc} {ls : Array Slot} (I0 : lwI D s b c0 c1 x1 mm out outD j j (S, gap) sn hs t H locs ls) {cells slots : Nat} (hcl : cells + 50000 ≤ 1200144) (hsl9 : slots + 228000 ≤ 5496058) (kk : ∀ (σ : Sg) (sn : Option Sg) (hs : List Sg) (t : List Int) (H : Heap) (locs : List Loc) (ls : Array Slot), lwI D s b c0 c1 x1 mm out outD j (j + 1) σ sn hs t H locs ls → W p l e lwR s m #[Value.ref b] below meth c H locs (cells + 50000) (slots + 228000) Q (F0 m 2493 ls [])) : W p l e lwR s m #[Value.ref b] below meth c H locs cells slots Q (F0 m 1200 ls []) := by
  obtain ⟨hx, hb, hml, hown, hts, hlk, hK, hl9, hX, hbl, hbs, hL72, hc0, hco, hod, hdc⟩ := C0
  obtain ⟨hS, hl, hW, hM, ⟨go, hA_out⟩, ⟨gd, hA_outD⟩, hc1, htl⟩ := I0
  have hB : ∀ q, (kNW s.heap) q → kBase D ≤ q := fun q h => Nat.le_trans hK.size h
  have hbA : ¬ (kNW s.heap) b := fun h => by have h9 : s.heap.size ≤ b := h; omega
  have hd9 := hK.dis
  have hxE : ¬ kBase D ≤ D.2.2.2 2 := hK.tE.out
  obtain ⟨z1, hz1⟩ : ∃ z, z = (xs (3 * j + 1)).toInt := ⟨_, rfl⟩
  obtain ⟨z2, hz2⟩ : ∃ z, z = (xs (3 * j + 2)).toInt := ⟨_, rfl⟩
  have hr1 : -2147483648 ≤ z1 ∧ z1 ≤ 2147483647 := by rw [hz1]; exact i32r _
  have hr2 : -2147483648 ≤ z2 ∧ z2 ≤ 2147483647 := by rw [hz2]; exact i32r _
  obtain ⟨⟨st, la, ea, F⟩, sl, hl2, hi, es, bu, vb, hO_x1, hDq, hTx, hX5, hev, hAl, hDj, hPw, hsl, hsn, hhs⟩ := id hW
  subst hsn
  subst hhs
  obtain ⟨ra, sa, ka, ta, nh, ik, th, sp9, iw, le9, fi9, se9, g, gs, gk, gt, hO_mm, hA_ra, hA_sa, hA_ka, hA_ta, hMr, hMh, hMk, hMt, ht60, hMd, hMb, hMi⟩ := id hM
  have hMr : MRow g S gap := hMr
  have h0 := hAl _ List.mem_cons_self
  have hP_kState_st : kState D H st la ea gap S F := h0.1
  have hok : LsOK S gap := h0.2.1
  have hG : StG S := h0.2.2.1
  have hL8 : S.length ≤ 8 := hok.1
  have hgp := hok.2.1
  have hO_x1 : kO D H x1 0 [.ref st, va_rf ((sl.map (fun a => a.1.1)).head?), .ref hi, .ref bu] := hO_x1
  have hOw : ∀ q, kOwn D st la ea F S.length q → q ∉ [x1, hi, es, bu, vb] ∧ (q < c0 ∨ c1 ≤ q) := h0.2.2.2
  have hev : Hd (es ≠ vb) := hev
  have io_x1 : ∀ x, c0 ≤ x → x < c1 → x ≠ x1 := fun x => out_of (hX5 x1 (by simp)).2
  have io_hi : ∀ x, c0 ≤ x → x < c1 → x ≠ hi := fun x => out_of (hX5 hi (by simp)).2
  have io_es : ∀ x, c0 ≤ x → x < c1 → x ≠ es := fun x => out_of (hX5 es (by simp)).2
  have io_bu : ∀ x, c0 ≤ x → x < c1 → x ≠ bu := fun x => out_of (hX5 bu (by simp)).2
  have io_vb : ∀ x, c0 ≤ x → x < c1 → x ≠ vb := fun x => out_of (hX5 vb (by simp)).2
  have b_x1 := (hX5 x1 (by simp)).1
  have b_hi := (hX5 hi (by simp)).1
  have b_es := (hX5 es (by simp)).1
  have b_bu := (hX5 bu (by simp)).1
  have b_vb := (hX5 vb (by simp)).1
  obtain ⟨⟨⟨n1, n2, n3, n4⟩, n5, n6, n7⟩, n8, n9, n10⟩ := hMd
  have n_mm_ra : Hd (mm ≠ ra) := n1
  have n_mm_sa : Hd (mm ≠ sa) := n2
  have n_mm_ka : Hd (mm ≠ ka) := n3
  have n_mm_ta : Hd (mm ≠ ta) := n4
  have n_ra_sa : Hd (ra ≠ sa) := n5
  have n_ra_ka : Hd (ra ≠ ka) := n6
  have n_ra_ta : Hd (ra ≠ ta) := n7
  have n_sa_ka : Hd (sa ≠ ka) := n8
  have n_sa_ta : Hd (sa ≠ ta) := n9
  have n_ka_ta : Hd (ka ≠ ta) := n10
  have hMd : Hd (((mm ≠ ra ∧ mm ≠ sa ∧ mm ≠ ka ∧ mm ≠ ta) ∧ ra ≠ sa ∧ ra ≠ ka ∧ ra ≠ ta) ∧ sa ≠ ka ∧ sa ≠ ta ∧ ka ≠ ta) := ⟨⟨⟨n1, n2, n3, n4⟩, n5, n6, n7⟩, n8, n9, n10⟩
  clear n1 n2 n3 n4 n5 n6 n7 n8 n9 n10
  obtain ⟨b_mm, b_ra, b_sa, b_ka, b_ta⟩ := id hMb
  obtain ⟨i_mm, i_ra, i_sa, i_ka, i_ta⟩ := id hMi
  have b_out : kBase D ≤ out := by omega
  have hcc : c0 ≤ c1 := by omega
  have w_mm : mm < c1 := by omega
  have n_mm_out : Hd (mm ≠ out) := Nat.ne_of_lt i_mm.2
  have n_mm_outD : Hd (mm ≠ outD) := Nat.ne_of_lt (Nat.lt_trans i_mm.2 hod)
  have w_ra : ra < c1 := by omega
  have n_ra_out : Hd (ra ≠ out) := Nat.ne_of_lt i_ra.2
  have n_ra_outD : Hd (ra ≠ outD) := Nat.ne_of_lt (Nat.lt_trans i_ra.2 hod)
  have w_sa : sa < c1 := by omega
  have n_sa_out : Hd (sa ≠ out) := Nat.ne_of_lt i_sa.2
  have n_sa_outD : Hd (sa ≠ outD) := Nat.ne_of_lt (Nat.lt_trans i_sa.2 hod)
  have w_ka : ka < c1 := by omega
  have n_ka_out : Hd (ka ≠ out) := Nat.ne_of_lt i_ka.2
  have n_ka_outD : Hd (ka ≠ outD) := Nat.ne_of_lt (Nat.lt_trans i_ka.2 hod)
  have w_ta : ta < c1 := by omega
  have n_ta_out : Hd (ta ≠ out) := Nat.ne_of_lt i_ta.2
  have n_ta_outD : Hd (ta ≠ outD) := Nat.ne_of_lt (Nat.lt_trans i_ta.2 hod)
  have ge_mm : ∀ q, q = mm → kNW s.heap q := fun q h => by rw [h]; show s.heap.size ≤ mm; omega
  have ge_ra : ∀ q, q = ra → kNW s.heap q := fun q h => by rw [h]; show s.heap.size ≤ ra; omega
  have ge_sa : ∀ q, q = sa → kNW s.heap q := fun q h => by rw [h]; show s.heap.size ≤ sa; omega
  have ge_ka : ∀ q, q = ka → kNW s.heap q := fun q h => by rw [h]; show s.heap.size ≤ ka; omega
  have ge_ta : ∀ q, q = ta → kNW s.heap q := fun q h => by rw [h]; show s.heap.size ≤ ta; omega
  have ge_out : ∀ q, q = out → kNW s.heap q := fun q h => by rw [h]; show s.heap.size ≤ out; omega
  have n_out_outD : Hd (out ≠ outD) := Nat.ne_of_lt hod
  have w_out : out < c1 := by omega
  have w_outD : outD < c1 := hdc
  have i_outD : c0 ≤ outD := by omega
  have htyo : kTy D H out := Or.inr ⟨2, _, by decide, hA_out⟩
  have htyd : kTy D H outD := Or.inr ⟨3, _, by decide, hA_outD⟩
  have to_out : ∀ x, x = out → H.size ≤ x ∨ (kTy D H x ∧ c0 ≤ x ∧ x < c1) := fun x h => by rw [h]; exact Or.inr ⟨htyo, hco, w_out⟩
  have to_outD : ∀ x, x = outD → H.size ≤ x ∨ (kTy D H x ∧ c0 ≤ x ∧ x < c1) := fun x h => by rw [h]; exact Or.inr ⟨htyd, i_outD, w_outD⟩
  obtain ⟨⟨hO_st, mc9, hO_la⟩, hLs9, hLn9, hF9, hDs9, hb1, hb2, hb3⟩ := id hP_kState_st
  by_cases hA : 0 ≤ z1 ∧ z1 < (S.length : Int)
  · -- hA
    obtain ⟨ln9, hv1⟩ : ∃ k : Nat, z1 = (k : Int) := ⟨z1.toNat, by omega⟩
    have hln : ln9 < S.length := by omega
    have hLn := hok.ln hln
    refine lv_aload_n hx hb dL_law_1200 rfl (lv_at hl 1 rfl) ?_
    refine lv_aload_n hx hb dL_law_1201 rfl (lv_at hl 0 rfl) ?_
    refine lv_iload hx hb dL_law_1202 (lv_at hl 5 rfl) ?_
    refine kx_iconst hx hb dL_law_1204 ?_
    refine kx_iadd hx hb dL_law_1205 ?_
    refine kx_sld (i := (((3 * j : Nat) : Int) + 1)) hx hb hX hbl hbA hS (3 * j + 1) (by omega) (by omega) (by omega) dL_law_1206 ?_
    refine kx_eqi (((ln9 : Nat) : Int)) (hz1.symm.trans hv1) ?_
    refine lv_aload hx hb dL_law_1207 (lv_at hl 4 rfl) ?_
    refine kx_ci (vx_runSW (As := [.ref x1, .int (kI ((ln9 : Nat) : Int)), .ref outD]) (rest := []) ⟨hx, hb, hml, hown, hts⟩ (wr_lengthByKinds l hl9 D H x1 ((sl.map (fun a => a.1.1)).head?) hi bu st la mc9 ea F S gap ln9 outD gd hO_x1 hO_st hO_la hLs9 hLn9 hA_outD (by first | assumption | omega) (by first | assumption | omega) (by first | assumption | omega)) (vx_cwSW 3 hts (lw_SW q1978 q1979 q78 q1980) rfl rfl rfl (by decide +kernel) ⟨Nat.le_of_ble_eq_true rfl, Nat.le_of_ble_eq_true rfl⟩) (kx_ps hK hS hB) rfl rfl hl.1 rfl (lv_room (Nat.le_of_ble_eq_true rfl)) dL_law_1209 ⟨by first | exact Nat.le_of_ble_eq_true rfl | omega | (dsimp only [lwR]; omega) | (show _ ≤ _; omega), by first | exact Nat.le_of_ble_eq_true rfl | omega | (dsimp only [lwR]; omega) | (show _ ≤ _; omega)⟩) hS (fun q _ h => (fun h => by rw [h]; show s.heap.size ≤ outD; omega) h) (fun q h => (fun h => by rw [h]; show s.heap.size ≤ outD; omega) h) (fun z_6 H_4 locs_1 hz_3 hF_5 hS_2 => ?_)
    have hzf_7 := hF_5.1
    obtain ⟨hv_8, ho_9⟩ := hz_3
    subst z_6
    refine lv_istore (lv' := [(6, .int (kI (0))), (0, .ref b), (1, .ref x1), (2, .ref mm), (3, .ref out), (4, .ref outD), (5, .int (kI ((3 * j : Nat) : Int)))]) hx hb dL_law_1212 hl (by decide) rfl (fun ls hl => ?_)
    refine lv_aload_n hx hb dL_law_1214 rfl (lv_at hl 3 rfl) ?_
    refine lv_aload_n hx hb dL_law_1215 rfl (lv_at hl 1 rfl) ?_
    refine lv_iload hx hb dL_law_1216 (lv_at hl 6 rfl) ?_
    refine kx_iconst hx hb dL_law_1218 ?_
    refine kx_iadd hx hb dL_law_1219 ?_
    refine kx_sld (i := (((3 * j : Nat) : Int) + 1)) hx hb hX hbl hbA hS_2 (3 * j + 1) (by omega) (by omega) (by omega) dL_law_1220 ?_
    refine kx_eqi (((ln9 : Nat) : Int)) (hz1.symm.trans hv1) ?_
    have h_10 := hO_mm.fr hF_5 (n_mm_outD)
    have h_11 := hA_ra.fr hF_5 (n_ra_outD)
    have h_12 := hA_sa.fr hF_5 (n_sa_outD)
    have h_13 := hA_ka.fr hF_5 (n_ka_outD)
    have h_14 := hA_ta.fr hF_5 (n_ta_outD)
    have ty_mm : ∀ x, x = mm → H_4.size ≤ x ∨ (kTy D H_4 x ∧ c0 ≤ x ∧ x < c1) := fun x h => by rw [h]; exact Or.inr ⟨Or.inl ⟨2, _, by decide, by decide, by decide, h_10⟩, i_mm.1, w_mm⟩
    refine kx_cd (va_runV (As := [.int (kI ((ln9 : Nat) : Int))]) (rest := []) ⟨hx, hb, hml, hown, hts⟩ (m_X3_lengthByKinds l D H_4 mm ra sa ka ta nh ik t.length th sp9 iw le9 fi9 se9 g S gap ln9 h_10 h_11 (by first | assumption | omega) (by first | assumption | omega) n_mm_ra b_mm (by first | assumption | omega)) (cwV 1 hts (lw_V q2491 q2492 q2493 q89 q2494) rfl rfl rfl (by decide +kernel) ⟨Nat.le_of_ble_eq_true rfl, Nat.le_of_ble_eq_true rfl⟩) (kx_pv hK hS_2 hB (kx_rc hK h_10 (C := RX3) (T := TX3) (N := 13) rfl)) rfl rfl hl.1 rfl (lv_room (Nat.le_of_ble_eq_true rfl)) dL_law_1221 ⟨by first | exact Nat.le_of_ble_eq_true rfl | omega | (dsimp only [lwR]; omega) | (show _ ≤ _; omega), by first | exact Nat.le_of_ble_eq_true rfl | omega | (dsimp only [lwR]; omega) | (show _ ≤ _; omega)⟩) hS_2 (fun q _ h => (ge_mm q) h) (fun q h => (ge_mm q) h) (fun z_20 H_18 locs_15 hz_17 hF_19 hS_16 => ?_)
    have hzf_21 := hF_19.1
    obtain ⟨hv_22, ho_23⟩ := hz_17
    subst z_20
    refine lv_dstore (lv' := [(7, .double (ln_lenK (st_ln S ln9))), (6, .int (kI (0))), (0, .ref b), (1, .ref x1), (2, .ref mm), (3, .ref out), (4, .ref outD), (5, .int (kI ((3 * j : Nat) : Int)))]) hx hb dL_law_1224 hl (by decide) rfl (fun ls hl => ?_)
    refine lv_aload_n hx hb dL_law_1226 rfl (lv_at hl 4 rfl) ?_
    refine kx_ci0 (va_runV (As := []) (rest := []) ⟨hx, hb, hml, hown, hts⟩ (m_X3_thrown l D H_18 mm ra sa ka ta nh ik t.length 0 sp9 iw le9 fi9 se9 ho_23 ) (cwV 0 hts (lw_V q2278 q2279 q2280 q89 q2281) rfl rfl rfl (by decide +kernel) ⟨Nat.le_of_ble_eq_true rfl, Nat.le_of_ble_eq_true rfl⟩) (kx_pv hK hS_16 hB (kx_rc hK ho_23 (C := RX3) (T := TX3) (N := 13) rfl)) rfl rfl hl.1 rfl (lv_room (Nat.le_of_ble_eq_true rfl)) dL_law_1227 ⟨by first | exact Nat.le_of_ble_eq_true rfl | omega | (dsimp only [lwR]; omega) | (show _ ≤ _; omega), by first | exact Nat.le_of_ble_eq_true rfl | omega | (dsimp only [lwR]; omega) | (show _ ≤ _; omega)⟩) hS_16 (fun z_27 locs_24 hz_26 hS_25 => ?_)
    subst z_27
    refine lv_iload hx hb dL_law_1230 (lv_at hl 1 rfl) ?_
    refine kx_icmp_eq (x := 0) (y := 0) (tgt := 1237) hx hb dL_law_1232 (by decide) (by omega) (by omega) (by omega) (by omega) (fun c_1232_28 => ?_) (fun c_1232_28 => ?_)
    · -- taken at 1232
      refine lv_iload hx hb dL_law_1237 (lv_at hl 1 rfl) ?_
      refine kx_if_ne (x := 0) (tgt := 1274) hx hb dL_law_1239 (by decide) (by omega) (by omega) (fun c_1239_29 => ?_) (fun c_1239_29 => ?_)
      · -- taken at 1239
        exfalso; omega
      · -- not taken at 1239
        refine lv_aload hx hb dL_law_1242 (lv_at hl 6 rfl) ?_
        refine kx_iconst hx hb dL_law_1244 ?_
        have h_30 := ho_9.fr hF_19 (n_mm_outD.sm)
        refine kx_dald (i := 0) hx hb hK h_30 0 rfl (by decide) (by decide) dL_law_1245 ?_
        refine lv_dload hx hb dL_law_1246 (lv_at hl 0 rfl) ?_
        refine kx_dcmpE hx hb (x := ((kup gd 0 (ln_lenK (st_ln S ln9)))) 0) (y := ln_lenK (st_ln S ln9)) (kup_self _ _ _) (by rw [kup_self]; exact ln_lenK_pos (ln_sl_rng _).1 (ln_sl_rng _).2 hLn.n) dL_law_1248 ?_
        refine kx_if_eq (x := 0) (tgt := 1274) hx hb dL_law_1249 (by decide) (by omega) (by omega) (fun c_1249_31 => ?_) (fun c_1249_31 => ?_)
        · -- taken at 1249
          refine lv_goto (tgt := 2493) hx hb dL_law_1274 (by decide) ?_
          have h_32 := h_11.fr hF_19 (n_mm_ra.sm)
          have h_33 := h_12.fr hF_19 (n_mm_sa.sm)
          have h_34 := h_13.fr hF_19 (n_mm_ka.sm)
          have h_35 := h_14.fr hF_19 (n_mm_ta.sm)
          have h_36 := hA_out.fr hF_5 (n_out_outD)
          have h_37 := h_36.fr hF_19 (n_mm_out.sm)
          have h_38 := hW.fr hd9 hF_5 (fun x => (to_outD x))
          have h_39 := h_38.fr hd9 hF_19 (fun x => (ty_mm x))
          refine W.widen (k := cells + 50000) (n := slots + 228000) (by omega) (by omega) ?_
          have hM9 : kM D H_18 c0 out mm (S, gap) ((sl.map Prod.snd).head?) (hl2.map Prod.snd) t := ⟨ra, sa, ka, ta, _, _, _, _, _, _, _, _, _, _, _, _, ho_23, h_32, h_33, h_34, h_35, hMr, hMh, hMk, hMt, ht60, hMd, hMb, hMi⟩
          exact kk (S, gap) ((sl.map Prod.snd).head?) (hl2.map Prod.snd) t _ _ _ ⟨hS_25, lv_sub hl [2, 3, 4, 5, 6, 7] rfl, h_39, hM9, ⟨_, h_37⟩, ⟨_, h_30⟩, by omega, by omega⟩
        · -- not taken at 1249
          exfalso; omega
    · -- not taken at 1232
      exfalso; omega
  · -- hA
    refine lv_aload_n hx hb dL_law_1200 rfl (lv_at hl 1 rfl) ?_
    refine lv_aload_n hx hb dL_law_1201 rfl (lv_at hl 0 rfl) ?_
    refine lv_iload hx hb dL_law_1202 (lv_at hl 5 rfl) ?_
    refine kx_iconst hx hb dL_law_1204 ?_
    refine kx_iadd hx hb dL_law_1205 ?_
    refine kx_sld (i := (((3 * j : Nat) : Int) + 1)) hx hb hX hbl hbA hS (3 * j + 1) (by omega) (by omega) (by omega) dL_law_1206 ?_
    refine kx_eqi (z1) (hz1.symm) ?_
    refine lv_aload hx hb dL_law_1207 (lv_at hl 4 rfl) ?_
    refine kx_ci (vx_runSW (As := [.ref x1, .int (kI (z1)), .ref outD]) (rest := []) ⟨hx, hb, hml, hown, hts⟩ (wx_lengthByKinds l hl9 D H x1 ((sl.map (fun a => a.1.1)).head?) hi bu st la mc9 ea F S gap z1 outD hO_x1 hO_st hO_la hLs9 hLn9 (by first | assumption | omega) (by first | assumption | omega) (by first | assumption | omega)) (vx_cwSW 3 hts (lw_SW q1978 q1979 q78 q1980) rfl rfl rfl (by decide +kernel) ⟨Nat.le_of_ble_eq_true rfl, Nat.le_of_ble_eq_true rfl⟩) (kx_ps hK hS hB) rfl rfl hl.1 rfl (lv_room (Nat.le_of_ble_eq_true rfl)) dL_law_1209 ⟨by first | exact Nat.le_of_ble_eq_true rfl | omega | (dsimp only [lwR]; omega) | (show _ ≤ _; omega), by first | exact Nat.le_of_ble_eq_true rfl | omega | (dsimp only [lwR]; omega) | (show _ ≤ _; omega)⟩) hS (fun q _ h => by have h9 := hS.1; (try dsimp only at h); (try dsimp only); (try simp only [kNW] at h); (try simp only [kNW]); omega) (fun q h => by have h9 := hS.1; (try dsimp only at h); (try dsimp only); (try simp only [kNW] at h); (try simp only [kNW]); omega) (fun z_45 H_43 locs_40 hz_42 hF_44 hS_41 => ?_)
    have hzf_46 := hF_44.1
    have hF_44 := hF_44.nw
    obtain ⟨hv_47, hnw_48⟩ := hz_42
    subst z_45
    refine lv_istore (lv' := [(6, .int (kI (1))), (0, .ref b), (1, .ref x1), (2, .ref mm), (3, .ref out), (4, .ref outD), (5, .int (kI ((3 * j : Nat) : Int)))]) hx hb dL_law_1212 hl (by decide) rfl (fun ls hl => ?_)
    refine lv_aload_n hx hb dL_law_1214 rfl (lv_at hl 3 rfl) ?_
    refine lv_aload_n hx hb dL_law_1215 rfl (lv_at hl 1 rfl) ?_
    refine lv_iload hx hb dL_law_1216 (lv_at hl 6 rfl) ?_
    refine kx_iconst hx hb dL_law_1218 ?_
    refine kx_iadd hx hb dL_law_1219 ?_
    refine kx_sld (i := (((3 * j : Nat) : Int) + 1)) hx hb hX hbl hbA hS_41 (3 * j + 1) (by omega) (by omega) (by omega) dL_law_1220 ?_
    refine kx_eqi (z1) (hz1.symm) ?_
    have h_49 := hO_mm.ex hF_44
    have h_50 := hA_ra.ex hF_44
    have h_51 := hA_sa.ex hF_44
    have h_52 := hA_ka.ex hF_44
    have h_53 := hA_ta.ex hF_44
    have ty_mm : ∀ x, x = mm → H_43.size ≤ x ∨ (kTy D H_43 x ∧ c0 ≤ x ∧ x < c1) := fun x h => by rw [h]; exact Or.inr ⟨Or.inl ⟨2, _, by decide, by decide, by decide, h_49⟩, i_mm.1, w_mm⟩
    refine kx_cd (va_runV (As := [.int (kI (z1))]) (rest := []) ⟨hx, hb, hml, hown, hts⟩ (m_X3_lengthByKinds_no l D H_43 mm ra sa ka ta nh ik t.length th sp9 iw le9 fi9 se9 g S gap z1 h_49 h_50 (by first | assumption | omega) (by first | assumption | omega) n_mm_ra b_mm (by first | assumption | omega) (by first | assumption | omega)) (cwV 1 hts (lw_V q2491 q2492 q2493 q89 q2494) rfl rfl rfl (by decide +kernel) ⟨Nat.le_of_ble_eq_true rfl, Nat.le_of_ble_eq_true rfl⟩) (kx_pv hK hS_41 hB (kx_rc hK h_49 (C := RX3) (T := TX3) (N := 13) rfl)) rfl rfl hl.1 rfl (lv_room (Nat.le_of_ble_eq_true rfl)) dL_law_1221 ⟨by first | exact Nat.le_of_ble_eq_true rfl | omega | (dsimp only [lwR]; omega) | (show _ ≤ _; omega), by first | exact Nat.le_of_ble_eq_true rfl | omega | (dsimp only [lwR]; omega) | (show _ ≤ _; omega)⟩) hS_41 (fun q _ h => (ge_mm q) h) (fun q h => (ge_mm q) h) (fun z_59 H_57 locs_54 hz_56 hF_58 hS_55 => ?_)
    have hzf_60 := hF_58.1
    obtain ⟨hv_61, ho_62⟩ := hz_56
    subst z_59
    refine lv_dstore (lv' := [(7, .double (FP.dconst0)), (6, .int (kI (1))), (0, .ref b), (1, .ref x1), (2, .ref mm), (3, .ref out), (4, .ref outD), (5, .int (kI ((3 * j : Nat) : Int)))]) hx hb dL_law_1224 hl (by decide) rfl (fun ls hl => ?_)
    refine lv_aload_n hx hb dL_law_1226 rfl (lv_at hl 4 rfl) ?_
    refine kx_ci0 (va_runV (As := []) (rest := []) ⟨hx, hb, hml, hown, hts⟩ (m_X3_thrown l D H_57 mm ra sa ka ta nh ik t.length 1 sp9 iw le9 fi9 se9 ho_62 ) (cwV 0 hts (lw_V q2278 q2279 q2280 q89 q2281) rfl rfl rfl (by decide +kernel) ⟨Nat.le_of_ble_eq_true rfl, Nat.le_of_ble_eq_true rfl⟩) (kx_pv hK hS_55 hB (kx_rc hK ho_62 (C := RX3) (T := TX3) (N := 13) rfl)) rfl rfl hl.1 rfl (lv_room (Nat.le_of_ble_eq_true rfl)) dL_law_1227 ⟨by first | exact Nat.le_of_ble_eq_true rfl | omega | (dsimp only [lwR]; omega) | (show _ ≤ _; omega), by first | exact Nat.le_of_ble_eq_true rfl | omega | (dsimp only [lwR]; omega) | (show _ ≤ _; omega)⟩) hS_55 (fun z_66 locs_63 hz_65 hS_64 => ?_)
    subst z_66
    refine lv_iload hx hb dL_law_1230 (lv_at hl 1 rfl) ?_
    refine kx_icmp_eq (x := 1) (y := 1) (tgt := 1237) hx hb dL_law_1232 (by decide) (by omega) (by omega) (by omega) (by omega) (fun c_1232_67 => ?_) (fun c_1232_67 => ?_)
    · -- taken at 1232
      refine lv_iload hx hb dL_law_1237 (lv_at hl 1 rfl) ?_
      refine kx_if_ne (x := 1) (tgt := 1274) hx hb dL_law_1239 (by decide) (by omega) (by omega) (fun c_1239_68 => ?_) (fun c_1239_68 => ?_)
      · -- taken at 1239
        refine lv_goto (tgt := 2493) hx hb dL_law_1274 (by decide) ?_
        have h_69 := h_50.fr hF_58 (n_mm_ra.sm)
        have h_70 := h_51.fr hF_58 (n_mm_sa.sm)
        have h_71 := h_52.fr hF_58 (n_mm_ka.sm)
        have h_72 := h_53.fr hF_58 (n_mm_ta.sm)
        have h_73 := hA_out.ex hF_44
        have h_74 := h_73.fr hF_58 (n_mm_out.sm)
        have h_75 := hA_outD.ex hF_44
        have h_76 := h_75.fr hF_58 (n_mm_outD.sm)
        have h_77 := hW.ex hd9 hF_44
        have h_78 := h_77.fr hd9 hF_58 (fun x => (ty_mm x))
        refine W.widen (k := cells + 50000) (n := slots + 228000) (by omega) (by omega) ?_
        have hM9 : kM D H_57 c0 out mm (S, gap) ((sl.map Prod.snd).head?) (hl2.map Prod.snd) t := ⟨ra, sa, ka, ta, _, _, _, _, _, _, _, _, _, _, _, _, ho_62, h_69, h_70, h_71, h_72, hMr, hMh, hMk, hMt, ht60, hMd, hMb, hMi⟩
        exact kk (S, gap) ((sl.map Prod.snd).head?) (hl2.map Prod.snd) t _ _ _ ⟨hS_64, lv_sub hl [2, 3, 4, 5, 6, 7] rfl, h_78, hM9, ⟨_, h_74⟩, ⟨_, h_76⟩, by omega, by omega⟩
      · -- not taken at 1239
        exfalso; omega
    · -- not taken at 1232
      exfalso; omega

set_option maxHeartbeats 8000000 in
set_option maxRecDepth 100000 in
theorem lc_lengthBySteps {p : Program} {e : Env} {s : State} {m : MethodId} {below : List Frame} {meth : Method} {c : Code} {l : Launch} {D : kG} {b L c0 c1 x1 mm out outD : Nat} {xs : Nat → Int32} {Q : State → Prop} (C0 : lwC D p l s m meth c b L c0 c1 out outD xs) {j : Nat} (hj : 3 * j + 3 ≤ L) {S : Ls} {gap : Int} {sn : Option Sg} {hs : List Sg} {t : List Int} {H : Heap} {locs : List Loc} {ls : Array Slot} (I0 : lwI D s b c0 c1 x1 mm out outD j j (S, gap) sn hs t H locs ls) {cells slots : Nat} (hcl : cells + 50000 ≤ 1200144) (hsl9 : slots + 228000 ≤ 5496058) (kk : ∀ (σ : Sg) (sn : Option Sg) (hs : List Sg) (t : List Int) (H : Heap) (locs : List Loc) (ls : Array Slot), lwI D s b c0 c1 x1 mm out outD j (j + 1) σ sn hs t H locs ls → W p l e lwR s m #[Value.ref b] below meth c H locs (cells + 50000) (slots + 228000) Q (F0 m 2493 ls [])) : W p l e lwR s m #[Value.ref b] below meth c H locs cells slots Q (F0 m 1277 ls []) := by
  obtain ⟨hx, hb, hml, hown, hts, hlk, hK, hl9, hX, hbl, hbs, hL72, hc0, hco, hod, hdc⟩ := C0
  obtain ⟨hS, hl, hW, hM, ⟨go, hA_out⟩, ⟨gd, hA_outD⟩, hc1, htl⟩ := I0
  have hB : ∀ q, (kNW s.heap) q → kBase D ≤ q := fun q h => Nat.le_trans hK.size h
  have hbA : ¬ (kNW s.heap) b := fun h => by have h9 : s.heap.size ≤ b := h; omega
  have hd9 := hK.dis
  have hxE : ¬ kBase D ≤ D.2.2.2 2 := hK.tE.out
  obtain ⟨z1, hz1⟩ : ∃ z, z = (xs (3 * j + 1)).toInt := ⟨_, rfl⟩
  obtain ⟨z2, hz2⟩ : ∃ z, z = (xs (3 * j + 2)).toInt := ⟨_, rfl⟩
  have hr1 : -2147483648 ≤ z1 ∧ z1 ≤ 2147483647 := by rw [hz1]; exact i32r _
  have hr2 : -2147483648 ≤ z2 ∧ z2 ≤ 2147483647 := by rw [hz2]; exact i32r _
  obtain ⟨⟨st, la, ea, F⟩, sl, hl2, hi, es, bu, vb, hO_x1, hDq, hTx, hX5, hev, hAl, hDj, hPw, hsl, hsn, hhs⟩ := id hW
  subst hsn
  subst hhs
  obtain ⟨ra, sa, ka, ta, nh, ik, th, sp9, iw, le9, fi9, se9, g, gs, gk, gt, hO_mm, hA_ra, hA_sa, hA_ka, hA_ta, hMr, hMh, hMk, hMt, ht60, hMd, hMb, hMi⟩ := id hM
  have hMr : MRow g S gap := hMr
  have h0 := hAl _ List.mem_cons_self
  have hP_kState_st : kState D H st la ea gap S F := h0.1
  have hok : LsOK S gap := h0.2.1
  have hG : StG S := h0.2.2.1
  have hL8 : S.length ≤ 8 := hok.1
  have hgp := hok.2.1
  have hO_x1 : kO D H x1 0 [.ref st, va_rf ((sl.map (fun a => a.1.1)).head?), .ref hi, .ref bu] := hO_x1
  have hOw : ∀ q, kOwn D st la ea F S.length q → q ∉ [x1, hi, es, bu, vb] ∧ (q < c0 ∨ c1 ≤ q) := h0.2.2.2
  have hev : Hd (es ≠ vb) := hev
  have io_x1 : ∀ x, c0 ≤ x → x < c1 → x ≠ x1 := fun x => out_of (hX5 x1 (by simp)).2
  have io_hi : ∀ x, c0 ≤ x → x < c1 → x ≠ hi := fun x => out_of (hX5 hi (by simp)).2
  have io_es : ∀ x, c0 ≤ x → x < c1 → x ≠ es := fun x => out_of (hX5 es (by simp)).2
  have io_bu : ∀ x, c0 ≤ x → x < c1 → x ≠ bu := fun x => out_of (hX5 bu (by simp)).2
  have io_vb : ∀ x, c0 ≤ x → x < c1 → x ≠ vb := fun x => out_of (hX5 vb (by simp)).2
  have b_x1 := (hX5 x1 (by simp)).1
  have b_hi := (hX5 hi (by simp)).1
  have b_es := (hX5 es (by simp)).1
  have b_bu := (hX5 bu (by simp)).1
  have b_vb := (hX5 vb (by simp)).1
  obtain ⟨⟨⟨n1, n2, n3, n4⟩, n5, n6, n7⟩, n8, n9, n10⟩ := hMd
  have n_mm_ra : Hd (mm ≠ ra) := n1
  have n_mm_sa : Hd (mm ≠ sa) := n2
  have n_mm_ka : Hd (mm ≠ ka) := n3
  have n_mm_ta : Hd (mm ≠ ta) := n4
  have n_ra_sa : Hd (ra ≠ sa) := n5
  have n_ra_ka : Hd (ra ≠ ka) := n6
  have n_ra_ta : Hd (ra ≠ ta) := n7
  have n_sa_ka : Hd (sa ≠ ka) := n8
  have n_sa_ta : Hd (sa ≠ ta) := n9
  have n_ka_ta : Hd (ka ≠ ta) := n10
  have hMd : Hd (((mm ≠ ra ∧ mm ≠ sa ∧ mm ≠ ka ∧ mm ≠ ta) ∧ ra ≠ sa ∧ ra ≠ ka ∧ ra ≠ ta) ∧ sa ≠ ka ∧ sa ≠ ta ∧ ka ≠ ta) := ⟨⟨⟨n1, n2, n3, n4⟩, n5, n6, n7⟩, n8, n9, n10⟩
  clear n1 n2 n3 n4 n5 n6 n7 n8 n9 n10
  obtain ⟨b_mm, b_ra, b_sa, b_ka, b_ta⟩ := id hMb
  obtain ⟨i_mm, i_ra, i_sa, i_ka, i_ta⟩ := id hMi
  have b_out : kBase D ≤ out := by omega
  have hcc : c0 ≤ c1 := by omega
  have w_mm : mm < c1 := by omega
  have n_mm_out : Hd (mm ≠ out) := Nat.ne_of_lt i_mm.2
  have n_mm_outD : Hd (mm ≠ outD) := Nat.ne_of_lt (Nat.lt_trans i_mm.2 hod)
  have w_ra : ra < c1 := by omega
  have n_ra_out : Hd (ra ≠ out) := Nat.ne_of_lt i_ra.2
  have n_ra_outD : Hd (ra ≠ outD) := Nat.ne_of_lt (Nat.lt_trans i_ra.2 hod)
  have w_sa : sa < c1 := by omega
  have n_sa_out : Hd (sa ≠ out) := Nat.ne_of_lt i_sa.2
  have n_sa_outD : Hd (sa ≠ outD) := Nat.ne_of_lt (Nat.lt_trans i_sa.2 hod)
  have w_ka : ka < c1 := by omega
  have n_ka_out : Hd (ka ≠ out) := Nat.ne_of_lt i_ka.2
  have n_ka_outD : Hd (ka ≠ outD) := Nat.ne_of_lt (Nat.lt_trans i_ka.2 hod)
  have w_ta : ta < c1 := by omega
  have n_ta_out : Hd (ta ≠ out) := Nat.ne_of_lt i_ta.2
  have n_ta_outD : Hd (ta ≠ outD) := Nat.ne_of_lt (Nat.lt_trans i_ta.2 hod)
  have ge_mm : ∀ q, q = mm → kNW s.heap q := fun q h => by rw [h]; show s.heap.size ≤ mm; omega
  have ge_ra : ∀ q, q = ra → kNW s.heap q := fun q h => by rw [h]; show s.heap.size ≤ ra; omega
  have ge_sa : ∀ q, q = sa → kNW s.heap q := fun q h => by rw [h]; show s.heap.size ≤ sa; omega
  have ge_ka : ∀ q, q = ka → kNW s.heap q := fun q h => by rw [h]; show s.heap.size ≤ ka; omega
  have ge_ta : ∀ q, q = ta → kNW s.heap q := fun q h => by rw [h]; show s.heap.size ≤ ta; omega
  have ge_out : ∀ q, q = out → kNW s.heap q := fun q h => by rw [h]; show s.heap.size ≤ out; omega
  have n_out_outD : Hd (out ≠ outD) := Nat.ne_of_lt hod
  have w_out : out < c1 := by omega
  have w_outD : outD < c1 := hdc
  have i_outD : c0 ≤ outD := by omega
  have htyo : kTy D H out := Or.inr ⟨2, _, by decide, hA_out⟩
  have htyd : kTy D H outD := Or.inr ⟨3, _, by decide, hA_outD⟩
  have to_out : ∀ x, x = out → H.size ≤ x ∨ (kTy D H x ∧ c0 ≤ x ∧ x < c1) := fun x h => by rw [h]; exact Or.inr ⟨htyo, hco, w_out⟩
  have to_outD : ∀ x, x = outD → H.size ≤ x ∨ (kTy D H x ∧ c0 ≤ x ∧ x < c1) := fun x h => by rw [h]; exact Or.inr ⟨htyd, i_outD, w_outD⟩
  obtain ⟨⟨hO_st, mc9, hO_la⟩, hLs9, hLn9, hF9, hDs9, hb1, hb2, hb3⟩ := id hP_kState_st
  by_cases hA : 0 ≤ z1 ∧ z1 < (S.length : Int)
  · -- hA
    obtain ⟨ln9, hv1⟩ : ∃ k : Nat, z1 = (k : Int) := ⟨z1.toNat, by omega⟩
    have hln : ln9 < S.length := by omega
    have hLn := hok.ln hln
    refine lv_aload_n hx hb dL_law_1277 rfl (lv_at hl 1 rfl) ?_
    refine lv_aload_n hx hb dL_law_1278 rfl (lv_at hl 0 rfl) ?_
    refine lv_iload hx hb dL_law_1279 (lv_at hl 5 rfl) ?_
    refine kx_iconst hx hb dL_law_1281 ?_
    refine kx_iadd hx hb dL_law_1282 ?_
    refine kx_sld (i := (((3 * j : Nat) : Int) + 1)) hx hb hX hbl hbA hS (3 * j + 1) (by omega) (by omega) (by omega) dL_law_1283 ?_
    refine kx_eqi (((ln9 : Nat) : Int)) (hz1.symm.trans hv1) ?_
    refine lv_aload hx hb dL_law_1284 (lv_at hl 4 rfl) ?_
    refine kx_ci (vx_runSW (As := [.ref x1, .int (kI ((ln9 : Nat) : Int)), .ref outD]) (rest := []) ⟨hx, hb, hml, hown, hts⟩ (wr_lengthBySteps l hl9 D H x1 ((sl.map (fun a => a.1.1)).head?) hi bu st la mc9 ea F S gap ln9 outD gd hO_x1 hO_st hO_la hLs9 hLn9 hA_outD (by first | assumption | omega) (by first | assumption | omega) (by first | assumption | omega)) (vx_cwSW 3 hts (lw_SW q1991 q1992 q78 q1993) rfl rfl rfl (by decide +kernel) ⟨Nat.le_of_ble_eq_true rfl, Nat.le_of_ble_eq_true rfl⟩) (kx_ps hK hS hB) rfl rfl hl.1 rfl (lv_room (Nat.le_of_ble_eq_true rfl)) dL_law_1286 ⟨by first | exact Nat.le_of_ble_eq_true rfl | omega | (dsimp only [lwR]; omega) | (show _ ≤ _; omega), by first | exact Nat.le_of_ble_eq_true rfl | omega | (dsimp only [lwR]; omega) | (show _ ≤ _; omega)⟩) hS (fun q _ h => (fun h => by rw [h]; show s.heap.size ≤ outD; omega) h) (fun q h => (fun h => by rw [h]; show s.heap.size ≤ outD; omega) h) (fun z_6 H_4 locs_1 hz_3 hF_5 hS_2 => ?_)
    have hzf_7 := hF_5.1
    obtain ⟨hv_8, ho_9⟩ := hz_3
    subst z_6
    refine lv_istore (lv' := [(6, .int (kI (0))), (0, .ref b), (1, .ref x1), (2, .ref mm), (3, .ref out), (4, .ref outD), (5, .int (kI ((3 * j : Nat) : Int)))]) hx hb dL_law_1289 hl (by decide) rfl (fun ls hl => ?_)
    refine lv_aload_n hx hb dL_law_1291 rfl (lv_at hl 3 rfl) ?_
    refine lv_aload_n hx hb dL_law_1292 rfl (lv_at hl 1 rfl) ?_
    refine lv_iload hx hb dL_law_1293 (lv_at hl 6 rfl) ?_
    refine kx_iconst hx hb dL_law_1295 ?_
    refine kx_iadd hx hb dL_law_1296 ?_
    refine kx_sld (i := (((3 * j : Nat) : Int) + 1)) hx hb hX hbl hbA hS_2 (3 * j + 1) (by omega) (by omega) (by omega) dL_law_1297 ?_
    refine kx_eqi (((ln9 : Nat) : Int)) (hz1.symm.trans hv1) ?_
    have h_10 := hO_mm.fr hF_5 (n_mm_outD)
    have h_11 := hA_ra.fr hF_5 (n_ra_outD)
    have h_12 := hA_sa.fr hF_5 (n_sa_outD)
    have h_13 := hA_ka.fr hF_5 (n_ka_outD)
    have h_14 := hA_ta.fr hF_5 (n_ta_outD)
    have ty_mm : ∀ x, x = mm → H_4.size ≤ x ∨ (kTy D H_4 x ∧ c0 ≤ x ∧ x < c1) := fun x h => by rw [h]; exact Or.inr ⟨Or.inl ⟨2, _, by decide, by decide, by decide, h_10⟩, i_mm.1, w_mm⟩
    refine kx_cd (va_runV (As := [.int (kI ((ln9 : Nat) : Int))]) (rest := []) ⟨hx, hb, hml, hown, hts⟩ (m_X3_lengthBySteps l D H_4 mm ra sa ka ta nh ik t.length th sp9 iw le9 fi9 se9 g S gap ln9 h_10 h_11 (by first | assumption | omega) (by first | assumption | omega) n_mm_ra b_mm (by first | assumption | omega)) (cwV 1 hts (lw_V q2500 q2501 q2502 q89 q2503) rfl rfl rfl (by decide +kernel) ⟨Nat.le_of_ble_eq_true rfl, Nat.le_of_ble_eq_true rfl⟩) (kx_pv hK hS_2 hB (kx_rc hK h_10 (C := RX3) (T := TX3) (N := 13) rfl)) rfl rfl hl.1 rfl (lv_room (Nat.le_of_ble_eq_true rfl)) dL_law_1298 ⟨by first | exact Nat.le_of_ble_eq_true rfl | omega | (dsimp only [lwR]; omega) | (show _ ≤ _; omega), by first | exact Nat.le_of_ble_eq_true rfl | omega | (dsimp only [lwR]; omega) | (show _ ≤ _; omega)⟩) hS_2 (fun q _ h => (ge_mm q) h) (fun q h => (ge_mm q) h) (fun z_20 H_18 locs_15 hz_17 hF_19 hS_16 => ?_)
    have hzf_21 := hF_19.1
    obtain ⟨hv_22, ho_23⟩ := hz_17
    subst z_20
    refine lv_dstore (lv' := [(7, .double (ln_lenS (st_ln S ln9))), (6, .int (kI (0))), (0, .ref b), (1, .ref x1), (2, .ref mm), (3, .ref out), (4, .ref outD), (5, .int (kI ((3 * j : Nat) : Int)))]) hx hb dL_law_1301 hl (by decide) rfl (fun ls hl => ?_)
    refine lv_aload_n hx hb dL_law_1303 rfl (lv_at hl 4 rfl) ?_
    refine kx_ci0 (va_runV (As := []) (rest := []) ⟨hx, hb, hml, hown, hts⟩ (m_X3_thrown l D H_18 mm ra sa ka ta nh ik t.length 0 sp9 iw le9 fi9 se9 ho_23 ) (cwV 0 hts (lw_V q2278 q2279 q2280 q89 q2281) rfl rfl rfl (by decide +kernel) ⟨Nat.le_of_ble_eq_true rfl, Nat.le_of_ble_eq_true rfl⟩) (kx_pv hK hS_16 hB (kx_rc hK ho_23 (C := RX3) (T := TX3) (N := 13) rfl)) rfl rfl hl.1 rfl (lv_room (Nat.le_of_ble_eq_true rfl)) dL_law_1304 ⟨by first | exact Nat.le_of_ble_eq_true rfl | omega | (dsimp only [lwR]; omega) | (show _ ≤ _; omega), by first | exact Nat.le_of_ble_eq_true rfl | omega | (dsimp only [lwR]; omega) | (show _ ≤ _; omega)⟩) hS_16 (fun z_27 locs_24 hz_26 hS_25 => ?_)
    subst z_27
    refine lv_iload hx hb dL_law_1307 (lv_at hl 1 rfl) ?_
    refine kx_icmp_eq (x := 0) (y := 0) (tgt := 1314) hx hb dL_law_1309 (by decide) (by omega) (by omega) (by omega) (by omega) (fun c_1309_28 => ?_) (fun c_1309_28 => ?_)
    · -- taken at 1309
      refine lv_iload hx hb dL_law_1314 (lv_at hl 1 rfl) ?_
      refine kx_if_ne (x := 0) (tgt := 1351) hx hb dL_law_1316 (by decide) (by omega) (by omega) (fun c_1316_29 => ?_) (fun c_1316_29 => ?_)
      · -- taken at 1316
        exfalso; omega
      · -- not taken at 1316
        refine lv_aload hx hb dL_law_1319 (lv_at hl 6 rfl) ?_
        refine kx_iconst hx hb dL_law_1321 ?_
        have h_30 := ho_9.fr hF_19 (n_mm_outD.sm)
        refine kx_dald (i := 0) hx hb hK h_30 0 rfl (by decide) (by decide) dL_law_1322 ?_
        refine lv_dload hx hb dL_law_1323 (lv_at hl 0 rfl) ?_
        refine kx_dcmpE hx hb (x := ((kup gd 0 (ln_lenS (st_ln S ln9)))) 0) (y := ln_lenS (st_ln S ln9)) (kup_self _ _ _) (by rw [kup_self]; exact ln_lenTo_pos _ _) dL_law_1325 ?_
        refine kx_if_eq (x := 0) (tgt := 1351) hx hb dL_law_1326 (by decide) (by omega) (by omega) (fun c_1326_31 => ?_) (fun c_1326_31 => ?_)
        · -- taken at 1326
          refine lv_goto (tgt := 2493) hx hb dL_law_1351 (by decide) ?_
          have h_32 := h_11.fr hF_19 (n_mm_ra.sm)
          have h_33 := h_12.fr hF_19 (n_mm_sa.sm)
          have h_34 := h_13.fr hF_19 (n_mm_ka.sm)
          have h_35 := h_14.fr hF_19 (n_mm_ta.sm)
          have h_36 := hA_out.fr hF_5 (n_out_outD)
          have h_37 := h_36.fr hF_19 (n_mm_out.sm)
          have h_38 := hW.fr hd9 hF_5 (fun x => (to_outD x))
          have h_39 := h_38.fr hd9 hF_19 (fun x => (ty_mm x))
          refine W.widen (k := cells + 50000) (n := slots + 228000) (by omega) (by omega) ?_
          have hM9 : kM D H_18 c0 out mm (S, gap) ((sl.map Prod.snd).head?) (hl2.map Prod.snd) t := ⟨ra, sa, ka, ta, _, _, _, _, _, _, _, _, _, _, _, _, ho_23, h_32, h_33, h_34, h_35, hMr, hMh, hMk, hMt, ht60, hMd, hMb, hMi⟩
          exact kk (S, gap) ((sl.map Prod.snd).head?) (hl2.map Prod.snd) t _ _ _ ⟨hS_25, lv_sub hl [2, 3, 4, 5, 6, 7] rfl, h_39, hM9, ⟨_, h_37⟩, ⟨_, h_30⟩, by omega, by omega⟩
        · -- not taken at 1326
          exfalso; omega
    · -- not taken at 1309
      exfalso; omega
  · -- hA
    refine lv_aload_n hx hb dL_law_1277 rfl (lv_at hl 1 rfl) ?_
    refine lv_aload_n hx hb dL_law_1278 rfl (lv_at hl 0 rfl) ?_
    refine lv_iload hx hb dL_law_1279 (lv_at hl 5 rfl) ?_
    refine kx_iconst hx hb dL_law_1281 ?_
    refine kx_iadd hx hb dL_law_1282 ?_
    refine kx_sld (i := (((3 * j : Nat) : Int) + 1)) hx hb hX hbl hbA hS (3 * j + 1) (by omega) (by omega) (by omega) dL_law_1283 ?_
    refine kx_eqi (z1) (hz1.symm) ?_
    refine lv_aload hx hb dL_law_1284 (lv_at hl 4 rfl) ?_
    refine kx_ci (vx_runSW (As := [.ref x1, .int (kI (z1)), .ref outD]) (rest := []) ⟨hx, hb, hml, hown, hts⟩ (wx_lengthBySteps l hl9 D H x1 ((sl.map (fun a => a.1.1)).head?) hi bu st la mc9 ea F S gap z1 outD hO_x1 hO_st hO_la hLs9 hLn9 (by first | assumption | omega) (by first | assumption | omega) (by first | assumption | omega)) (vx_cwSW 3 hts (lw_SW q1991 q1992 q78 q1993) rfl rfl rfl (by decide +kernel) ⟨Nat.le_of_ble_eq_true rfl, Nat.le_of_ble_eq_true rfl⟩) (kx_ps hK hS hB) rfl rfl hl.1 rfl (lv_room (Nat.le_of_ble_eq_true rfl)) dL_law_1286 ⟨by first | exact Nat.le_of_ble_eq_true rfl | omega | (dsimp only [lwR]; omega) | (show _ ≤ _; omega), by first | exact Nat.le_of_ble_eq_true rfl | omega | (dsimp only [lwR]; omega) | (show _ ≤ _; omega)⟩) hS (fun q _ h => by have h9 := hS.1; (try dsimp only at h); (try dsimp only); (try simp only [kNW] at h); (try simp only [kNW]); omega) (fun q h => by have h9 := hS.1; (try dsimp only at h); (try dsimp only); (try simp only [kNW] at h); (try simp only [kNW]); omega) (fun z_45 H_43 locs_40 hz_42 hF_44 hS_41 => ?_)
    have hzf_46 := hF_44.1
    have hF_44 := hF_44.nw
    obtain ⟨hv_47, hnw_48⟩ := hz_42
    subst z_45
    refine lv_istore (lv' := [(6, .int (kI (1))), (0, .ref b), (1, .ref x1), (2, .ref mm), (3, .ref out), (4, .ref outD), (5, .int (kI ((3 * j : Nat) : Int)))]) hx hb dL_law_1289 hl (by decide) rfl (fun ls hl => ?_)
    refine lv_aload_n hx hb dL_law_1291 rfl (lv_at hl 3 rfl) ?_
    refine lv_aload_n hx hb dL_law_1292 rfl (lv_at hl 1 rfl) ?_
    refine lv_iload hx hb dL_law_1293 (lv_at hl 6 rfl) ?_
    refine kx_iconst hx hb dL_law_1295 ?_
    refine kx_iadd hx hb dL_law_1296 ?_
    refine kx_sld (i := (((3 * j : Nat) : Int) + 1)) hx hb hX hbl hbA hS_41 (3 * j + 1) (by omega) (by omega) (by omega) dL_law_1297 ?_
    refine kx_eqi (z1) (hz1.symm) ?_
    have h_49 := hO_mm.ex hF_44
    have h_50 := hA_ra.ex hF_44
    have h_51 := hA_sa.ex hF_44
    have h_52 := hA_ka.ex hF_44
    have h_53 := hA_ta.ex hF_44
    have ty_mm : ∀ x, x = mm → H_43.size ≤ x ∨ (kTy D H_43 x ∧ c0 ≤ x ∧ x < c1) := fun x h => by rw [h]; exact Or.inr ⟨Or.inl ⟨2, _, by decide, by decide, by decide, h_49⟩, i_mm.1, w_mm⟩
    refine kx_cd (va_runV (As := [.int (kI (z1))]) (rest := []) ⟨hx, hb, hml, hown, hts⟩ (m_X3_lengthBySteps_no l D H_43 mm ra sa ka ta nh ik t.length th sp9 iw le9 fi9 se9 g S gap z1 h_49 h_50 (by first | assumption | omega) (by first | assumption | omega) n_mm_ra b_mm (by first | assumption | omega) (by first | assumption | omega)) (cwV 1 hts (lw_V q2500 q2501 q2502 q89 q2503) rfl rfl rfl (by decide +kernel) ⟨Nat.le_of_ble_eq_true rfl, Nat.le_of_ble_eq_true rfl⟩) (kx_pv hK hS_41 hB (kx_rc hK h_49 (C := RX3) (T := TX3) (N := 13) rfl)) rfl rfl hl.1 rfl (lv_room (Nat.le_of_ble_eq_true rfl)) dL_law_1298 ⟨by first | exact Nat.le_of_ble_eq_true rfl | omega | (dsimp only [lwR]; omega) | (show _ ≤ _; omega), by first | exact Nat.le_of_ble_eq_true rfl | omega | (dsimp only [lwR]; omega) | (show _ ≤ _; omega)⟩) hS_41 (fun q _ h => (ge_mm q) h) (fun q h => (ge_mm q) h) (fun z_59 H_57 locs_54 hz_56 hF_58 hS_55 => ?_)
    have hzf_60 := hF_58.1
    obtain ⟨hv_61, ho_62⟩ := hz_56
    subst z_59
    refine lv_dstore (lv' := [(7, .double (FP.dconst0)), (6, .int (kI (1))), (0, .ref b), (1, .ref x1), (2, .ref mm), (3, .ref out), (4, .ref outD), (5, .int (kI ((3 * j : Nat) : Int)))]) hx hb dL_law_1301 hl (by decide) rfl (fun ls hl => ?_)
    refine lv_aload_n hx hb dL_law_1303 rfl (lv_at hl 4 rfl) ?_
    refine kx_ci0 (va_runV (As := []) (rest := []) ⟨hx, hb, hml, hown, hts⟩ (m_X3_thrown l D H_57 mm ra sa ka ta nh ik t.length 1 sp9 iw le9 fi9 se9 ho_62 ) (cwV 0 hts (lw_V q2278 q2279 q2280 q89 q2281) rfl rfl rfl (by decide +kernel) ⟨Nat.le_of_ble_eq_true rfl, Nat.le_of_ble_eq_true rfl⟩) (kx_pv hK hS_55 hB (kx_rc hK ho_62 (C := RX3) (T := TX3) (N := 13) rfl)) rfl rfl hl.1 rfl (lv_room (Nat.le_of_ble_eq_true rfl)) dL_law_1304 ⟨by first | exact Nat.le_of_ble_eq_true rfl | omega | (dsimp only [lwR]; omega) | (show _ ≤ _; omega), by first | exact Nat.le_of_ble_eq_true rfl | omega | (dsimp only [lwR]; omega) | (show _ ≤ _; omega)⟩) hS_55 (fun z_66 locs_63 hz_65 hS_64 => ?_)
    subst z_66
    refine lv_iload hx hb dL_law_1307 (lv_at hl 1 rfl) ?_
    refine kx_icmp_eq (x := 1) (y := 1) (tgt := 1314) hx hb dL_law_1309 (by decide) (by omega) (by omega) (by omega) (by omega) (fun c_1309_67 => ?_) (fun c_1309_67 => ?_)
    · -- taken at 1309
      refine lv_iload hx hb dL_law_1314 (lv_at hl 1 rfl) ?_
      refine kx_if_ne (x := 1) (tgt := 1351) hx hb dL_law_1316 (by decide) (by omega) (by omega) (fun c_1316_68 => ?_) (fun c_1316_68 => ?_)
      · -- taken at 1316
        refine lv_goto (tgt := 2493) hx hb dL_law_1351 (by decide) ?_
        have h_69 := h_50.fr hF_58 (n_mm_ra.sm)
        have h_70 := h_51.fr hF_58 (n_mm_sa.sm)
        have h_71 := h_52.fr hF_58 (n_mm_ka.sm)
        have h_72 := h_53.fr hF_58 (n_mm_ta.sm)
        have h_73 := hA_out.ex hF_44
        have h_74 := h_73.fr hF_58 (n_mm_out.sm)
        have h_75 := hA_outD.ex hF_44
        have h_76 := h_75.fr hF_58 (n_mm_outD.sm)
        have h_77 := hW.ex hd9 hF_44
        have h_78 := h_77.fr hd9 hF_58 (fun x => (ty_mm x))
        refine W.widen (k := cells + 50000) (n := slots + 228000) (by omega) (by omega) ?_
        have hM9 : kM D H_57 c0 out mm (S, gap) ((sl.map Prod.snd).head?) (hl2.map Prod.snd) t := ⟨ra, sa, ka, ta, _, _, _, _, _, _, _, _, _, _, _, _, ho_62, h_69, h_70, h_71, h_72, hMr, hMh, hMk, hMt, ht60, hMd, hMb, hMi⟩
        exact kk (S, gap) ((sl.map Prod.snd).head?) (hl2.map Prod.snd) t _ _ _ ⟨hS_64, lv_sub hl [2, 3, 4, 5, 6, 7] rfl, h_78, hM9, ⟨_, h_74⟩, ⟨_, h_76⟩, by omega, by omega⟩
      · -- not taken at 1316
        exfalso; omega
    · -- not taken at 1309
      exfalso; omega

